theorem shE_lt {t : Nat → Nat} {S o : Nat} (h : shE t S o = 0) : t 26 < S := by
  unfold shE at h
  split at h
  · exact absurd h (by decide)
  split at h
  · exact absurd h (by decide)
  split at h
  · exact absurd h (by decide)
  · omega
theorem cM_boat {G : Gl} {m : Nat} {ad : Nat → Nat} {η0 : AH} (hap : Mp m ad) (σ : MS) (hP : PO σ) (p : Nat) (hp : p ≤ gN σ 21) (hg : gN σ 19 = 0) (hS : gN σ 29 ≤ 4) (hB : gN σ 31 ≤ 2) : Ct G yX8_boat cX8_boat 4 none 5 0 0 [.ref m] (MH m ad (TS σ p) η0) (rv fun η => (∀ k q, boatE (tq σ) (gN σ 29) (gN σ 31) p = .error (k, q) → η = MH m ad (flt (TS σ q) k (tq σ q 24)) η0) ∧ ∀ h l s p2, boatE (tq σ) (gN σ 29) (gN σ 31) p = .ok (h, l, s, p2) → η = MH m ad (sN (sA (sA (sA (TS σ p2) 41 (gN σ 31) h) 42 (gN σ 31) l) 43 (gN σ 31) s) 31 (gN σ 31 + 1)) η0) := by
  refine Ct.start rfl rfl (Nat.le_of_ble_eq_true rfl) (fun Γ => ?_)
  refine v_aload_n (i := 0) dX8_boat_0 rfl rfl ?_
  refine mg_readBoats rfl dX8_boat_1 ?_
  refine v_iconst (v := nI 2) dX8_boat_4 k_iconst_2 ?_
  refine vn_icmp_ne (tgt := 13) dX8_boat_5 rfl (show gN σ 31 < _ by omega) (by decide) (fun c5 => ?_) (fun c5 => ?_)
  · have c5 : ¬ gN σ 31 = 2 := c5
    refine v_aload_n (i := 0) dX8_boat_13 rfl rfl ?_
    refine v_callVi (cM_goodG hap (TS σ p) hg) (lw_V q2229 q2231 qs61 q136 q2232) iX8_isGood rfl KX8 MH_m rfl rfl (by decide) (by decide) (Nat.le_of_ble_eq_true rfl) dX8_boat_14 ?_
    refine vn_if_ne (tgt := 21) dX8_boat_17 rfl (by decide) (fun c17 => ?_) (fun c17 => ?_)
    · refine v_aload_n (i := 0) dX8_boat_21 rfl rfl ?_
      refine v_callVv (cM_goesT hap σ hP p hp) (lw_V q2201 q2203 qs57 q136 q2204) iX8_goes rfl KX8 MH_m rfl rfl (by decide) (by decide) (Nat.le_of_ble_eq_true rfl) dX8_boat_22 ?_
      refine v_aload_n (i := 0) dX8_boat_25 rfl rfl ?_
      refine v_bipush (v := nI 9) dX8_boat_26 k_bipush_9 ?_
      refine v_callVv (cM_need hap σ hP (nx σ p) (tq_b hP hp).1 hg 9 (by decide)) (lw_V q2253 q2255 qs67 q136 q2256) iX8_need rfl KX8 MH_m rfl rfl (by decide) (by decide) (Nat.le_of_ble_eq_true rfl) dX8_boat_28 ?_
      by_cases h28 : kwT (tq σ (nx σ p)) = 9 + 1
      · rw [if_pos h28]
        refine v_aload_n (i := 0) dX8_boat_31 rfl rfl ?_
        refine v_iconst (v := nI 1) dX8_boat_32 k_iconst_1 ?_
        refine v_bipush (v := nI 8) dX8_boat_33 k_bipush_8 ?_
        refine v_callVi (cM_number hap σ hP (nx σ (nx σ p)) (tq_b hP (tq_b hP hp).1).1 hg 1 8 (by decide) (by decide)) (lw_V q2225 q2227 qs60 q136 q2228) iX8_number rfl KX8 MH_m rfl rfl (by decide) (by decide) (Nat.le_of_ble_eq_true rfl) dX8_boat_35 ?_
        by_cases h35 : numE (tq σ (nx σ (nx σ p))) 1 8 = 0
        · rw [if_pos h35]
          refine v_istore_n (i := 1) dX8_boat_38 rfl (by decide) rfl ?_
          refine v_aload_n (i := 0) dX8_boat_39 rfl rfl ?_
          refine v_bipush (v := nI 10) dX8_boat_40 k_bipush_10 ?_
          refine v_callVv (cM_need hap σ hP (nx σ (nx σ (nx σ p))) (tq_b hP (tq_b hP (tq_b hP hp).1).1).1 hg 10 (by decide)) (lw_V q2253 q2255 qs67 q136 q2256) iX8_need rfl KX8 MH_m rfl rfl (by decide) (by decide) (Nat.le_of_ble_eq_true rfl) dX8_boat_42 ?_
          by_cases h42 : kwT (tq σ (nx σ (nx σ (nx σ p)))) = 10 + 1
          · rw [if_pos h42]
            refine v_aload_n (i := 0) dX8_boat_45 rfl rfl ?_
            refine v_iconst (v := nI 0) dX8_boat_46 k_iconst_0 ?_
            refine v_sipush (v := nI 999) dX8_boat_47 k_sipush_999 ?_
            refine v_callVi (cM_number hap σ hP (nx σ (nx σ (nx σ (nx σ p)))) (tq_b hP (tq_b hP (tq_b hP (tq_b hP hp).1).1).1).1 hg 0 999 (by decide) (by decide)) (lw_V q2225 q2227 qs60 q136 q2228) iX8_number rfl KX8 MH_m rfl rfl (by decide) (by decide) (Nat.le_of_ble_eq_true rfl) dX8_boat_50 ?_
            by_cases h50 : numE (tq σ (nx σ (nx σ (nx σ (nx σ p))))) 0 999 = 0
            · rw [if_pos h50]
              refine v_istore_n (i := 2) dX8_boat_53 rfl (by decide) rfl ?_
              refine v_aload_n (i := 0) dX8_boat_54 rfl rfl ?_
              refine v_bipush (v := nI 11) dX8_boat_55 k_bipush_11 ?_
              refine v_callVv (cM_need hap σ hP (nx σ (nx σ (nx σ (nx σ (nx σ p))))) (tq_b hP (tq_b hP (tq_b hP (tq_b hP (tq_b hP hp).1).1).1).1).1 hg 11 (by decide)) (lw_V q2253 q2255 qs67 q136 q2256) iX8_need rfl KX8 MH_m rfl rfl (by decide) (by decide) (Nat.le_of_ble_eq_true rfl) dX8_boat_57 ?_
              by_cases h57 : kwT (tq σ (nx σ (nx σ (nx σ (nx σ (nx σ p)))))) = 11 + 1
              · rw [if_pos h57]
                refine v_aload_n (i := 0) dX8_boat_60 rfl rfl ?_
                refine v_iconst (v := -1) dX8_boat_61 k_iconst_m1 ?_
                refine v_callVi (cM_shore hap σ hP (nx σ (nx σ (nx σ (nx σ (nx σ (nx σ p)))))) (tq_b hP (tq_b hP (tq_b hP (tq_b hP (tq_b hP (tq_b hP hp).1).1).1).1).1).1 hg (0) (by decide) hS) (lw_V q2261 q2263 qs69 q136 q2264) iX8_shore rfl KX8 MH_m rfl rfl (by decide) (by decide) (Nat.le_of_ble_eq_true rfl) dX8_boat_62 ?_
                by_cases h62 : shE (tq σ (nx σ (nx σ (nx σ (nx σ (nx σ (nx σ p))))))) (gN σ 29) (0) = 0
                · rw [if_pos h62]
                  refine v_istore_n (i := 3) dX8_boat_65 rfl (by decide) rfl ?_
                  refine v_aload_n (i := 0) dX8_boat_66 rfl rfl ?_
                  refine v_callVi (cM_goodG hap (TS σ (nx σ (nx σ (nx σ (nx σ (nx σ (nx σ (nx σ p)))))))) hg) (lw_V q2229 q2231 qs61 q136 q2232) iX8_isGood rfl KX8 MH_m rfl rfl (by decide) (by decide) (Nat.le_of_ble_eq_true rfl) dX8_boat_67 ?_
                  refine vn_if_ne (tgt := 74) dX8_boat_70 rfl (by decide) (fun c70 => ?_) (fun c70 => ?_)
                  · refine v_aload_n (i := 0) dX8_boat_74 rfl rfl ?_
                    refine mg_readHolds rfl dX8_boat_75 ?_
                    refine v_aload_n (i := 0) dX8_boat_78 rfl rfl ?_
                    refine mg_readBoats rfl dX8_boat_79 ?_
                    refine v_iload_n (i := 1) dX8_boat_82 rfl rfl ?_
                    refine ms_readHolds hap (show gN σ 31 < 2 by omega) dX8_boat_83 ?_
                    refine v_aload_n (i := 0) dX8_boat_84 rfl rfl ?_
                    refine mg_readLoads rfl dX8_boat_85 ?_
                    refine v_aload_n (i := 0) dX8_boat_88 rfl rfl ?_
                    refine mg_readBoats rfl dX8_boat_89 ?_
                    refine v_iload_n (i := 2) dX8_boat_92 rfl rfl ?_
                    refine ms_readLoads hap (show gN σ 31 < 2 by omega) dX8_boat_93 ?_
                    refine v_aload_n (i := 0) dX8_boat_94 rfl rfl ?_
                    refine mg_readBoatAt rfl dX8_boat_95 ?_
                    refine v_aload_n (i := 0) dX8_boat_98 rfl rfl ?_
                    refine mg_readBoats rfl dX8_boat_99 ?_
                    refine v_iload_n (i := 3) dX8_boat_102 rfl rfl ?_
                    refine ms_readBoatAt hap (show gN σ 31 < 2 by omega) dX8_boat_103 ?_
                    refine v_aload_n (i := 0) dX8_boat_104 rfl rfl ?_
                    refine v_dup dX8_boat_105 rfl ?_
                    refine mg_readBoats rfl dX8_boat_106 ?_
                    refine v_iconst (v := nI 1) dX8_boat_109 k_iconst_1 ?_
                    refine vn_iadd dX8_boat_110 ?_
                    refine mp_readBoats rfl dX8_boat_111 ?_
                    exact v_vret rfl dX8_boat_114 (by
                        have E : boatE (tq σ) (gN σ 29) (gN σ 31) p = _ := (Eq.trans (if_neg c5) (Eq.trans (andT_ok (eNeed_ok h28)) (Eq.trans (andT_ok (eNum_ok h35)) (Eq.trans (andT_ok (eNeed_ok h42)) (Eq.trans (andT_ok (eNum_ok h50)) (Eq.trans (andT_ok (eNeed_ok h57)) (Eq.trans (andT_ok (eSh_ok h62)) rfl)))))))
                        exact ⟨rfl, fun k q e => (by rw [E] at e; cases e), fun _ _ _ _ e => (by rw [E] at e; cases e; rfl)⟩)
                  · exact absurd c70 (by decide)
                · rw [if_neg h62]
                  have g62 := shE_le (tq σ (nx σ (nx σ (nx σ (nx σ (nx σ (nx σ p))))))) (gN σ 29) (0)
                  refine v_istore_n (i := 3) dX8_boat_65 rfl (by decide) rfl ?_
                  refine v_aload_n (i := 0) dX8_boat_66 rfl rfl ?_
                  refine v_callVi (cM_goodB hap (flt (TS σ (nx σ (nx σ (nx σ (nx σ (nx σ (nx σ p))))))) (shE (tq σ (nx σ (nx σ (nx σ (nx σ (nx σ (nx σ p))))))) (gN σ 29) (0)) (tq σ (nx σ (nx σ (nx σ (nx σ (nx σ (nx σ p)))))) 24)) (show ¬ shE (tq σ (nx σ (nx σ (nx σ (nx σ (nx σ (nx σ p))))))) (gN σ 29) (0) = 0 from h62) (show shE (tq σ (nx σ (nx σ (nx σ (nx σ (nx σ (nx σ p))))))) (gN σ 29) (0) < 2147483648 by omega)) (lw_V q2229 q2231 qs61 q136 q2232) iX8_isGood rfl KX8 MH_m rfl rfl (by decide) (by decide) (Nat.le_of_ble_eq_true rfl) dX8_boat_67 ?_
                  refine vn_if_ne (tgt := 74) dX8_boat_70 rfl (by decide) (fun c70 => ?_) (fun c70 => ?_)
                  · exact absurd rfl c70
                  · exact v_vret rfl dX8_boat_73 (by
                        have E : boatE (tq σ) (gN σ 29) (gN σ 31) p = _ := (Eq.trans (if_neg c5) (Eq.trans (andT_ok (eNeed_ok h28)) (Eq.trans (andT_ok (eNum_ok h35)) (Eq.trans (andT_ok (eNeed_ok h42)) (Eq.trans (andT_ok (eNum_ok h50)) (Eq.trans (andT_ok (eNeed_ok h57)) (Eq.trans (andT_er (eSh_er h62)) rfl)))))))
                        exact ⟨rfl, fun k q e => (by rw [E] at e; cases e; rfl), fun _ _ _ _ e => (by rw [E] at e; cases e)⟩)
              · rw [if_neg h57]
                refine v_aload_n (i := 0) dX8_boat_60 rfl rfl ?_
                refine v_iconst (v := -1) dX8_boat_61 k_iconst_m1 ?_
                refine v_callVi (cM_shoreB hap (flt (TS σ (nx σ (nx σ (nx σ (nx σ (nx σ p)))))) (1) (tq σ (nx σ (nx σ (nx σ (nx σ (nx σ p))))) 24)) (show ¬ 1 = 0 by decide) (show 1 < 2147483648 by decide) _) (lw_V q2261 q2263 qs69 q136 q2264) iX8_shore rfl KX8 MH_m rfl rfl (by decide) (by decide) (Nat.le_of_ble_eq_true rfl) dX8_boat_62 ?_
                refine v_istore_n (i := 3) dX8_boat_65 rfl (by decide) rfl ?_
                refine v_aload_n (i := 0) dX8_boat_66 rfl rfl ?_
                refine v_callVi (cM_goodB hap (flt (TS σ (nx σ (nx σ (nx σ (nx σ (nx σ p)))))) (1) (tq σ (nx σ (nx σ (nx σ (nx σ (nx σ p))))) 24)) (show ¬ 1 = 0 by decide) (show 1 < 2147483648 by decide)) (lw_V q2229 q2231 qs61 q136 q2232) iX8_isGood rfl KX8 MH_m rfl rfl (by decide) (by decide) (Nat.le_of_ble_eq_true rfl) dX8_boat_67 ?_
                refine vn_if_ne (tgt := 74) dX8_boat_70 rfl (by decide) (fun c70 => ?_) (fun c70 => ?_)
                · exact absurd rfl c70
                · exact v_vret rfl dX8_boat_73 (by
                      have E : boatE (tq σ) (gN σ 29) (gN σ 31) p = _ := (Eq.trans (if_neg c5) (Eq.trans (andT_ok (eNeed_ok h28)) (Eq.trans (andT_ok (eNum_ok h35)) (Eq.trans (andT_ok (eNeed_ok h42)) (Eq.trans (andT_ok (eNum_ok h50)) (Eq.trans (andT_er (eNeed_er h57)) rfl))))))
                      exact ⟨rfl, fun k q e => (by rw [E] at e; cases e; rfl), fun _ _ _ _ e => (by rw [E] at e; cases e)⟩)
            · rw [if_neg h50]
              have g50 := numE_le (tq σ (nx σ (nx σ (nx σ (nx σ p))))) 0 999
              refine v_istore_n (i := 2) dX8_boat_53 rfl (by decide) rfl ?_
              refine v_aload_n (i := 0) dX8_boat_54 rfl rfl ?_
              refine v_bipush (v := nI 11) dX8_boat_55 k_bipush_11 ?_
              refine v_callVv (cM_needB hap (flt (TS σ (nx σ (nx σ (nx σ (nx σ p))))) (numE (tq σ (nx σ (nx σ (nx σ (nx σ p))))) 0 999) (tq σ (nx σ (nx σ (nx σ (nx σ p)))) 24)) (show ¬ numE (tq σ (nx σ (nx σ (nx σ (nx σ p))))) 0 999 = 0 from h50) (show numE (tq σ (nx σ (nx σ (nx σ (nx σ p))))) 0 999 < 2147483648 by omega) 11) (lw_V q2253 q2255 qs67 q136 q2256) iX8_need rfl KX8 MH_m rfl rfl (by decide) (by decide) (Nat.le_of_ble_eq_true rfl) dX8_boat_57 ?_
              refine v_aload_n (i := 0) dX8_boat_60 rfl rfl ?_
              refine v_iconst (v := -1) dX8_boat_61 k_iconst_m1 ?_
              refine v_callVi (cM_shoreB hap (flt (TS σ (nx σ (nx σ (nx σ (nx σ p))))) (numE (tq σ (nx σ (nx σ (nx σ (nx σ p))))) 0 999) (tq σ (nx σ (nx σ (nx σ (nx σ p)))) 24)) (show ¬ numE (tq σ (nx σ (nx σ (nx σ (nx σ p))))) 0 999 = 0 from h50) (show numE (tq σ (nx σ (nx σ (nx σ (nx σ p))))) 0 999 < 2147483648 by omega) _) (lw_V q2261 q2263 qs69 q136 q2264) iX8_shore rfl KX8 MH_m rfl rfl (by decide) (by decide) (Nat.le_of_ble_eq_true rfl) dX8_boat_62 ?_
              refine v_istore_n (i := 3) dX8_boat_65 rfl (by decide) rfl ?_
              refine v_aload_n (i := 0) dX8_boat_66 rfl rfl ?_
              refine v_callVi (cM_goodB hap (flt (TS σ (nx σ (nx σ (nx σ (nx σ p))))) (numE (tq σ (nx σ (nx σ (nx σ (nx σ p))))) 0 999) (tq σ (nx σ (nx σ (nx σ (nx σ p)))) 24)) (show ¬ numE (tq σ (nx σ (nx σ (nx σ (nx σ p))))) 0 999 = 0 from h50) (show numE (tq σ (nx σ (nx σ (nx σ (nx σ p))))) 0 999 < 2147483648 by omega)) (lw_V q2229 q2231 qs61 q136 q2232) iX8_isGood rfl KX8 MH_m rfl rfl (by decide) (by decide) (Nat.le_of_ble_eq_true rfl) dX8_boat_67 ?_
              refine vn_if_ne (tgt := 74) dX8_boat_70 rfl (by decide) (fun c70 => ?_) (fun c70 => ?_)
              · exact absurd rfl c70
              · exact v_vret rfl dX8_boat_73 (by
                    have E : boatE (tq σ) (gN σ 29) (gN σ 31) p = _ := (Eq.trans (if_neg c5) (Eq.trans (andT_ok (eNeed_ok h28)) (Eq.trans (andT_ok (eNum_ok h35)) (Eq.trans (andT_ok (eNeed_ok h42)) (Eq.trans (andT_er (eNum_er h50)) rfl)))))
                    exact ⟨rfl, fun k q e => (by rw [E] at e; cases e; rfl), fun _ _ _ _ e => (by rw [E] at e; cases e)⟩)
          · rw [if_neg h42]
            refine v_aload_n (i := 0) dX8_boat_45 rfl rfl ?_
            refine v_iconst (v := nI 0) dX8_boat_46 k_iconst_0 ?_
            refine v_sipush (v := nI 999) dX8_boat_47 k_sipush_999 ?_
            refine v_callVi (cM_numberB hap (flt (TS σ (nx σ (nx σ (nx σ p)))) (1) (tq σ (nx σ (nx σ (nx σ p))) 24)) (show ¬ 1 = 0 by decide) (show 1 < 2147483648 by decide) 0 999) (lw_V q2225 q2227 qs60 q136 q2228) iX8_number rfl KX8 MH_m rfl rfl (by decide) (by decide) (Nat.le_of_ble_eq_true rfl) dX8_boat_50 ?_
            refine v_istore_n (i := 2) dX8_boat_53 rfl (by decide) rfl ?_
            refine v_aload_n (i := 0) dX8_boat_54 rfl rfl ?_
            refine v_bipush (v := nI 11) dX8_boat_55 k_bipush_11 ?_
            refine v_callVv (cM_needB hap (flt (TS σ (nx σ (nx σ (nx σ p)))) (1) (tq σ (nx σ (nx σ (nx σ p))) 24)) (show ¬ 1 = 0 by decide) (show 1 < 2147483648 by decide) 11) (lw_V q2253 q2255 qs67 q136 q2256) iX8_need rfl KX8 MH_m rfl rfl (by decide) (by decide) (Nat.le_of_ble_eq_true rfl) dX8_boat_57 ?_
            refine v_aload_n (i := 0) dX8_boat_60 rfl rfl ?_
            refine v_iconst (v := -1) dX8_boat_61 k_iconst_m1 ?_
            refine v_callVi (cM_shoreB hap (flt (TS σ (nx σ (nx σ (nx σ p)))) (1) (tq σ (nx σ (nx σ (nx σ p))) 24)) (show ¬ 1 = 0 by decide) (show 1 < 2147483648 by decide) _) (lw_V q2261 q2263 qs69 q136 q2264) iX8_shore rfl KX8 MH_m rfl rfl (by decide) (by decide) (Nat.le_of_ble_eq_true rfl) dX8_boat_62 ?_
            refine v_istore_n (i := 3) dX8_boat_65 rfl (by decide) rfl ?_
            refine v_aload_n (i := 0) dX8_boat_66 rfl rfl ?_
            refine v_callVi (cM_goodB hap (flt (TS σ (nx σ (nx σ (nx σ p)))) (1) (tq σ (nx σ (nx σ (nx σ p))) 24)) (show ¬ 1 = 0 by decide) (show 1 < 2147483648 by decide)) (lw_V q2229 q2231 qs61 q136 q2232) iX8_isGood rfl KX8 MH_m rfl rfl (by decide) (by decide) (Nat.le_of_ble_eq_true rfl) dX8_boat_67 ?_
            refine vn_if_ne (tgt := 74) dX8_boat_70 rfl (by decide) (fun c70 => ?_) (fun c70 => ?_)
            · exact absurd rfl c70
            · exact v_vret rfl dX8_boat_73 (by
                  have E : boatE (tq σ) (gN σ 29) (gN σ 31) p = _ := (Eq.trans (if_neg c5) (Eq.trans (andT_ok (eNeed_ok h28)) (Eq.trans (andT_ok (eNum_ok h35)) (Eq.trans (andT_er (eNeed_er h42)) rfl))))
                  exact ⟨rfl, fun k q e => (by rw [E] at e; cases e; rfl), fun _ _ _ _ e => (by rw [E] at e; cases e)⟩)
        · rw [if_neg h35]
          have g35 := numE_le (tq σ (nx σ (nx σ p))) 1 8
          refine v_istore_n (i := 1) dX8_boat_38 rfl (by decide) rfl ?_
          refine v_aload_n (i := 0) dX8_boat_39 rfl rfl ?_
          refine v_bipush (v := nI 10) dX8_boat_40 k_bipush_10 ?_
          refine v_callVv (cM_needB hap (flt (TS σ (nx σ (nx σ p))) (numE (tq σ (nx σ (nx σ p))) 1 8) (tq σ (nx σ (nx σ p)) 24)) (show ¬ numE (tq σ (nx σ (nx σ p))) 1 8 = 0 from h35) (show numE (tq σ (nx σ (nx σ p))) 1 8 < 2147483648 by omega) 10) (lw_V q2253 q2255 qs67 q136 q2256) iX8_need rfl KX8 MH_m rfl rfl (by decide) (by decide) (Nat.le_of_ble_eq_true rfl) dX8_boat_42 ?_
          refine v_aload_n (i := 0) dX8_boat_45 rfl rfl ?_
          refine v_iconst (v := nI 0) dX8_boat_46 k_iconst_0 ?_
          refine v_sipush (v := nI 999) dX8_boat_47 k_sipush_999 ?_
          refine v_callVi (cM_numberB hap (flt (TS σ (nx σ (nx σ p))) (numE (tq σ (nx σ (nx σ p))) 1 8) (tq σ (nx σ (nx σ p)) 24)) (show ¬ numE (tq σ (nx σ (nx σ p))) 1 8 = 0 from h35) (show numE (tq σ (nx σ (nx σ p))) 1 8 < 2147483648 by omega) 0 999) (lw_V q2225 q2227 qs60 q136 q2228) iX8_number rfl KX8 MH_m rfl rfl (by decide) (by decide) (Nat.le_of_ble_eq_true rfl) dX8_boat_50 ?_
          refine v_istore_n (i := 2) dX8_boat_53 rfl (by decide) rfl ?_
          refine v_aload_n (i := 0) dX8_boat_54 rfl rfl ?_
          refine v_bipush (v := nI 11) dX8_boat_55 k_bipush_11 ?_
          refine v_callVv (cM_needB hap (flt (TS σ (nx σ (nx σ p))) (numE (tq σ (nx σ (nx σ p))) 1 8) (tq σ (nx σ (nx σ p)) 24)) (show ¬ numE (tq σ (nx σ (nx σ p))) 1 8 = 0 from h35) (show numE (tq σ (nx σ (nx σ p))) 1 8 < 2147483648 by omega) 11) (lw_V q2253 q2255 qs67 q136 q2256) iX8_need rfl KX8 MH_m rfl rfl (by decide) (by decide) (Nat.le_of_ble_eq_true rfl) dX8_boat_57 ?_
          refine v_aload_n (i := 0) dX8_boat_60 rfl rfl ?_
          refine v_iconst (v := -1) dX8_boat_61 k_iconst_m1 ?_
          refine v_callVi (cM_shoreB hap (flt (TS σ (nx σ (nx σ p))) (numE (tq σ (nx σ (nx σ p))) 1 8) (tq σ (nx σ (nx σ p)) 24)) (show ¬ numE (tq σ (nx σ (nx σ p))) 1 8 = 0 from h35) (show numE (tq σ (nx σ (nx σ p))) 1 8 < 2147483648 by omega) _) (lw_V q2261 q2263 qs69 q136 q2264) iX8_shore rfl KX8 MH_m rfl rfl (by decide) (by decide) (Nat.le_of_ble_eq_true rfl) dX8_boat_62 ?_
          refine v_istore_n (i := 3) dX8_boat_65 rfl (by decide) rfl ?_
          refine v_aload_n (i := 0) dX8_boat_66 rfl rfl ?_
          refine v_callVi (cM_goodB hap (flt (TS σ (nx σ (nx σ p))) (numE (tq σ (nx σ (nx σ p))) 1 8) (tq σ (nx σ (nx σ p)) 24)) (show ¬ numE (tq σ (nx σ (nx σ p))) 1 8 = 0 from h35) (show numE (tq σ (nx σ (nx σ p))) 1 8 < 2147483648 by omega)) (lw_V q2229 q2231 qs61 q136 q2232) iX8_isGood rfl KX8 MH_m rfl rfl (by decide) (by decide) (Nat.le_of_ble_eq_true rfl) dX8_boat_67 ?_
          refine vn_if_ne (tgt := 74) dX8_boat_70 rfl (by decide) (fun c70 => ?_) (fun c70 => ?_)
          · exact absurd rfl c70
          · exact v_vret rfl dX8_boat_73 (by
                have E : boatE (tq σ) (gN σ 29) (gN σ 31) p = _ := (Eq.trans (if_neg c5) (Eq.trans (andT_ok (eNeed_ok h28)) (Eq.trans (andT_er (eNum_er h35)) rfl)))
                exact ⟨rfl, fun k q e => (by rw [E] at e; cases e; rfl), fun _ _ _ _ e => (by rw [E] at e; cases e)⟩)
      · rw [if_neg h28]
        refine v_aload_n (i := 0) dX8_boat_31 rfl rfl ?_
        refine v_iconst (v := nI 1) dX8_boat_32 k_iconst_1 ?_
        refine v_bipush (v := nI 8) dX8_boat_33 k_bipush_8 ?_
        refine v_callVi (cM_numberB hap (flt (TS σ (nx σ p)) (1) (tq σ (nx σ p) 24)) (show ¬ 1 = 0 by decide) (show 1 < 2147483648 by decide) 1 8) (lw_V q2225 q2227 qs60 q136 q2228) iX8_number rfl KX8 MH_m rfl rfl (by decide) (by decide) (Nat.le_of_ble_eq_true rfl) dX8_boat_35 ?_
        refine v_istore_n (i := 1) dX8_boat_38 rfl (by decide) rfl ?_
        refine v_aload_n (i := 0) dX8_boat_39 rfl rfl ?_
        refine v_bipush (v := nI 10) dX8_boat_40 k_bipush_10 ?_
        refine v_callVv (cM_needB hap (flt (TS σ (nx σ p)) (1) (tq σ (nx σ p) 24)) (show ¬ 1 = 0 by decide) (show 1 < 2147483648 by decide) 10) (lw_V q2253 q2255 qs67 q136 q2256) iX8_need rfl KX8 MH_m rfl rfl (by decide) (by decide) (Nat.le_of_ble_eq_true rfl) dX8_boat_42 ?_
        refine v_aload_n (i := 0) dX8_boat_45 rfl rfl ?_
        refine v_iconst (v := nI 0) dX8_boat_46 k_iconst_0 ?_
        refine v_sipush (v := nI 999) dX8_boat_47 k_sipush_999 ?_
        refine v_callVi (cM_numberB hap (flt (TS σ (nx σ p)) (1) (tq σ (nx σ p) 24)) (show ¬ 1 = 0 by decide) (show 1 < 2147483648 by decide) 0 999) (lw_V q2225 q2227 qs60 q136 q2228) iX8_number rfl KX8 MH_m rfl rfl (by decide) (by decide) (Nat.le_of_ble_eq_true rfl) dX8_boat_50 ?_
        refine v_istore_n (i := 2) dX8_boat_53 rfl (by decide) rfl ?_
        refine v_aload_n (i := 0) dX8_boat_54 rfl rfl ?_
        refine v_bipush (v := nI 11) dX8_boat_55 k_bipush_11 ?_
        refine v_callVv (cM_needB hap (flt (TS σ (nx σ p)) (1) (tq σ (nx σ p) 24)) (show ¬ 1 = 0 by decide) (show 1 < 2147483648 by decide) 11) (lw_V q2253 q2255 qs67 q136 q2256) iX8_need rfl KX8 MH_m rfl rfl (by decide) (by decide) (Nat.le_of_ble_eq_true rfl) dX8_boat_57 ?_
        refine v_aload_n (i := 0) dX8_boat_60 rfl rfl ?_
        refine v_iconst (v := -1) dX8_boat_61 k_iconst_m1 ?_
        refine v_callVi (cM_shoreB hap (flt (TS σ (nx σ p)) (1) (tq σ (nx σ p) 24)) (show ¬ 1 = 0 by decide) (show 1 < 2147483648 by decide) _) (lw_V q2261 q2263 qs69 q136 q2264) iX8_shore rfl KX8 MH_m rfl rfl (by decide) (by decide) (Nat.le_of_ble_eq_true rfl) dX8_boat_62 ?_
        refine v_istore_n (i := 3) dX8_boat_65 rfl (by decide) rfl ?_
        refine v_aload_n (i := 0) dX8_boat_66 rfl rfl ?_
        refine v_callVi (cM_goodB hap (flt (TS σ (nx σ p)) (1) (tq σ (nx σ p) 24)) (show ¬ 1 = 0 by decide) (show 1 < 2147483648 by decide)) (lw_V q2229 q2231 qs61 q136 q2232) iX8_isGood rfl KX8 MH_m rfl rfl (by decide) (by decide) (Nat.le_of_ble_eq_true rfl) dX8_boat_67 ?_
        refine vn_if_ne (tgt := 74) dX8_boat_70 rfl (by decide) (fun c70 => ?_) (fun c70 => ?_)
        · exact absurd rfl c70
        · exact v_vret rfl dX8_boat_73 (by
              have E : boatE (tq σ) (gN σ 29) (gN σ 31) p = _ := (Eq.trans (if_neg c5) (Eq.trans (andT_er (eNeed_er h28)) rfl))
              exact ⟨rfl, fun k q e => (by rw [E] at e; cases e; rfl), fun _ _ _ _ e => (by rw [E] at e; cases e)⟩)
    · exact absurd c17 (by decide)
  · have c5 : gN σ 31 = 2 := c5
    refine v_aload_n (i := 0) dX8_boat_8 rfl rfl ?_
    refine v_iconst (v := nI 2) dX8_boat_9 k_iconst_2 ?_
    refine v_callVv (cM_wrongG hap (TS σ p) 2 hg) (lw_V q2233 q2235 qs62 q136 q2236) iX8_wrong rfl KX8 MH_m rfl rfl (by decide) (by decide) (Nat.le_of_ble_eq_true rfl) dX8_boat_10 ?_
    refine v_aload_n (i := 0) dX8_boat_13 rfl rfl ?_
    refine v_callVi (cM_goodB hap (flt (TS σ p) (2) (tq σ p 24)) (show ¬ 2 = 0 by decide) (show 2 < 2147483648 by decide)) (lw_V q2229 q2231 qs61 q136 q2232) iX8_isGood rfl KX8 MH_m rfl rfl (by decide) (by decide) (Nat.le_of_ble_eq_true rfl) dX8_boat_14 ?_
    refine vn_if_ne (tgt := 21) dX8_boat_17 rfl (by decide) (fun c17 => ?_) (fun c17 => ?_)
    · exact absurd rfl c17
    · exact v_vret rfl dX8_boat_20 (by
          have E : boatE (tq σ) (gN σ 29) (gN σ 31) p = _ := (Eq.trans (if_pos c5) rfl)
          exact ⟨rfl, fun k q e => (by rw [E] at e; cases e; rfl), fun _ _ _ _ e => (by rw [E] at e; cases e)⟩)
theorem cM_lamp {G : Gl} {m : Nat} {ad : Nat → Nat} {η0 : AH} (hap : Mp m ad) (σ : MS) (hP : PO σ) (p : Nat) (hp : p ≤ gN σ 21) (hg : gN σ 19 = 0) (hS : gN σ 29 ≤ 4) (hL : gN σ 33 ≤ 4) : Ct G yX8_lamp cX8_lamp 2 none 5 0 0 [.ref m] (MH m ad (TS σ p) η0) (rv fun η => (∀ k q, lampE (tq σ) (gN σ 29) (gN σ 33) p = .error (k, q) → η = MH m ad (flt (TS σ q) k (tq σ q 24)) η0) ∧ ∀ s p2, lampE (tq σ) (gN σ 29) (gN σ 33) p = .ok (s, p2) → η = MH m ad (sN (TS σ p2) 33 (s + 1)) η0) := by
  refine Ct.start rfl rfl (Nat.le_of_ble_eq_true rfl) (fun Γ => ?_)
  refine v_aload_n (i := 0) dX8_lamp_0 rfl rfl ?_
  refine mg_readLamp rfl dX8_lamp_1 ?_
  refine v_iconst (v := -1) dX8_lamp_4 k_iconst_m1 ?_
  refine vo_icmp_eq (tgt := 13) dX8_lamp_5 rfl (show gN σ 33 < _ by omega) (fun c5 => ?_) (fun c5 => ?_)
  · have c5 : gN σ 33 = 0 := c5
    refine v_aload_n (i := 0) dX8_lamp_13 rfl rfl ?_
    refine v_callVi (cM_goodG hap (TS σ p) hg) (lw_V q2229 q2231 qs61 q136 q2232) iX8_isGood rfl KX8 MH_m rfl rfl (by decide) (by decide) (Nat.le_of_ble_eq_true rfl) dX8_lamp_14 ?_
    refine vn_if_ne (tgt := 21) dX8_lamp_17 rfl (by decide) (fun c17 => ?_) (fun c17 => ?_)
    · refine v_aload_n (i := 0) dX8_lamp_21 rfl rfl ?_
      refine v_callVv (cM_goesT hap σ hP p hp) (lw_V q2201 q2203 qs57 q136 q2204) iX8_goes rfl KX8 MH_m rfl rfl (by decide) (by decide) (Nat.le_of_ble_eq_true rfl) dX8_lamp_22 ?_
      refine v_aload_n (i := 0) dX8_lamp_25 rfl rfl ?_
      refine v_bipush (v := nI 11) dX8_lamp_26 k_bipush_11 ?_
      refine v_callVv (cM_need hap σ hP (nx σ p) (tq_b hP hp).1 hg 11 (by decide)) (lw_V q2253 q2255 qs67 q136 q2256) iX8_need rfl KX8 MH_m rfl rfl (by decide) (by decide) (Nat.le_of_ble_eq_true rfl) dX8_lamp_28 ?_
      by_cases h28 : kwT (tq σ (nx σ p)) = 11 + 1
      · rw [if_pos h28]
        refine v_aload_n (i := 0) dX8_lamp_31 rfl rfl ?_
        refine v_iconst (v := -1) dX8_lamp_32 k_iconst_m1 ?_
        refine v_callVi (cM_shore hap σ hP (nx σ (nx σ p)) (tq_b hP (tq_b hP hp).1).1 hg (0) (by decide) hS) (lw_V q2261 q2263 qs69 q136 q2264) iX8_shore rfl KX8 MH_m rfl rfl (by decide) (by decide) (Nat.le_of_ble_eq_true rfl) dX8_lamp_33 ?_
        by_cases h33 : shE (tq σ (nx σ (nx σ p))) (gN σ 29) (0) = 0
        · rw [if_pos h33]
          refine v_istore_n (i := 1) dX8_lamp_36 rfl (by decide) rfl ?_
          refine v_aload_n (i := 0) dX8_lamp_37 rfl rfl ?_
          refine v_callVi (cM_goodG hap (TS σ (nx σ (nx σ (nx σ p)))) hg) (lw_V q2229 q2231 qs61 q136 q2232) iX8_isGood rfl KX8 MH_m rfl rfl (by decide) (by decide) (Nat.le_of_ble_eq_true rfl) dX8_lamp_38 ?_
          refine vn_if_eq (tgt := 49) dX8_lamp_41 rfl (by decide) (fun c41 => ?_) (fun c41 => ?_)
          · exact absurd c41 (by decide)
          · refine v_aload_n (i := 0) dX8_lamp_44 rfl rfl ?_
            refine v_iload_n (i := 1) dX8_lamp_45 rfl rfl ?_
            refine mp_readLamp_n rfl dX8_lamp_46 ?_
            exact v_vret rfl dX8_lamp_49 (by
                have E : lampE (tq σ) (gN σ 29) (gN σ 33) p = _ := (Eq.trans (if_neg (fun z => z c5)) (Eq.trans (andT_ok (eNeed_ok h28)) (Eq.trans (eSh_ok h33) rfl)))
                exact ⟨rfl, fun k q e => (by rw [E] at e; cases e), fun _ _ e => (by rw [E] at e; cases e; rfl)⟩)
        · rw [if_neg h33]
          have g33 := shE_le (tq σ (nx σ (nx σ p))) (gN σ 29) (0)
          refine v_istore_n (i := 1) dX8_lamp_36 rfl (by decide) rfl ?_
          refine v_aload_n (i := 0) dX8_lamp_37 rfl rfl ?_
          refine v_callVi (cM_goodB hap (flt (TS σ (nx σ (nx σ p))) (shE (tq σ (nx σ (nx σ p))) (gN σ 29) (0)) (tq σ (nx σ (nx σ p)) 24)) (show ¬ shE (tq σ (nx σ (nx σ p))) (gN σ 29) (0) = 0 from h33) (show shE (tq σ (nx σ (nx σ p))) (gN σ 29) (0) < 2147483648 by omega)) (lw_V q2229 q2231 qs61 q136 q2232) iX8_isGood rfl KX8 MH_m rfl rfl (by decide) (by decide) (Nat.le_of_ble_eq_true rfl) dX8_lamp_38 ?_
          refine vn_if_eq (tgt := 49) dX8_lamp_41 rfl (by decide) (fun c41 => ?_) (fun c41 => ?_)
          · exact v_vret rfl dX8_lamp_49 (by
                have E : lampE (tq σ) (gN σ 29) (gN σ 33) p = _ := (Eq.trans (if_neg (fun z => z c5)) (Eq.trans (andT_ok (eNeed_ok h28)) (Eq.trans (eSh_er h33) rfl)))
                exact ⟨rfl, fun k q e => (by rw [E] at e; cases e; rfl), fun _ _ e => (by rw [E] at e; cases e)⟩)
          · exact absurd rfl c41
      · rw [if_neg h28]
        refine v_aload_n (i := 0) dX8_lamp_31 rfl rfl ?_
        refine v_iconst (v := -1) dX8_lamp_32 k_iconst_m1 ?_
        refine v_callVi (cM_shoreB hap (flt (TS σ (nx σ p)) (1) (tq σ (nx σ p) 24)) (show ¬ 1 = 0 by decide) (show 1 < 2147483648 by decide) _) (lw_V q2261 q2263 qs69 q136 q2264) iX8_shore rfl KX8 MH_m rfl rfl (by decide) (by decide) (Nat.le_of_ble_eq_true rfl) dX8_lamp_33 ?_
        refine v_istore_n (i := 1) dX8_lamp_36 rfl (by decide) rfl ?_
        refine v_aload_n (i := 0) dX8_lamp_37 rfl rfl ?_
        refine v_callVi (cM_goodB hap (flt (TS σ (nx σ p)) (1) (tq σ (nx σ p) 24)) (show ¬ 1 = 0 by decide) (show 1 < 2147483648 by decide)) (lw_V q2229 q2231 qs61 q136 q2232) iX8_isGood rfl KX8 MH_m rfl rfl (by decide) (by decide) (Nat.le_of_ble_eq_true rfl) dX8_lamp_38 ?_
        refine vn_if_eq (tgt := 49) dX8_lamp_41 rfl (by decide) (fun c41 => ?_) (fun c41 => ?_)
        · exact v_vret rfl dX8_lamp_49 (by
              have E : lampE (tq σ) (gN σ 29) (gN σ 33) p = _ := (Eq.trans (if_neg (fun z => z c5)) (Eq.trans (andT_er (eNeed_er h28)) rfl))
              exact ⟨rfl, fun k q e => (by rw [E] at e; cases e; rfl), fun _ _ e => (by rw [E] at e; cases e)⟩)
        · exact absurd rfl c41
    · exact absurd c17 (by decide)
  · have c5 : ¬ gN σ 33 = 0 := c5
    refine v_aload_n (i := 0) dX8_lamp_8 rfl rfl ?_
    refine v_iconst (v := nI 5) dX8_lamp_9 k_iconst_5 ?_
    refine v_callVv (cM_wrongG hap (TS σ p) 5 hg) (lw_V q2233 q2235 qs62 q136 q2236) iX8_wrong rfl KX8 MH_m rfl rfl (by decide) (by decide) (Nat.le_of_ble_eq_true rfl) dX8_lamp_10 ?_
    refine v_aload_n (i := 0) dX8_lamp_13 rfl rfl ?_
    refine v_callVi (cM_goodB hap (flt (TS σ p) (5) (tq σ p 24)) (show ¬ 5 = 0 by decide) (show 5 < 2147483648 by decide)) (lw_V q2229 q2231 qs61 q136 q2232) iX8_isGood rfl KX8 MH_m rfl rfl (by decide) (by decide) (Nat.le_of_ble_eq_true rfl) dX8_lamp_14 ?_
    refine vn_if_ne (tgt := 21) dX8_lamp_17 rfl (by decide) (fun c17 => ?_) (fun c17 => ?_)
    · exact absurd rfl c17
    · exact v_vret rfl dX8_lamp_20 (by
          have E : lampE (tq σ) (gN σ 29) (gN σ 33) p = _ := (Eq.trans (if_pos c5) rfl)
          exact ⟨rfl, fun k q e => (by rw [E] at e; cases e; rfl), fun _ _ e => (by rw [E] at e; cases e)⟩)
theorem cM_water {G : Gl} {m : Nat} {ad : Nat → Nat} {η0 : AH} (hap : Mp m ad) (σ : MS) (hP : PO σ) (p : Nat) (hp : p ≤ gN σ 21) (hg : gN σ 19 = 0) (hS : gN σ 29 ≤ 4) (both : Nat) (hbo : both < 2) : Ct G yX8_water cX8_water 4 none 5 0 0 [.ref m, .int (nI both)] (MH m ad (TS σ p) η0) (rv fun η => (∀ k q, waterE (tq σ) (gN σ 29) p = .error (k, q) → η = MH m ad (flt (TS σ q) k (tq σ q 24)) η0) ∧ ∀ a b p2, waterE (tq σ) (gN σ 29) p = .ok (a, b, p2) → η = MH m ad (if both = 0 then sA (sN (TS σ p2) 37 1) 48 (4 * a + b) 1 else sA (sA (sN (TS σ p2) 37 1) 48 (4 * a + b) 1) 48 (4 * b + a) 1) η0) := by
  refine Ct.start rfl rfl (Nat.le_of_ble_eq_true rfl) (fun Γ => ?_)
  refine v_aload_n (i := 0) dX8_water_0 rfl rfl ?_
  refine v_callVv (cM_goesT hap σ hP p hp) (lw_V q2201 q2203 qs57 q136 q2204) iX8_goes rfl KX8 MH_m rfl rfl (by decide) (by decide) (Nat.le_of_ble_eq_true rfl) dX8_water_1 ?_
  refine v_aload_n (i := 0) dX8_water_4 rfl rfl ?_
  refine v_iconst (v := -1) dX8_water_5 k_iconst_m1 ?_
  refine v_callVi (cM_shore hap σ hP (nx σ p) (tq_b hP hp).1 hg (0) (by decide) hS) (lw_V q2261 q2263 qs69 q136 q2264) iX8_shore rfl KX8 MH_m rfl rfl (by decide) (by decide) (Nat.le_of_ble_eq_true rfl) dX8_water_6 ?_
  by_cases h6 : shE (tq σ (nx σ p)) (gN σ 29) (0) = 0
  · rw [if_pos h6]
    refine v_istore_n (i := 2) dX8_water_9 rfl (by decide) rfl ?_
    refine v_aload_n (i := 0) dX8_water_10 rfl rfl ?_
    refine v_iload_n (i := 2) dX8_water_11 rfl rfl ?_
    refine v_callVi (cM_shore hap σ hP (nx σ (nx σ p)) (tq_b hP (tq_b hP hp).1).1 hg (tq σ (nx σ p) 26 + 1) (by have := (tq_b hP (tq_b hP hp).1).2.2.2.2.1; omega) hS) (lw_V q2261 q2263 qs69 q136 q2264) iX8_shore rfl KX8 MH_m rfl rfl (by decide) (by decide) (Nat.le_of_ble_eq_true rfl) dX8_water_12 ?_
    by_cases h12 : shE (tq σ (nx σ (nx σ p))) (gN σ 29) (tq σ (nx σ p) 26 + 1) = 0
    · rw [if_pos h12]
      refine v_istore_n (i := 3) dX8_water_15 rfl (by decide) rfl ?_
      refine v_aload_n (i := 0) dX8_water_16 rfl rfl ?_
      refine v_callVi (cM_goodG hap (TS σ (nx σ (nx σ (nx σ p)))) hg) (lw_V q2229 q2231 qs61 q136 q2232) iX8_isGood rfl KX8 MH_m rfl rfl (by decide) (by decide) (Nat.le_of_ble_eq_true rfl) dX8_water_17 ?_
      refine vn_if_ne (tgt := 24) dX8_water_20 rfl (by decide) (fun c20 => ?_) (fun c20 => ?_)
      · have s1 : tq σ (nx σ p) 26 < gN σ 29 := shE_lt h6
        have s2 : tq σ (nx σ (nx σ p)) 26 < gN σ 29 := shE_lt h12
        refine v_aload_n (i := 0) dX8_water_24 rfl rfl ?_
        refine v_iconst (v := nI 1) dX8_water_25 k_iconst_1 ?_
        refine mp_readWet rfl (by decide) dX8_water_26 ?_
        refine v_aload_n (i := 0) dX8_water_29 rfl rfl ?_
        refine mg_readWater rfl dX8_water_30 ?_
        refine v_iconst (v := nI 4) dX8_water_33 k_iconst_4 ?_
        refine v_iload_n (i := 2) dX8_water_34 rfl rfl ?_
        refine vn_imul dX8_water_35 ?_
        refine v_iload_n (i := 3) dX8_water_36 rfl rfl ?_
        refine vn_iadd dX8_water_37 ?_
        refine v_iconst (v := nI 1) dX8_water_38 k_iconst_1 ?_
        refine ms_readWater hap (by omega) (by decide) dX8_water_39 ?_
        refine v_iload_n (i := 1) dX8_water_40 rfl rfl ?_
        refine vn_if_eq (tgt := 55) dX8_water_41 rfl (by omega) (fun c41 => ?_) (fun c41 => ?_)
        · exact v_vret rfl dX8_water_55 (by
              have E : waterE (tq σ) (gN σ 29) p = _ := (Eq.trans (andT_ok (eSh_ok h6)) (Eq.trans (andT_ok (eSh_ok h12)) rfl))
              exact ⟨rfl, fun k q e => (by rw [E] at e; cases e), fun _ _ _ e => (by rw [E] at e; cases e; rw [if_pos c41]; rfl)⟩)
        · refine v_aload_n (i := 0) dX8_water_44 rfl rfl ?_
          refine mg_readWater rfl dX8_water_45 ?_
          refine v_iconst (v := nI 4) dX8_water_48 k_iconst_4 ?_
          refine v_iload_n (i := 3) dX8_water_49 rfl rfl ?_
          refine vn_imul dX8_water_50 ?_
          refine v_iload_n (i := 2) dX8_water_51 rfl rfl ?_
          refine vn_iadd dX8_water_52 ?_
          refine v_iconst (v := nI 1) dX8_water_53 k_iconst_1 ?_
          refine ms_readWater hap (by omega) (by decide) dX8_water_54 ?_
          exact v_vret rfl dX8_water_55 (by
              have E : waterE (tq σ) (gN σ 29) p = _ := (Eq.trans (andT_ok (eSh_ok h6)) (Eq.trans (andT_ok (eSh_ok h12)) rfl))
              exact ⟨rfl, fun k q e => (by rw [E] at e; cases e), fun _ _ _ e => (by rw [E] at e; cases e; rw [if_neg c41]; rfl)⟩)
      · exact absurd c20 (by decide)
    · rw [if_neg h12]
      have g12 := shE_le (tq σ (nx σ (nx σ p))) (gN σ 29) (tq σ (nx σ p) 26 + 1)
      refine v_istore_n (i := 3) dX8_water_15 rfl (by decide) rfl ?_
      refine v_aload_n (i := 0) dX8_water_16 rfl rfl ?_
      refine v_callVi (cM_goodB hap (flt (TS σ (nx σ (nx σ p))) (shE (tq σ (nx σ (nx σ p))) (gN σ 29) (tq σ (nx σ p) 26 + 1)) (tq σ (nx σ (nx σ p)) 24)) (show ¬ shE (tq σ (nx σ (nx σ p))) (gN σ 29) (tq σ (nx σ p) 26 + 1) = 0 from h12) (show shE (tq σ (nx σ (nx σ p))) (gN σ 29) (tq σ (nx σ p) 26 + 1) < 2147483648 by omega)) (lw_V q2229 q2231 qs61 q136 q2232) iX8_isGood rfl KX8 MH_m rfl rfl (by decide) (by decide) (Nat.le_of_ble_eq_true rfl) dX8_water_17 ?_
      refine vn_if_ne (tgt := 24) dX8_water_20 rfl (by decide) (fun c20 => ?_) (fun c20 => ?_)
      · exact absurd rfl c20
      · exact v_vret rfl dX8_water_23 (by
            have E : waterE (tq σ) (gN σ 29) p = _ := (Eq.trans (andT_ok (eSh_ok h6)) (Eq.trans (andT_er (eSh_er h12)) rfl))
            exact ⟨rfl, fun k q e => (by rw [E] at e; cases e; rfl), fun _ _ _ e => (by rw [E] at e; cases e)⟩)
  · rw [if_neg h6]
    have g6 := shE_le (tq σ (nx σ p)) (gN σ 29) (0)
    refine v_istore_n (i := 2) dX8_water_9 rfl (by decide) rfl ?_
    refine v_aload_n (i := 0) dX8_water_10 rfl rfl ?_
    refine v_iload_n (i := 2) dX8_water_11 rfl rfl ?_
    refine v_callVi (cM_shoreB hap (flt (TS σ (nx σ p)) (shE (tq σ (nx σ p)) (gN σ 29) (0)) (tq σ (nx σ p) 24)) (show ¬ shE (tq σ (nx σ p)) (gN σ 29) (0) = 0 from h6) (show shE (tq σ (nx σ p)) (gN σ 29) (0) < 2147483648 by omega) _) (lw_V q2261 q2263 qs69 q136 q2264) iX8_shore rfl KX8 MH_m rfl rfl (by decide) (by decide) (Nat.le_of_ble_eq_true rfl) dX8_water_12 ?_
    refine v_istore_n (i := 3) dX8_water_15 rfl (by decide) rfl ?_
    refine v_aload_n (i := 0) dX8_water_16 rfl rfl ?_
    refine v_callVi (cM_goodB hap (flt (TS σ (nx σ p)) (shE (tq σ (nx σ p)) (gN σ 29) (0)) (tq σ (nx σ p) 24)) (show ¬ shE (tq σ (nx σ p)) (gN σ 29) (0) = 0 from h6) (show shE (tq σ (nx σ p)) (gN σ 29) (0) < 2147483648 by omega)) (lw_V q2229 q2231 qs61 q136 q2232) iX8_isGood rfl KX8 MH_m rfl rfl (by decide) (by decide) (Nat.le_of_ble_eq_true rfl) dX8_water_17 ?_
    refine vn_if_ne (tgt := 24) dX8_water_20 rfl (by decide) (fun c20 => ?_) (fun c20 => ?_)
    · exact absurd rfl c20
    · exact v_vret rfl dX8_water_23 (by
          have E : waterE (tq σ) (gN σ 29) p = _ := (Eq.trans (andT_er (eSh_er h6)) rfl)
          exact ⟨rfl, fun k q e => (by rw [E] at e; cases e; rfl), fun _ _ _ e => (by rw [E] at e; cases e)⟩)
