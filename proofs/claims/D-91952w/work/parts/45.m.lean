theorem nx_ge {σ : MS} (hP : PO σ) {p : Nat} (hp : p ≤ gN σ 21) : p ≤ nx σ p := by
  by_cases hz : tq σ p 23 = 0
  · obtain ⟨h1, h2⟩ := skp_le (tp := gA σ 17) hp
    unfold nx tq tk at *
    by_cases c1 : gN σ 21 ≤ skp (gA σ 17) (gN σ 21) p
    · rw [if_pos c1]
      exact h1
    · rw [if_neg c1] at hz ⊢
      split at hz
      · cases hz
      · next c2 =>
        rw [if_neg c2]
        split at hz
        · cases hz
        · next c3 =>
          rw [if_neg c3]
          show p ≤ skp _ _ _ + 1
          omega
  · exact Nat.le_of_lt (nx_gt hP hp hz)
theorem cM_never {G : Gl} {m : Nat} {ad : Nat → Nat} {η0 : AH} (hap : Mp m ad) (σ : MS) (hP : PO σ) (p : Nat) (hp : p ≤ gN σ 21) (hg : gN σ 19 = 0) (hS : gN σ 29 ≤ 4) (hL : gN σ 32 ≤ 12) (hT : gN σ 30 ≤ 8) (hl : ∀ t, t < 8 → gA σ 40 t < 2147483648) (hlo : 2 * gN σ 34 ≤ 3 * p) : Ct G yX8_never cX8_never 4 none 7 0 0 [.ref m] (MH m ad (TS σ p) η0) (rv fun η => (∀ p2 f s, neverE (tq σ) (gA σ 40) (gN σ 30) (gN σ 29) (gN σ 32) p = .ok (p2, f, s) → p2 ≤ gN σ 21 ∧ s < 8 ∧ ∃ rd r wt wn dp td, η = MH m ad (sN (sA (sB (XS σ p2 rd (gN σ 34 + r.length + 1) wt wn dp td) 44 (gN σ 32) (scI s)) 45 (gN σ 32) (gN σ 34)) 32 (gN σ 32 + 1)) η0 ∧ pN rd (gN σ 34) (0 :: r) ∧ Sm r [f] ∧ (∀ i, i < gN σ 34 → rd i = gA σ 46 i) ∧ 2 * (gN σ 34 + r.length + 1) ≤ 3 * p2 + 3) ∧ ∀ k q, neverE (tq σ) (gA σ 40) (gN σ 30) (gN σ 29) (gN σ 32) p = .error (k, q) → k < 2147483648 ∧ ¬ k = 0 ∧ q ≤ gN σ 21 ∧ ∃ rd tp wt wn dp td, η = MH m ad (XS (flt σ k (tq σ q 24)) q rd tp wt wn dp td) η0) := by
  refine Ct.start rfl rfl (Nat.le_of_ble_eq_true rfl) (fun Γ => ?_)
  obtain ⟨b22, b23, b24, b25, b26, b27, b28⟩ := tq_b hP hp
  have hTK := tq_TKo hP
  have hpx : p ≤ nx σ p := by
    by_cases hz : tq σ p 23 = 0
    · exact nx_ge hP hp
    · exact Nat.le_of_lt (nx_gt hP hp hz)
  refine v_aload_n (i := 0) dX8_never_0 rfl rfl ?_
  refine mg_readLaws rfl dX8_never_1 ?_
  refine v_bipush (v := nI 12) dX8_never_4 k_bipush_12 ?_
  refine vn_icmp_ne (tgt := 14) dX8_never_6 rfl (show gN σ 32 < _ by omega) (by decide) (fun c6 => ?_) (fun c6 => ?_)
  · have c6 : ¬ gN σ 32 = 12 := c6
    refine v_aload_n (i := 0) dX8_never_14 rfl rfl ?_
    refine v_callVi (cM_goodG hap (TS σ p) hg) (lw_V q2229 q2231 qs61 q136 q2232) iX8_isGood rfl KX8 MH_m rfl rfl (by decide) (by decide) (Nat.le_of_ble_eq_true rfl) dX8_never_15 ?_
    refine vn_if_ne (tgt := 22) dX8_never_18 rfl (by decide) (fun c18 => ?_) (fun c18 => ?_)
    · refine v_aload_n (i := 0) dX8_never_22 rfl rfl ?_
      refine v_callVv (cM_goesT hap σ hP p hp) (lw_V q2201 q2203 qs57 q136 q2204) iX8_goes rfl KX8 MH_m rfl rfl (by decide) (by decide) (Nat.le_of_ble_eq_true rfl) dX8_never_23 ?_
      refine v_aload_n (i := 0) dX8_never_26 rfl rfl ?_
      refine v_callVI (kc' := 0) (ks' := 0) (cM_expression hap σ hP (nx σ p) b22 hg hT hl (by omega)) (lw_V q2277 q2279 qs73 q136 q2280) iX8_expression rfl KX8 MH_m rfl rfl (by decide) (by decide) (Nat.le_of_ble_eq_true rfl) (by decide) (by decide) dX8_never_27 (fun x_ η' h => ?_)
      obtain ⟨rfl, hy, hn⟩ := h
      rw [exM_rd hTK b22] at hy hn
      by_cases h27 : ∃ z, rdEx (tq σ) (gA σ 40) (gN σ 30) 6 (nx σ p) = .ok z
      · obtain ⟨⟨p2, f⟩, hz⟩ := h27
        obtain ⟨hp2, rd, r, wt, wn, dp, td, rfl, hpn, hSm, hlow, hb3⟩ := hy p2 f hz
        have bk := kwT_le (tq σ p2)
        obtain ⟨y22, y23, y24, y25, y26, y27, y28⟩ := tq_b hP hp2
        refine v_istore_n (i := 1) dX8_never_30 rfl (by decide) rfl ?_
        refine v_iconst (v := -1) dX8_never_31 k_iconst_m1 ?_
        refine v_istore_n (i := 2) dX8_never_32 rfl (by decide) rfl ?_
        refine v_aload_n (i := 0) dX8_never_33 rfl rfl ?_
        refine v_callVi (cM_kwX hap σ hP p2 hp2 rd (gN σ 34 + r.length + 1) wt wn dp td) (lw_V q2215 q2217 qs59 q136 q2218) iX8_knownWord rfl KX8 MH_m rfl rfl (by decide) (by decide) (Nat.le_of_ble_eq_true rfl) dX8_never_34 ?_
        refine v_istore_n (i := 3) dX8_never_37 rfl (by decide) rfl ?_
        refine v_aload_n (i := 0) dX8_never_38 rfl rfl ?_
        refine v_callVi (cM_goodG hap (XS σ p2 rd (gN σ 34 + r.length + 1) wt wn dp td) hg) (lw_V q2229 q2231 qs61 q136 q2232) iX8_isGood rfl KX8 MH_m rfl rfl (by decide) (by decide) (Nat.le_of_ble_eq_true rfl) dX8_never_39 ?_
        refine vn_if_eq (tgt := 89) dX8_never_42 rfl (by decide) (fun c42 => ?_) (fun c42 => ?_)
        · exact absurd c42 (by decide)
        · refine v_iload_n (i := 3) dX8_never_45 rfl rfl ?_
          refine v_bipush (v := nI 11) dX8_never_46 k_bipush_11 ?_
          refine von_icmp_lt (tgt := 89) dX8_never_48 rfl (by omega) (by decide) (fun c48 => ?_) (fun c48 => ?_)
          · refine v_aload_n (i := 0) dX8_never_89 rfl rfl ?_
            refine v_callVi (cM_goodG hap (XS σ p2 rd (gN σ 34 + r.length + 1) wt wn dp td) hg) (lw_V q2229 q2231 qs61 q136 q2232) iX8_isGood rfl KX8 MH_m rfl rfl (by decide) (by decide) (Nat.le_of_ble_eq_true rfl) dX8_never_90 ?_
            refine vn_if_ne (tgt := 97) dX8_never_93 rfl (by decide) (fun c93 => ?_) (fun c93 => ?_)
            · refine v_aload_n (i := 0) dX8_never_97 rfl rfl ?_
              refine mg_readScope rfl dX8_never_98 ?_
              refine v_aload_n (i := 0) dX8_never_101 rfl rfl ?_
              refine mg_readLaws rfl dX8_never_102 ?_
              refine v_iload_n (i := 2) dX8_never_105 rfl rfl ?_
              refine ms_readScope hap (show gN σ 32 < 12 by omega) dX8_never_106 ?_
              refine v_aload_n (i := 0) dX8_never_107 rfl rfl ?_
              refine mg_readLawAt rfl dX8_never_108 ?_
              refine v_aload_n (i := 0) dX8_never_111 rfl rfl ?_
              refine mg_readLaws rfl dX8_never_112 ?_
              refine v_iload_n (i := 1) dX8_never_115 rfl rfl ?_
              refine ms_readLawAt hap (show gN σ 32 < 12 by omega) dX8_never_116 ?_
              refine v_aload_n (i := 0) dX8_never_117 rfl rfl ?_
              refine v_dup dX8_never_118 rfl ?_
              refine mg_readLaws rfl dX8_never_119 ?_
              refine v_iconst (v := nI 1) dX8_never_122 k_iconst_1 ?_
              refine vn_iadd dX8_never_123 ?_
              refine mp_readLaws rfl dX8_never_124 ?_
              exact v_vret rfl dX8_never_127 (by
                  have E : neverE (tq σ) (gA σ 40) (gN σ 30) (gN σ 29) (gN σ 32) p = .ok (p2, f, 0) := (if_neg c6).trans ((andT_ok hz).trans ((if_neg (show ¬ kwT (tq σ p2) = 13 by omega)).trans ((if_neg (show ¬ kwT (tq σ p2) = 14 by omega)).trans (if_neg (show ¬ kwT (tq σ p2) = 12 by omega)))))
                  exact ⟨rfl, fun _ _ _ e => (by rw [E] at e; cases e; exact ⟨hp2, by decide, rd, r, wt, wn, dp, td, rfl, hpn, hSm, hlow, by omega⟩), fun k q e => (by rw [E] at e; cases e)⟩)
            · exact absurd c93 (by decide)
          · refine v_iload_n (i := 3) dX8_never_51 rfl rfl ?_
            refine v_bipush (v := nI 13) dX8_never_52 k_bipush_13 ?_
            refine von_icmp_gt (tgt := 89) dX8_never_54 rfl (by omega) (by decide) (fun c54 => ?_) (fun c54 => ?_)
            · refine v_aload_n (i := 0) dX8_never_89 rfl rfl ?_
              refine v_callVi (cM_goodG hap (XS σ p2 rd (gN σ 34 + r.length + 1) wt wn dp td) hg) (lw_V q2229 q2231 qs61 q136 q2232) iX8_isGood rfl KX8 MH_m rfl rfl (by decide) (by decide) (Nat.le_of_ble_eq_true rfl) dX8_never_90 ?_
              refine vn_if_ne (tgt := 97) dX8_never_93 rfl (by decide) (fun c93 => ?_) (fun c93 => ?_)
              · refine v_aload_n (i := 0) dX8_never_97 rfl rfl ?_
                refine mg_readScope rfl dX8_never_98 ?_
                refine v_aload_n (i := 0) dX8_never_101 rfl rfl ?_
                refine mg_readLaws rfl dX8_never_102 ?_
                refine v_iload_n (i := 2) dX8_never_105 rfl rfl ?_
                refine ms_readScope hap (show gN σ 32 < 12 by omega) dX8_never_106 ?_
                refine v_aload_n (i := 0) dX8_never_107 rfl rfl ?_
                refine mg_readLawAt rfl dX8_never_108 ?_
                refine v_aload_n (i := 0) dX8_never_111 rfl rfl ?_
                refine mg_readLaws rfl dX8_never_112 ?_
                refine v_iload_n (i := 1) dX8_never_115 rfl rfl ?_
                refine ms_readLawAt hap (show gN σ 32 < 12 by omega) dX8_never_116 ?_
                refine v_aload_n (i := 0) dX8_never_117 rfl rfl ?_
                refine v_dup dX8_never_118 rfl ?_
                refine mg_readLaws rfl dX8_never_119 ?_
                refine v_iconst (v := nI 1) dX8_never_122 k_iconst_1 ?_
                refine vn_iadd dX8_never_123 ?_
                refine mp_readLaws rfl dX8_never_124 ?_
                exact v_vret rfl dX8_never_127 (by
                    have E : neverE (tq σ) (gA σ 40) (gN σ 30) (gN σ 29) (gN σ 32) p = .ok (p2, f, 0) := (if_neg c6).trans ((andT_ok hz).trans ((if_neg (show ¬ kwT (tq σ p2) = 13 by omega)).trans ((if_neg (show ¬ kwT (tq σ p2) = 14 by omega)).trans (if_neg (show ¬ kwT (tq σ p2) = 12 by omega)))))
                    exact ⟨rfl, fun _ _ _ e => (by rw [E] at e; cases e; exact ⟨hp2, by decide, rd, r, wt, wn, dp, td, rfl, hpn, hSm, hlow, by omega⟩), fun k q e => (by rw [E] at e; cases e)⟩)
              · exact absurd c93 (by decide)
            · refine v_aload_n (i := 0) dX8_never_57 rfl rfl ?_
              refine v_callVv (cM_goesX hap σ hP p2 hp2 rd (gN σ 34 + r.length + 1) wt wn dp td) (lw_V q2201 q2203 qs57 q136 q2204) iX8_goes rfl KX8 MH_m rfl rfl (by decide) (by decide) (Nat.le_of_ble_eq_true rfl) dX8_never_58 ?_
              refine v_iload_n (i := 3) dX8_never_61 rfl rfl ?_
              refine v_bipush (v := nI 12) dX8_never_62 k_bipush_12 ?_
              refine von_icmp_ne (tgt := 72) dX8_never_64 rfl (by omega) (by decide) (fun c64 => ?_) (fun c64 => ?_)
              · refine v_iload_n (i := 3) dX8_never_72 rfl rfl ?_
                refine v_bipush (v := nI 13) dX8_never_73 k_bipush_13 ?_
                refine von_icmp_ne (tgt := 83) dX8_never_75 rfl (by omega) (by decide) (fun c75 => ?_) (fun c75 => ?_)
                · refine v_eq (congrArg (fun τ => MH m ad τ η0) (XS_TS σ (nx σ p2) rd (gN σ 34 + r.length + 1) wt wn dp td)) ?_
                  have ge := shE_le (tq σ (nx σ p2)) (gN σ 29) 0
                  refine v_aload_n (i := 0) dX8_never_83 rfl rfl ?_
                  refine v_iconst (v := oI 0) dX8_never_84 rfl ?_
                  refine v_callVi (cM_shore hap (XU σ rd (gN σ 34 + r.length + 1) wt wn dp td) hP (nx σ p2) y22 hg 0 (by decide) hS) (lw_V q2261 q2263 qs69 q136 q2264) iX8_shore rfl KX8 MH_m rfl rfl (by decide) (by decide) (Nat.le_of_ble_eq_true rfl) dX8_never_85 ?_
                  by_cases h85 : shE (tq σ (nx σ p2)) (gN σ 29) 0 = 0
                  · rw [show (if shE (tq (XU σ rd (gN σ 34 + r.length + 1) wt wn dp td) (nx σ p2)) (gN (XU σ rd (gN σ 34 + r.length + 1) wt wn dp td) 29) 0 = 0 then TS (XU σ rd (gN σ 34 + r.length + 1) wt wn dp td) (nx (XU σ rd (gN σ 34 + r.length + 1) wt wn dp td) (nx σ p2)) else flt (TS (XU σ rd (gN σ 34 + r.length + 1) wt wn dp td) (nx σ p2)) (shE (tq (XU σ rd (gN σ 34 + r.length + 1) wt wn dp td) (nx σ p2)) (gN (XU σ rd (gN σ 34 + r.length + 1) wt wn dp td) 29) 0) (tq (XU σ rd (gN σ 34 + r.length + 1) wt wn dp td) (nx σ p2) 24)) = TS (XU σ rd (gN σ 34 + r.length + 1) wt wn dp td) (nx σ (nx σ p2)) from if_pos h85]
                    have hs4 : tq σ (nx σ p2) 26 < gN σ 29 := shE_lt h85
                    refine v_istore_n (i := 2) dX8_never_88 rfl (by decide) rfl ?_
                    refine v_aload_n (i := 0) dX8_never_89 rfl rfl ?_
                    refine v_callVi (cM_goodG hap (TS (XU σ rd (gN σ 34 + r.length + 1) wt wn dp td) (nx σ (nx σ p2))) hg) (lw_V q2229 q2231 qs61 q136 q2232) iX8_isGood rfl KX8 MH_m rfl rfl (by decide) (by decide) (Nat.le_of_ble_eq_true rfl) dX8_never_90 ?_
                    refine vn_if_ne (tgt := 97) dX8_never_93 rfl (by decide) (fun c93 => ?_) (fun c93 => ?_)
                    · refine v_eq (congrArg (fun τ => MH m ad τ η0) (XS_TS σ (nx σ (nx σ p2)) rd (gN σ 34 + r.length + 1) wt wn dp td).symm) ?_
                      refine v_aload_n (i := 0) dX8_never_97 rfl rfl ?_
                      refine mg_readScope rfl dX8_never_98 ?_
                      refine v_aload_n (i := 0) dX8_never_101 rfl rfl ?_
                      refine mg_readLaws rfl dX8_never_102 ?_
                      refine v_iload_n (i := 2) dX8_never_105 rfl rfl ?_
                      refine ms_readScope hap (show gN σ 32 < 12 by omega) dX8_never_106 ?_
                      refine v_aload_n (i := 0) dX8_never_107 rfl rfl ?_
                      refine mg_readLawAt rfl dX8_never_108 ?_
                      refine v_aload_n (i := 0) dX8_never_111 rfl rfl ?_
                      refine mg_readLaws rfl dX8_never_112 ?_
                      refine v_iload_n (i := 1) dX8_never_115 rfl rfl ?_
                      refine ms_readLawAt hap (show gN σ 32 < 12 by omega) dX8_never_116 ?_
                      refine v_aload_n (i := 0) dX8_never_117 rfl rfl ?_
                      refine v_dup dX8_never_118 rfl ?_
                      refine mg_readLaws rfl dX8_never_119 ?_
                      refine v_iconst (v := nI 1) dX8_never_122 k_iconst_1 ?_
                      refine vn_iadd dX8_never_123 ?_
                      refine mp_readLaws rfl dX8_never_124 ?_
                      exact v_vret rfl dX8_never_127 (by
                          have E : neverE (tq σ) (gA σ 40) (gN σ 30) (gN σ 29) (gN σ 32) p = .ok (nx σ (nx σ p2), f, tq σ (nx σ p2) 26 + 3) := (if_neg c6).trans ((andT_ok hz).trans ((if_neg (show ¬ kwT (tq σ p2) = 13 by omega)).trans ((if_neg (show ¬ kwT (tq σ p2) = 14 by omega)).trans ((if_pos (show kwT (tq σ p2) = 12 by omega)).trans (andT_ok (eSh_ok h85))))))
                          have g1 := nx_ge hP hp2
                          have g2 := nx_ge hP y22
                          exact ⟨rfl, fun _ _ _ e => (by rw [E] at e; cases e; exact ⟨(tq_b hP y22).1, by omega, rd, r, wt, wn, dp, td, rfl, hpn, hSm, hlow, by omega⟩), fun k q e => (by rw [E] at e; cases e)⟩)
                    · exact absurd c93 (by decide)
                  · rw [show (if shE (tq (XU σ rd (gN σ 34 + r.length + 1) wt wn dp td) (nx σ p2)) (gN (XU σ rd (gN σ 34 + r.length + 1) wt wn dp td) 29) 0 = 0 then TS (XU σ rd (gN σ 34 + r.length + 1) wt wn dp td) (nx (XU σ rd (gN σ 34 + r.length + 1) wt wn dp td) (nx σ p2)) else flt (TS (XU σ rd (gN σ 34 + r.length + 1) wt wn dp td) (nx σ p2)) (shE (tq (XU σ rd (gN σ 34 + r.length + 1) wt wn dp td) (nx σ p2)) (gN (XU σ rd (gN σ 34 + r.length + 1) wt wn dp td) 29) 0) (tq (XU σ rd (gN σ 34 + r.length + 1) wt wn dp td) (nx σ p2) 24)) = flt (TS (XU σ rd (gN σ 34 + r.length + 1) wt wn dp td) (nx σ p2)) (shE (tq σ (nx σ p2)) (gN σ 29) 0) (tq σ (nx σ p2) 24) from if_neg h85]
                    refine v_istore_n (i := 2) dX8_never_88 rfl (by decide) rfl ?_
                    refine v_aload_n (i := 0) dX8_never_89 rfl rfl ?_
                    refine v_callVi (cM_goodB hap (flt (TS (XU σ rd (gN σ 34 + r.length + 1) wt wn dp td) (nx σ p2)) (shE (tq σ (nx σ p2)) (gN σ 29) 0) (tq σ (nx σ p2) 24)) (show ¬ shE (tq σ (nx σ p2)) (gN σ 29) 0 = 0 from h85) (show shE (tq σ (nx σ p2)) (gN σ 29) 0 < 2147483648 by omega)) (lw_V q2229 q2231 qs61 q136 q2232) iX8_isGood rfl KX8 MH_m rfl rfl (by decide) (by decide) (Nat.le_of_ble_eq_true rfl) dX8_never_90 ?_
                    refine vn_if_ne (tgt := 97) dX8_never_93 rfl (by decide) (fun c93 => ?_) (fun c93 => ?_)
                    · exact absurd rfl c93
                    · exact v_vret rfl dX8_never_96 (by
                          have E : neverE (tq σ) (gA σ 40) (gN σ 30) (gN σ 29) (gN σ 32) p = .error (shE (tq σ (nx σ p2)) (gN σ 29) 0, nx σ p2) := (if_neg c6).trans ((andT_ok hz).trans ((if_neg (show ¬ kwT (tq σ p2) = 13 by omega)).trans ((if_neg (show ¬ kwT (tq σ p2) = 14 by omega)).trans ((if_pos (show kwT (tq σ p2) = 12 by omega)).trans (andT_er (eSh_er h85))))))
                          exact ⟨rfl, fun _ _ _ e => (by rw [E] at e; cases e), fun k q e => (by rw [E] at e; cases e; exact ⟨by omega, h85, y22, _, _, _, _, _, _, congrArg (fun τ => MH m ad τ η0) ((congrArg (fun τ => flt τ _ _) (XS_TS σ (nx σ p2) rd (gN σ 34 + r.length + 1) wt wn dp td).symm).trans (flt_XS σ (nx σ p2) rd (gN σ 34 + r.length + 1) wt wn dp td _ _))⟩)⟩)
                · refine v_bipush (v := -3) dX8_never_78 k_bipush_m3 ?_
                  refine v_goto (tgt := 88) dX8_never_80 rfl ?_
                  refine v_istore_n (i := 2) dX8_never_88 rfl (by decide) rfl ?_
                  refine v_aload_n (i := 0) dX8_never_89 rfl rfl ?_
                  refine v_callVi (cM_goodG hap (XS σ (nx σ p2) rd (gN σ 34 + r.length + 1) wt wn dp td) hg) (lw_V q2229 q2231 qs61 q136 q2232) iX8_isGood rfl KX8 MH_m rfl rfl (by decide) (by decide) (Nat.le_of_ble_eq_true rfl) dX8_never_90 ?_
                  refine vn_if_ne (tgt := 97) dX8_never_93 rfl (by decide) (fun c93 => ?_) (fun c93 => ?_)
                  · refine v_aload_n (i := 0) dX8_never_97 rfl rfl ?_
                    refine mg_readScope rfl dX8_never_98 ?_
                    refine v_aload_n (i := 0) dX8_never_101 rfl rfl ?_
                    refine mg_readLaws rfl dX8_never_102 ?_
                    refine v_iload_n (i := 2) dX8_never_105 rfl rfl ?_
                    refine ms_readScope hap (show gN σ 32 < 12 by omega) dX8_never_106 ?_
                    refine v_aload_n (i := 0) dX8_never_107 rfl rfl ?_
                    refine mg_readLawAt rfl dX8_never_108 ?_
                    refine v_aload_n (i := 0) dX8_never_111 rfl rfl ?_
                    refine mg_readLaws rfl dX8_never_112 ?_
                    refine v_iload_n (i := 1) dX8_never_115 rfl rfl ?_
                    refine ms_readLawAt hap (show gN σ 32 < 12 by omega) dX8_never_116 ?_
                    refine v_aload_n (i := 0) dX8_never_117 rfl rfl ?_
                    refine v_dup dX8_never_118 rfl ?_
                    refine mg_readLaws rfl dX8_never_119 ?_
                    refine v_iconst (v := nI 1) dX8_never_122 k_iconst_1 ?_
                    refine vn_iadd dX8_never_123 ?_
                    refine mp_readLaws rfl dX8_never_124 ?_
                    exact v_vret rfl dX8_never_127 (by
                        have E : neverE (tq σ) (gA σ 40) (gN σ 30) (gN σ 29) (gN σ 32) p = .ok (nx σ p2, f, 2) := (if_neg c6).trans ((andT_ok hz).trans ((if_neg (show ¬ kwT (tq σ p2) = 13 by omega)).trans (if_pos (show kwT (tq σ p2) = 14 by omega))))
                        have g1 := nx_ge hP hp2
                        exact ⟨rfl, fun _ _ _ e => (by rw [E] at e; cases e; exact ⟨y22, by decide, rd, r, wt, wn, dp, td, rfl, hpn, hSm, hlow, by omega⟩), fun k q e => (by rw [E] at e; cases e)⟩)
                  · exact absurd c93 (by decide)
              · refine v_bipush (v := -2) dX8_never_67 k_bipush_m2 ?_
                refine v_goto (tgt := 88) dX8_never_69 rfl ?_
                refine v_istore_n (i := 2) dX8_never_88 rfl (by decide) rfl ?_
                refine v_aload_n (i := 0) dX8_never_89 rfl rfl ?_
                refine v_callVi (cM_goodG hap (XS σ (nx σ p2) rd (gN σ 34 + r.length + 1) wt wn dp td) hg) (lw_V q2229 q2231 qs61 q136 q2232) iX8_isGood rfl KX8 MH_m rfl rfl (by decide) (by decide) (Nat.le_of_ble_eq_true rfl) dX8_never_90 ?_
                refine vn_if_ne (tgt := 97) dX8_never_93 rfl (by decide) (fun c93 => ?_) (fun c93 => ?_)
                · refine v_aload_n (i := 0) dX8_never_97 rfl rfl ?_
                  refine mg_readScope rfl dX8_never_98 ?_
                  refine v_aload_n (i := 0) dX8_never_101 rfl rfl ?_
                  refine mg_readLaws rfl dX8_never_102 ?_
                  refine v_iload_n (i := 2) dX8_never_105 rfl rfl ?_
                  refine ms_readScope hap (show gN σ 32 < 12 by omega) dX8_never_106 ?_
                  refine v_aload_n (i := 0) dX8_never_107 rfl rfl ?_
                  refine mg_readLawAt rfl dX8_never_108 ?_
                  refine v_aload_n (i := 0) dX8_never_111 rfl rfl ?_
                  refine mg_readLaws rfl dX8_never_112 ?_
                  refine v_iload_n (i := 1) dX8_never_115 rfl rfl ?_
                  refine ms_readLawAt hap (show gN σ 32 < 12 by omega) dX8_never_116 ?_
                  refine v_aload_n (i := 0) dX8_never_117 rfl rfl ?_
                  refine v_dup dX8_never_118 rfl ?_
                  refine mg_readLaws rfl dX8_never_119 ?_
                  refine v_iconst (v := nI 1) dX8_never_122 k_iconst_1 ?_
                  refine vn_iadd dX8_never_123 ?_
                  refine mp_readLaws rfl dX8_never_124 ?_
                  exact v_vret rfl dX8_never_127 (by
                      have E : neverE (tq σ) (gA σ 40) (gN σ 30) (gN σ 29) (gN σ 32) p = .ok (nx σ p2, f, 1) := (if_neg c6).trans ((andT_ok hz).trans (if_pos (show kwT (tq σ p2) = 13 by omega)))
                      have g1 := nx_ge hP hp2
                      exact ⟨rfl, fun _ _ _ e => (by rw [E] at e; cases e; exact ⟨y22, by decide, rd, r, wt, wn, dp, td, rfl, hpn, hSm, hlow, by omega⟩), fun k q e => (by rw [E] at e; cases e)⟩)
                · exact absurd c93 (by decide)
      · obtain ⟨ke, qe, hz⟩ := er_of h27
        obtain ⟨hk1, hk2, hqe, rd, tp, wt, wn, dp, td, rfl⟩ := hn ke qe hz
        refine v_istore_n (i := 1) dX8_never_30 rfl (by decide) rfl ?_
        refine v_iconst (v := -1) dX8_never_31 k_iconst_m1 ?_
        refine v_istore_n (i := 2) dX8_never_32 rfl (by decide) rfl ?_
        refine v_aload_n (i := 0) dX8_never_33 rfl rfl ?_
        refine v_callVi (cM_kwX hap (flt σ ke (tq σ qe 24)) hP qe hqe rd tp wt wn dp td) (lw_V q2215 q2217 qs59 q136 q2218) iX8_knownWord rfl KX8 MH_m rfl rfl (by decide) (by decide) (Nat.le_of_ble_eq_true rfl) dX8_never_34 ?_
        refine v_istore_n (i := 3) dX8_never_37 rfl (by decide) rfl ?_
        refine v_aload_n (i := 0) dX8_never_38 rfl rfl ?_
        refine v_callVi (cM_goodB hap (XS (flt σ ke (tq σ qe 24)) qe rd tp wt wn dp td) hk2 hk1) (lw_V q2229 q2231 qs61 q136 q2232) iX8_isGood rfl KX8 MH_m rfl rfl (by decide) (by decide) (Nat.le_of_ble_eq_true rfl) dX8_never_39 ?_
        refine vn_if_eq (tgt := 89) dX8_never_42 rfl (by decide) (fun c42 => ?_) (fun c42 => ?_)
        · refine v_aload_n (i := 0) dX8_never_89 rfl rfl ?_
          refine v_callVi (cM_goodB hap (XS (flt σ ke (tq σ qe 24)) qe rd tp wt wn dp td) hk2 hk1) (lw_V q2229 q2231 qs61 q136 q2232) iX8_isGood rfl KX8 MH_m rfl rfl (by decide) (by decide) (Nat.le_of_ble_eq_true rfl) dX8_never_90 ?_
          refine vn_if_ne (tgt := 97) dX8_never_93 rfl (by decide) (fun c93 => ?_) (fun c93 => ?_)
          · exact absurd rfl c93
          · exact v_vret rfl dX8_never_96 (by
                have E : neverE (tq σ) (gA σ 40) (gN σ 30) (gN σ 29) (gN σ 32) p = .error (ke, qe) := (if_neg c6).trans (andT_er hz)
                exact ⟨rfl, fun _ _ _ e => (by rw [E] at e; cases e), fun k q e => (by rw [E] at e; cases e; exact ⟨hk1, hk2, hqe, _, _, _, _, _, _, rfl⟩)⟩)
        · exact absurd rfl c42
    · exact absurd c18 (by decide)
  · have c6 : gN σ 32 = 12 := c6
    refine v_aload_n (i := 0) dX8_never_9 rfl rfl ?_
    refine v_iconst (v := nI 2) dX8_never_10 k_iconst_2 ?_
    refine v_callVv (cM_wrongG hap (TS σ p) 2 hg) (lw_V q2233 q2235 qs62 q136 q2236) iX8_wrong rfl KX8 MH_m rfl rfl (by decide) (by decide) (Nat.le_of_ble_eq_true rfl) dX8_never_11 ?_
    refine v_aload_n (i := 0) dX8_never_14 rfl rfl ?_
    refine v_callVi (cM_goodB hap (flt (TS σ p) 2 (gN (TS σ p) 24)) (show ¬ 2 = 0 by decide) (show 2 < 2147483648 by decide)) (lw_V q2229 q2231 qs61 q136 q2232) iX8_isGood rfl KX8 MH_m rfl rfl (by decide) (by decide) (Nat.le_of_ble_eq_true rfl) dX8_never_15 ?_
    refine vn_if_ne (tgt := 22) dX8_never_18 rfl (by decide) (fun c18 => ?_) (fun c18 => ?_)
    · exact absurd rfl c18
    · exact v_vret rfl dX8_never_21 (by
          have E : neverE (tq σ) (gA σ 40) (gN σ 30) (gN σ 29) (gN σ 32) p = .error (2, p) := if_pos c6
          exact ⟨rfl, fun _ _ _ e => (by rw [E] at e; cases e), fun k q e => (by rw [E] at e; cases e; exact ⟨by decide, by decide, hp, _, _, _, _, _, _, congrArg (fun τ => MH m ad τ η0) ((congrArg (fun τ => flt τ 2 (tq σ p 24)) (XS_self σ p)).trans (flt_XS σ p _ _ _ _ _ _ 2 (tq σ p 24)))⟩)⟩)
