theorem cM_thing {G : Gl} {m : Nat} {ad : Nat → Nat} {η0 : AH} (hap : Mp m ad) (σ : MS) (hP : PO σ) (p : Nat) (hp : p ≤ gN σ 21) (hg : gN σ 19 = 0) (hT : gN σ 30 ≤ 8) (hl : ∀ t, t < 8 → gA σ 40 t < 2147483648) : Ct G yX8_thing cX8_thing 4 none 5 0 0 [.ref m] (MH m ad (TS σ p) η0) (rv fun η => (∀ k q, thingE (tq σ) (gA σ 40) (gN σ 30) p = .error (k, q) → η = MH m ad (flt (TS σ q) k (tq σ q 24)) η0) ∧ ∀ h l s p2, thingE (tq σ) (gA σ 40) (gN σ 30) p = .ok (h, l, s, p2) → η = MH m ad (sN (sA (sA (sA (TS σ p2) 40 (gN σ 30) h) 38 (gN σ 30) l) 39 (gN σ 30) s) 30 (gN σ 30 + 1)) η0) := by
  refine Ct.start rfl rfl (Nat.le_of_ble_eq_true rfl) (fun Γ => ?_)
  obtain ⟨-, b23, b24, b25, b26, b27, b28⟩ := tq_b hP (tq_b hP hp).1
  have hnm := nmF_le (gA σ 40) (tq σ (nx σ p) 27) (gN σ 30) 0
  refine v_aload_n (i := 0) dX8_thing_0 rfl rfl ?_
  refine mg_readThings rfl dX8_thing_1 ?_
  refine v_bipush (v := nI 8) dX8_thing_4 k_bipush_8 ?_
  refine vn_icmp_ne (tgt := 14) dX8_thing_6 rfl (show gN σ 30 < _ by omega) (by decide) (fun c6 => ?_) (fun c6 => ?_)
  · have c6 : ¬ gN σ 30 = 8 := c6
    refine v_aload_n (i := 0) dX8_thing_14 rfl rfl ?_
    refine v_callVi (cM_goodG hap (TS σ p) hg) (lw_V q2229 q2231 qs61 q136 q2232) iX8_isGood rfl KX8 MH_m rfl rfl (by decide) (by decide) (Nat.le_of_ble_eq_true rfl) dX8_thing_15 ?_
    refine vn_if_ne (tgt := 22) dX8_thing_18 rfl (by decide) (fun c18 => ?_) (fun c18 => ?_)
    · refine v_aload_n (i := 0) dX8_thing_22 rfl rfl ?_
      refine v_callVv (cM_goesT hap σ hP p hp) (lw_V q2201 q2203 qs57 q136 q2204) iX8_goes rfl KX8 MH_m rfl rfl (by decide) (by decide) (Nat.le_of_ble_eq_true rfl) dX8_thing_23 ?_
      refine v_aload_n (i := 0) dX8_thing_26 rfl rfl ?_
      refine mg_sort rfl dX8_thing_27 ?_
      refine v_iconst (v := nI 1) dX8_thing_30 k_iconst_1 ?_
      refine vn_icmp_ne (tgt := 42) dX8_thing_31 rfl (show tq σ (nx σ p) 23 < _ by omega) (by decide) (fun c31 => ?_) (fun c31 => ?_)
      · have c31 : ¬ tq σ (nx σ p) 23 = 1 := c31
        refine v_aload_n (i := 0) dX8_thing_42 rfl rfl ?_
        refine v_iconst (v := nI 1) dX8_thing_43 k_iconst_1 ?_
        refine v_callVv (cM_wrongG hap (TS σ (nx σ p)) 1 hg) (lw_V q2233 q2235 qs62 q136 q2236) iX8_wrong rfl KX8 MH_m rfl rfl (by decide) (by decide) (Nat.le_of_ble_eq_true rfl) dX8_thing_44 ?_
        refine v_goto (tgt := 67) dX8_thing_47 rfl ?_
        refine v_aload_n (i := 0) dX8_thing_67 rfl rfl ?_
        refine v_callVi (cM_goodB hap (flt (TS σ (nx σ p)) (1) (tq σ (nx σ p) 24)) (show ¬ 1 = 0 by decide) (show 1 < 2147483648 by decide)) (lw_V q2229 q2231 qs61 q136 q2232) iX8_isGood rfl KX8 MH_m rfl rfl (by decide) (by decide) (Nat.le_of_ble_eq_true rfl) dX8_thing_68 ?_
        refine vn_if_ne (tgt := 75) dX8_thing_71 rfl (by decide) (fun c71 => ?_) (fun c71 => ?_)
        · exact absurd rfl c71
        · exact v_vret rfl dX8_thing_74 (by
              have E : thingE (tq σ) (gA σ 40) (gN σ 30) p = _ := (Eq.trans (if_neg c6) (Eq.trans (if_pos (fun z => c31 z.1)) rfl))
              exact ⟨rfl, fun k q e => (by rw [E] at e; cases e; rfl), fun _ _ _ _ e => (by rw [E] at e; cases e)⟩)
      · have c31 : tq σ (nx σ p) 23 = 1 := c31
        refine v_aload_n (i := 0) dX8_thing_34 rfl rfl ?_
        refine mg_long0 rfl dX8_thing_35 ?_
        refine v_iconst (v := nI 1) dX8_thing_38 k_iconst_1 ?_
        refine vn_icmp_eq (tgt := 50) dX8_thing_39 rfl (show tq σ (nx σ p) 25 < _ by omega) (by decide) (fun c39 => ?_) (fun c39 => ?_)
        · have c39 : tq σ (nx σ p) 25 = 1 := c39
          refine v_aload_n (i := 0) dX8_thing_50 rfl rfl ?_
          refine v_aload_n (i := 0) dX8_thing_51 rfl rfl ?_
          refine mg_sign rfl dX8_thing_52 ?_
          refine v_callVi (cM_named hap (TS σ (nx σ p)) (tq σ (nx σ p) 27) (by omega) hT hl) (lw_V q2249 q2251 qs66 q136 q2252) iX8_named rfl KX8 MH_m rfl rfl (by decide) (by decide) (Nat.le_of_ble_eq_true rfl) dX8_thing_55 ?_
          refine v_iconst (v := -1) dX8_thing_58 k_iconst_m1 ?_
          refine vo_icmp_eq (tgt := 67) dX8_thing_59 rfl (show nmF (gA σ 40) (tq σ (nx σ p) 27) (gN σ 30) 0 < _ by omega) (fun c59 => ?_) (fun c59 => ?_)
          · have c59 : nmF (gA σ 40) (tq σ (nx σ p) 27) (gN σ 30) 0 = 0 := c59
            refine v_aload_n (i := 0) dX8_thing_67 rfl rfl ?_
            refine v_callVi (cM_goodG hap (TS σ (nx σ p)) hg) (lw_V q2229 q2231 qs61 q136 q2232) iX8_isGood rfl KX8 MH_m rfl rfl (by decide) (by decide) (Nat.le_of_ble_eq_true rfl) dX8_thing_68 ?_
            refine vn_if_ne (tgt := 75) dX8_thing_71 rfl (by decide) (fun c71 => ?_) (fun c71 => ?_)
            · refine v_aload_n (i := 0) dX8_thing_75 rfl rfl ?_
              refine mg_sign rfl dX8_thing_76 ?_
              refine v_istore_n (i := 1) dX8_thing_79 rfl (by decide) rfl ?_
              refine v_aload_n (i := 0) dX8_thing_80 rfl rfl ?_
              refine v_callVv (cM_goesT hap σ hP (nx σ p) (tq_b hP hp).1) (lw_V q2201 q2203 qs57 q136 q2204) iX8_goes rfl KX8 MH_m rfl rfl (by decide) (by decide) (Nat.le_of_ble_eq_true rfl) dX8_thing_81 ?_
              refine v_aload_n (i := 0) dX8_thing_84 rfl rfl ?_
              refine v_bipush (v := nI 7) dX8_thing_85 k_bipush_7 ?_
              refine v_callVv (cM_need hap σ hP (nx σ (nx σ p)) (tq_b hP (tq_b hP hp).1).1 hg 7 (by decide)) (lw_V q2253 q2255 qs67 q136 q2256) iX8_need rfl KX8 MH_m rfl rfl (by decide) (by decide) (Nat.le_of_ble_eq_true rfl) dX8_thing_87 ?_
              by_cases h87 : kwT (tq σ (nx σ (nx σ p))) = 7 + 1
              · rw [if_pos h87]
                refine v_aload_n (i := 0) dX8_thing_90 rfl rfl ?_
                refine v_iconst (v := nI 0) dX8_thing_91 k_iconst_0 ?_
                refine v_bipush (v := nI 99) dX8_thing_92 k_bipush_99 ?_
                refine v_callVi (cM_number hap σ hP (nx σ (nx σ (nx σ p))) (tq_b hP (tq_b hP (tq_b hP hp).1).1).1 hg 0 99 (by decide) (by decide)) (lw_V q2225 q2227 qs60 q136 q2228) iX8_number rfl KX8 MH_m rfl rfl (by decide) (by decide) (Nat.le_of_ble_eq_true rfl) dX8_thing_94 ?_
                by_cases h94 : numE (tq σ (nx σ (nx σ (nx σ p)))) 0 99 = 0
                · rw [if_pos h94]
                  refine v_istore_n (i := 2) dX8_thing_97 rfl (by decide) rfl ?_
                  refine v_iconst (v := nI 0) dX8_thing_98 k_iconst_0 ?_
                  refine v_istore_n (i := 3) dX8_thing_99 rfl (by decide) rfl ?_
                  refine v_aload_n (i := 0) dX8_thing_100 rfl rfl ?_
                  refine v_callVi (cM_goodG hap (TS σ (nx σ (nx σ (nx σ (nx σ p))))) hg) (lw_V q2229 q2231 qs61 q136 q2232) iX8_isGood rfl KX8 MH_m rfl rfl (by decide) (by decide) (Nat.le_of_ble_eq_true rfl) dX8_thing_101 ?_
                  refine vn_if_eq (tgt := 128) dX8_thing_104 rfl (by decide) (fun c104 => ?_) (fun c104 => ?_)
                  · exact absurd c104 (by decide)
                  · refine v_aload_n (i := 0) dX8_thing_107 rfl rfl ?_
                    refine v_callVi (cM_knownWord hap (TS σ (nx σ (nx σ (nx σ (nx σ p))))) (show tq σ (nx σ (nx σ (nx σ (nx σ p)))) 23 < _ by have := (tq_b hP (tq_b hP (tq_b hP (tq_b hP (tq_b hP hp).1).1).1).1).2.1; omega) (show tq σ (nx σ (nx σ (nx σ (nx σ p)))) 25 < _ by have := (tq_b hP (tq_b hP (tq_b hP (tq_b hP (tq_b hP hp).1).1).1).1).2.2.2.1; omega) (tq_b hP (tq_b hP (tq_b hP (tq_b hP (tq_b hP hp).1).1).1).1).2.2.2.2.2.2) (lw_V q2215 q2217 qs59 q136 q2218) iX8_knownWord rfl KX8 MH_m rfl rfl (by decide) (by decide) (Nat.le_of_ble_eq_true rfl) dX8_thing_108 ?_
                    refine v_bipush (v := nI 8) dX8_thing_111 k_bipush_8 ?_
                    refine von_icmp_ne (tgt := 128) dX8_thing_113 rfl (show kwT (tq σ (nx σ (nx σ (nx σ (nx σ p))))) < _ by have := kwT_le (tq σ (nx σ (nx σ (nx σ (nx σ p))))); omega) (by decide) (fun c113 => ?_) (fun c113 => ?_)
                    · have c113 : ¬ kwT (tq σ (nx σ (nx σ (nx σ (nx σ p))))) = 9 := c113
                      refine v_aload_n (i := 0) dX8_thing_128 rfl rfl ?_
                      refine v_callVi (cM_goodG hap (TS σ (nx σ (nx σ (nx σ (nx σ p))))) hg) (lw_V q2229 q2231 qs61 q136 q2232) iX8_isGood rfl KX8 MH_m rfl rfl (by decide) (by decide) (Nat.le_of_ble_eq_true rfl) dX8_thing_129 ?_
                      refine vn_if_ne (tgt := 136) dX8_thing_132 rfl (by decide) (fun c132 => ?_) (fun c132 => ?_)
                      · refine v_aload_n (i := 0) dX8_thing_136 rfl rfl ?_
                        refine mg_readLetter rfl dX8_thing_137 ?_
                        refine v_aload_n (i := 0) dX8_thing_140 rfl rfl ?_
                        refine mg_readThings rfl dX8_thing_141 ?_
                        refine v_iload_n (i := 1) dX8_thing_144 rfl rfl ?_
                        refine ms_readLetter hap (show gN σ 30 < 8 by omega) dX8_thing_145 ?_
                        refine v_aload_n (i := 0) dX8_thing_146 rfl rfl ?_
                        refine mg_readWeight rfl dX8_thing_147 ?_
                        refine v_aload_n (i := 0) dX8_thing_150 rfl rfl ?_
                        refine mg_readThings rfl dX8_thing_151 ?_
                        refine v_iload_n (i := 2) dX8_thing_154 rfl rfl ?_
                        refine ms_readWeight hap (show gN σ 30 < 8 by omega) dX8_thing_155 ?_
                        refine v_aload_n (i := 0) dX8_thing_156 rfl rfl ?_
                        refine mg_readMinutes rfl dX8_thing_157 ?_
                        refine v_aload_n (i := 0) dX8_thing_160 rfl rfl ?_
                        refine mg_readThings rfl dX8_thing_161 ?_
                        refine v_iload_n (i := 3) dX8_thing_164 rfl rfl ?_
                        refine ms_readMinutes hap (show gN σ 30 < 8 by omega) dX8_thing_165 ?_
                        refine v_aload_n (i := 0) dX8_thing_166 rfl rfl ?_
                        refine v_dup dX8_thing_167 rfl ?_
                        refine mg_readThings rfl dX8_thing_168 ?_
                        refine v_iconst (v := nI 1) dX8_thing_171 k_iconst_1 ?_
                        refine vn_iadd dX8_thing_172 ?_
                        refine mp_readThings rfl dX8_thing_173 ?_
                        exact v_vret rfl dX8_thing_176 (by
                            have E : thingE (tq σ) (gA σ 40) (gN σ 30) p = _ := (Eq.trans (if_neg c6) (Eq.trans (if_neg (fun z => z ⟨c31, c39⟩)) (Eq.trans (if_neg (fun z => z c59)) (Eq.trans (andT_ok (eNeed_ok h87)) (Eq.trans (andT_ok (eNum_ok h94)) (Eq.trans (if_neg c113) rfl))))))
                            exact ⟨rfl, fun k q e => (by rw [E] at e; cases e), fun _ _ _ _ e => (by rw [E] at e; cases e; rfl)⟩)
                      · exact absurd c132 (by decide)
                    · have c113 : kwT (tq σ (nx σ (nx σ (nx σ (nx σ p))))) = 9 := c113
                      refine v_aload_n (i := 0) dX8_thing_116 rfl rfl ?_
                      refine v_callVv (cM_goesT hap σ hP (nx σ (nx σ (nx σ (nx σ p)))) (tq_b hP (tq_b hP (tq_b hP (tq_b hP hp).1).1).1).1) (lw_V q2201 q2203 qs57 q136 q2204) iX8_goes rfl KX8 MH_m rfl rfl (by decide) (by decide) (Nat.le_of_ble_eq_true rfl) dX8_thing_117 ?_
                      refine v_aload_n (i := 0) dX8_thing_120 rfl rfl ?_
                      refine v_iconst (v := nI 1) dX8_thing_121 k_iconst_1 ?_
                      refine v_bipush (v := nI 99) dX8_thing_122 k_bipush_99 ?_
                      refine v_callVi (cM_number hap σ hP (nx σ (nx σ (nx σ (nx σ (nx σ p))))) (tq_b hP (tq_b hP (tq_b hP (tq_b hP (tq_b hP hp).1).1).1).1).1 hg 1 99 (by decide) (by decide)) (lw_V q2225 q2227 qs60 q136 q2228) iX8_number rfl KX8 MH_m rfl rfl (by decide) (by decide) (Nat.le_of_ble_eq_true rfl) dX8_thing_124 ?_
                      by_cases h124 : numE (tq σ (nx σ (nx σ (nx σ (nx σ (nx σ p)))))) 1 99 = 0
                      · rw [if_pos h124]
                        refine v_istore_n (i := 3) dX8_thing_127 rfl (by decide) rfl ?_
                        refine v_aload_n (i := 0) dX8_thing_128 rfl rfl ?_
                        refine v_callVi (cM_goodG hap (TS σ (nx σ (nx σ (nx σ (nx σ (nx σ (nx σ p))))))) hg) (lw_V q2229 q2231 qs61 q136 q2232) iX8_isGood rfl KX8 MH_m rfl rfl (by decide) (by decide) (Nat.le_of_ble_eq_true rfl) dX8_thing_129 ?_
                        refine vn_if_ne (tgt := 136) dX8_thing_132 rfl (by decide) (fun c132 => ?_) (fun c132 => ?_)
                        · refine v_aload_n (i := 0) dX8_thing_136 rfl rfl ?_
                          refine mg_readLetter rfl dX8_thing_137 ?_
                          refine v_aload_n (i := 0) dX8_thing_140 rfl rfl ?_
                          refine mg_readThings rfl dX8_thing_141 ?_
                          refine v_iload_n (i := 1) dX8_thing_144 rfl rfl ?_
                          refine ms_readLetter hap (show gN σ 30 < 8 by omega) dX8_thing_145 ?_
                          refine v_aload_n (i := 0) dX8_thing_146 rfl rfl ?_
                          refine mg_readWeight rfl dX8_thing_147 ?_
                          refine v_aload_n (i := 0) dX8_thing_150 rfl rfl ?_
                          refine mg_readThings rfl dX8_thing_151 ?_
                          refine v_iload_n (i := 2) dX8_thing_154 rfl rfl ?_
                          refine ms_readWeight hap (show gN σ 30 < 8 by omega) dX8_thing_155 ?_
                          refine v_aload_n (i := 0) dX8_thing_156 rfl rfl ?_
                          refine mg_readMinutes rfl dX8_thing_157 ?_
                          refine v_aload_n (i := 0) dX8_thing_160 rfl rfl ?_
                          refine mg_readThings rfl dX8_thing_161 ?_
                          refine v_iload_n (i := 3) dX8_thing_164 rfl rfl ?_
                          refine ms_readMinutes hap (show gN σ 30 < 8 by omega) dX8_thing_165 ?_
                          refine v_aload_n (i := 0) dX8_thing_166 rfl rfl ?_
                          refine v_dup dX8_thing_167 rfl ?_
                          refine mg_readThings rfl dX8_thing_168 ?_
                          refine v_iconst (v := nI 1) dX8_thing_171 k_iconst_1 ?_
                          refine vn_iadd dX8_thing_172 ?_
                          refine mp_readThings rfl dX8_thing_173 ?_
                          exact v_vret rfl dX8_thing_176 (by
                              have E : thingE (tq σ) (gA σ 40) (gN σ 30) p = _ := (Eq.trans (if_neg c6) (Eq.trans (if_neg (fun z => z ⟨c31, c39⟩)) (Eq.trans (if_neg (fun z => z c59)) (Eq.trans (andT_ok (eNeed_ok h87)) (Eq.trans (andT_ok (eNum_ok h94)) (Eq.trans (if_pos c113) (Eq.trans (andT_ok (eNum_ok h124)) rfl)))))))
                              exact ⟨rfl, fun k q e => (by rw [E] at e; cases e), fun _ _ _ _ e => (by rw [E] at e; cases e; rfl)⟩)
                        · exact absurd c132 (by decide)
                      · rw [if_neg h124]
                        have g124 := numE_le (tq σ (nx σ (nx σ (nx σ (nx σ (nx σ p)))))) 1 99
                        refine v_istore_n (i := 3) dX8_thing_127 rfl (by decide) rfl ?_
                        refine v_aload_n (i := 0) dX8_thing_128 rfl rfl ?_
                        refine v_callVi (cM_goodB hap (flt (TS σ (nx σ (nx σ (nx σ (nx σ (nx σ p)))))) (numE (tq σ (nx σ (nx σ (nx σ (nx σ (nx σ p)))))) 1 99) (tq σ (nx σ (nx σ (nx σ (nx σ (nx σ p))))) 24)) (show ¬ numE (tq σ (nx σ (nx σ (nx σ (nx σ (nx σ p)))))) 1 99 = 0 from h124) (show numE (tq σ (nx σ (nx σ (nx σ (nx σ (nx σ p)))))) 1 99 < 2147483648 by omega)) (lw_V q2229 q2231 qs61 q136 q2232) iX8_isGood rfl KX8 MH_m rfl rfl (by decide) (by decide) (Nat.le_of_ble_eq_true rfl) dX8_thing_129 ?_
                        refine vn_if_ne (tgt := 136) dX8_thing_132 rfl (by decide) (fun c132 => ?_) (fun c132 => ?_)
                        · exact absurd rfl c132
                        · exact v_vret rfl dX8_thing_135 (by
                              have E : thingE (tq σ) (gA σ 40) (gN σ 30) p = _ := (Eq.trans (if_neg c6) (Eq.trans (if_neg (fun z => z ⟨c31, c39⟩)) (Eq.trans (if_neg (fun z => z c59)) (Eq.trans (andT_ok (eNeed_ok h87)) (Eq.trans (andT_ok (eNum_ok h94)) (Eq.trans (if_pos c113) (Eq.trans (andT_er (eNum_er h124)) rfl)))))))
                              exact ⟨rfl, fun k q e => (by rw [E] at e; cases e; rfl), fun _ _ _ _ e => (by rw [E] at e; cases e)⟩)
                · rw [if_neg h94]
                  have g94 := numE_le (tq σ (nx σ (nx σ (nx σ p)))) 0 99
                  refine v_istore_n (i := 2) dX8_thing_97 rfl (by decide) rfl ?_
                  refine v_iconst (v := nI 0) dX8_thing_98 k_iconst_0 ?_
                  refine v_istore_n (i := 3) dX8_thing_99 rfl (by decide) rfl ?_
                  refine v_aload_n (i := 0) dX8_thing_100 rfl rfl ?_
                  refine v_callVi (cM_goodB hap (flt (TS σ (nx σ (nx σ (nx σ p)))) (numE (tq σ (nx σ (nx σ (nx σ p)))) 0 99) (tq σ (nx σ (nx σ (nx σ p))) 24)) (show ¬ numE (tq σ (nx σ (nx σ (nx σ p)))) 0 99 = 0 from h94) (show numE (tq σ (nx σ (nx σ (nx σ p)))) 0 99 < 2147483648 by omega)) (lw_V q2229 q2231 qs61 q136 q2232) iX8_isGood rfl KX8 MH_m rfl rfl (by decide) (by decide) (Nat.le_of_ble_eq_true rfl) dX8_thing_101 ?_
                  refine vn_if_eq (tgt := 128) dX8_thing_104 rfl (by decide) (fun c104 => ?_) (fun c104 => ?_)
                  · refine v_aload_n (i := 0) dX8_thing_128 rfl rfl ?_
                    refine v_callVi (cM_goodB hap (flt (TS σ (nx σ (nx σ (nx σ p)))) (numE (tq σ (nx σ (nx σ (nx σ p)))) 0 99) (tq σ (nx σ (nx σ (nx σ p))) 24)) (show ¬ numE (tq σ (nx σ (nx σ (nx σ p)))) 0 99 = 0 from h94) (show numE (tq σ (nx σ (nx σ (nx σ p)))) 0 99 < 2147483648 by omega)) (lw_V q2229 q2231 qs61 q136 q2232) iX8_isGood rfl KX8 MH_m rfl rfl (by decide) (by decide) (Nat.le_of_ble_eq_true rfl) dX8_thing_129 ?_
                    refine vn_if_ne (tgt := 136) dX8_thing_132 rfl (by decide) (fun c132 => ?_) (fun c132 => ?_)
                    · exact absurd rfl c132
                    · exact v_vret rfl dX8_thing_135 (by
                          have E : thingE (tq σ) (gA σ 40) (gN σ 30) p = _ := (Eq.trans (if_neg c6) (Eq.trans (if_neg (fun z => z ⟨c31, c39⟩)) (Eq.trans (if_neg (fun z => z c59)) (Eq.trans (andT_ok (eNeed_ok h87)) (Eq.trans (andT_er (eNum_er h94)) rfl)))))
                          exact ⟨rfl, fun k q e => (by rw [E] at e; cases e; rfl), fun _ _ _ _ e => (by rw [E] at e; cases e)⟩)
                  · exact absurd rfl c104
              · rw [if_neg h87]
                refine v_aload_n (i := 0) dX8_thing_90 rfl rfl ?_
                refine v_iconst (v := nI 0) dX8_thing_91 k_iconst_0 ?_
                refine v_bipush (v := nI 99) dX8_thing_92 k_bipush_99 ?_
                refine v_callVi (cM_numberB hap (flt (TS σ (nx σ (nx σ p))) (1) (tq σ (nx σ (nx σ p)) 24)) (show ¬ 1 = 0 by decide) (show 1 < 2147483648 by decide) 0 99) (lw_V q2225 q2227 qs60 q136 q2228) iX8_number rfl KX8 MH_m rfl rfl (by decide) (by decide) (Nat.le_of_ble_eq_true rfl) dX8_thing_94 ?_
                refine v_istore_n (i := 2) dX8_thing_97 rfl (by decide) rfl ?_
                refine v_iconst (v := nI 0) dX8_thing_98 k_iconst_0 ?_
                refine v_istore_n (i := 3) dX8_thing_99 rfl (by decide) rfl ?_
                refine v_aload_n (i := 0) dX8_thing_100 rfl rfl ?_
                refine v_callVi (cM_goodB hap (flt (TS σ (nx σ (nx σ p))) (1) (tq σ (nx σ (nx σ p)) 24)) (show ¬ 1 = 0 by decide) (show 1 < 2147483648 by decide)) (lw_V q2229 q2231 qs61 q136 q2232) iX8_isGood rfl KX8 MH_m rfl rfl (by decide) (by decide) (Nat.le_of_ble_eq_true rfl) dX8_thing_101 ?_
                refine vn_if_eq (tgt := 128) dX8_thing_104 rfl (by decide) (fun c104 => ?_) (fun c104 => ?_)
                · refine v_aload_n (i := 0) dX8_thing_128 rfl rfl ?_
                  refine v_callVi (cM_goodB hap (flt (TS σ (nx σ (nx σ p))) (1) (tq σ (nx σ (nx σ p)) 24)) (show ¬ 1 = 0 by decide) (show 1 < 2147483648 by decide)) (lw_V q2229 q2231 qs61 q136 q2232) iX8_isGood rfl KX8 MH_m rfl rfl (by decide) (by decide) (Nat.le_of_ble_eq_true rfl) dX8_thing_129 ?_
                  refine vn_if_ne (tgt := 136) dX8_thing_132 rfl (by decide) (fun c132 => ?_) (fun c132 => ?_)
                  · exact absurd rfl c132
                  · exact v_vret rfl dX8_thing_135 (by
                        have E : thingE (tq σ) (gA σ 40) (gN σ 30) p = _ := (Eq.trans (if_neg c6) (Eq.trans (if_neg (fun z => z ⟨c31, c39⟩)) (Eq.trans (if_neg (fun z => z c59)) (Eq.trans (andT_er (eNeed_er h87)) rfl))))
                        exact ⟨rfl, fun k q e => (by rw [E] at e; cases e; rfl), fun _ _ _ _ e => (by rw [E] at e; cases e)⟩)
                · exact absurd rfl c104
            · exact absurd c71 (by decide)
          · have c59 : ¬ nmF (gA σ 40) (tq σ (nx σ p) 27) (gN σ 30) 0 = 0 := c59
            refine v_aload_n (i := 0) dX8_thing_62 rfl rfl ?_
            refine v_iconst (v := nI 5) dX8_thing_63 k_iconst_5 ?_
            refine v_callVv (cM_wrongG hap (TS σ (nx σ p)) 5 hg) (lw_V q2233 q2235 qs62 q136 q2236) iX8_wrong rfl KX8 MH_m rfl rfl (by decide) (by decide) (Nat.le_of_ble_eq_true rfl) dX8_thing_64 ?_
            refine v_aload_n (i := 0) dX8_thing_67 rfl rfl ?_
            refine v_callVi (cM_goodB hap (flt (TS σ (nx σ p)) (5) (tq σ (nx σ p) 24)) (show ¬ 5 = 0 by decide) (show 5 < 2147483648 by decide)) (lw_V q2229 q2231 qs61 q136 q2232) iX8_isGood rfl KX8 MH_m rfl rfl (by decide) (by decide) (Nat.le_of_ble_eq_true rfl) dX8_thing_68 ?_
            refine vn_if_ne (tgt := 75) dX8_thing_71 rfl (by decide) (fun c71 => ?_) (fun c71 => ?_)
            · exact absurd rfl c71
            · exact v_vret rfl dX8_thing_74 (by
                  have E : thingE (tq σ) (gA σ 40) (gN σ 30) p = _ := (Eq.trans (if_neg c6) (Eq.trans (if_neg (fun z => z ⟨c31, c39⟩)) (Eq.trans (if_pos c59) rfl)))
                  exact ⟨rfl, fun k q e => (by rw [E] at e; cases e; rfl), fun _ _ _ _ e => (by rw [E] at e; cases e)⟩)
        · have c39 : ¬ tq σ (nx σ p) 25 = 1 := c39
          refine v_aload_n (i := 0) dX8_thing_42 rfl rfl ?_
          refine v_iconst (v := nI 1) dX8_thing_43 k_iconst_1 ?_
          refine v_callVv (cM_wrongG hap (TS σ (nx σ p)) 1 hg) (lw_V q2233 q2235 qs62 q136 q2236) iX8_wrong rfl KX8 MH_m rfl rfl (by decide) (by decide) (Nat.le_of_ble_eq_true rfl) dX8_thing_44 ?_
          refine v_goto (tgt := 67) dX8_thing_47 rfl ?_
          refine v_aload_n (i := 0) dX8_thing_67 rfl rfl ?_
          refine v_callVi (cM_goodB hap (flt (TS σ (nx σ p)) (1) (tq σ (nx σ p) 24)) (show ¬ 1 = 0 by decide) (show 1 < 2147483648 by decide)) (lw_V q2229 q2231 qs61 q136 q2232) iX8_isGood rfl KX8 MH_m rfl rfl (by decide) (by decide) (Nat.le_of_ble_eq_true rfl) dX8_thing_68 ?_
          refine vn_if_ne (tgt := 75) dX8_thing_71 rfl (by decide) (fun c71 => ?_) (fun c71 => ?_)
          · exact absurd rfl c71
          · exact v_vret rfl dX8_thing_74 (by
                have E : thingE (tq σ) (gA σ 40) (gN σ 30) p = _ := (Eq.trans (if_neg c6) (Eq.trans (if_pos (fun z => c39 z.2)) rfl))
                exact ⟨rfl, fun k q e => (by rw [E] at e; cases e; rfl), fun _ _ _ _ e => (by rw [E] at e; cases e)⟩)
    · exact absurd c18 (by decide)
  · have c6 : gN σ 30 = 8 := c6
    refine v_aload_n (i := 0) dX8_thing_9 rfl rfl ?_
    refine v_iconst (v := nI 2) dX8_thing_10 k_iconst_2 ?_
    refine v_callVv (cM_wrongG hap (TS σ p) 2 hg) (lw_V q2233 q2235 qs62 q136 q2236) iX8_wrong rfl KX8 MH_m rfl rfl (by decide) (by decide) (Nat.le_of_ble_eq_true rfl) dX8_thing_11 ?_
    refine v_aload_n (i := 0) dX8_thing_14 rfl rfl ?_
    refine v_callVi (cM_goodB hap (flt (TS σ p) (2) (tq σ p 24)) (show ¬ 2 = 0 by decide) (show 2 < 2147483648 by decide)) (lw_V q2229 q2231 qs61 q136 q2232) iX8_isGood rfl KX8 MH_m rfl rfl (by decide) (by decide) (Nat.le_of_ble_eq_true rfl) dX8_thing_15 ?_
    refine vn_if_ne (tgt := 22) dX8_thing_18 rfl (by decide) (fun c18 => ?_) (fun c18 => ?_)
    · exact absurd rfl c18
    · exact v_vret rfl dX8_thing_21 (by
          have E : thingE (tq σ) (gA σ 40) (gN σ 30) p = _ := (Eq.trans (if_pos c6) rfl)
          exact ⟨rfl, fun k q e => (by rw [E] at e; cases e; rfl), fun _ _ _ _ e => (by rw [E] at e; cases e)⟩)
