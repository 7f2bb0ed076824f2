theorem foldE_congr {g h : Nat → Nat → Nat} : ∀ {n e a : Nat}, (∀ i b, e ≤ i → i < e + n → g i b = h i b) → foldE g n e a = foldE h n e a
  | 0, e, a, _ => rfl
  | n + 1, e, a, hh => by
    unfold foldE
    rw [hh e a (Nat.le_refl _) (by omega)]
    exact foldE_congr (fun i b h1 h2 => hh i b (by omega) (by omega))
theorem wyF_congr {X : XT} {f g : Nat → Nat} (hw : XW X) (h : ∀ j, j < xn X → f j = g j) : ∀ {d k : Nat}, k < xn X → wyF X f d k = wyF X g d k
  | 0, k, hk => rfl
  | d + 1, k, hk => by
    unfold wyF
    have hm := hw.2.2.2.1 k hk
    refine foldE_congr (fun i b h1 h2 => ?_)
    have hj := hw.ej hk (show i < xfs X (k + 1) by omega)
    rw [h _ hj, wyF_congr hw h hj]
theorem foldE_le {g : Nat → Nat → Nat} {M : Nat} (hg : ∀ e a, a ≤ M → g e a ≤ M) : ∀ {n e a : Nat}, a ≤ M → foldE g n e a ≤ M
  | 0, e, a, h => h
  | n + 1, e, a, h => by
    show foldE g n (e + 1) (g e a) ≤ M
    exact foldE_le hg (hg e a h)
theorem wyF_le (X : XT) (f : Nat → Nat) : ∀ d k, wyF X f d k ≤ 1000000000
  | 0, k => by show 1 ≤ _; decide
  | d + 1, k => by
    unfold wyF
    refine foldE_le (fun e a h => ?_) (Nat.zero_le _)
    split
    · exact capA_le h
    · exact h
theorem cA_ways {G : Gl} {m : Nat} {ad : Nat → Nat} {η0 : AH} (hap : Mp m ad) (σ : MS) {rt : Td → Nat} (A : AS) (hG : MG rt σ A) : Ct G yX8_ways cX8_ways 4 (some .int) 9 0 0 [.ref m] (MH m ad σ η0) (ap rt m ad η0 (some (spWays A)) A) := by
  refine Ct.start rfl rfl (Nat.le_of_ble_eq_true rfl) (fun Γ => ?_)
  refine v_aload_n (i := 0) dX8_ways_0 rfl rfl ?_
  refine v_iconst (v := nI 0) dX8_ways_1 k_iconst_0 ?_
  refine mp_thrown rfl dX8_ways_2 ?_
  refine v_aload_n (i := 0) dX8_ways_5 rfl rfl ?_
  refine v_callVI (kc' := 0) (ks' := 0) (cM_finds hap (sN σ 0 0) A.1 hG.1) (lw_V q2390 q2392 qs90 q136 q2393) iX8_finds rfl KX8 MH_m rfl rfl (by decide) (by decide) (Nat.le_of_ble_eq_true rfl) (by decide) (by decide) dX8_ways_6 (fun x_ η' h => ?_)
  obtain ⟨σ2, rfl, g1, g2, g3, g4, g5, g6, g7, g8⟩ := h
  have hMF2 : MF σ2 A.1 := ⟨g1.mi hG.1.1, g3, g2, by omega, g5, fun _ => g6⟩
  have hG2 : MG rt σ2 A := MG.keep (σ := sN σ 0 0) hG hMF2 g1.q
  have h00 : gN σ2 0 = 0 := g1.1 0 (by decide) (by decide) (by decide) (by decide) (by decide)
  cases hx : expl (c0T A.1)
  · obtain rfl := g7 hx
    refine vn_if_ne (tgt := 15) dX8_ways_9 rfl (by decide) (fun c9 => ?_) (fun c9 => ?_)
    · exact absurd rfl c9
    · refine v_bipush (v := -2) dX8_ways_12 k_bipush_m2 ?_
      exact v_iret rfl dX8_ways_14 (by
          have E : spWays A = -2 := by unfold spWays; rw [hx]
          rw [E]
          exact ⟨_, rfl, σ2, rfl, hG2, fun q => (by cases q), fun v q => (by cases q; exact ⟨rfl, h00⟩)⟩)
  · rename_i X
    obtain rfl := g8 X hx
    have hw := expl_w hx
    obtain ⟨f1, hX, hF, hEQ, hf3⟩ := g6.2 X hx
    have hds : ∀ k, k < xn X → gA σ2 59 k = d0T A.1 X k := fun k hk => dsF_eq hw (fun _ => by decide) hEQ hk
    have hn2 := hw.2.1
    have hn1 := hw.1
    have hne := hw.2.2.1
    have h54 := hX.1
    refine vn_if_ne (tgt := 15) dX8_ways_9 rfl (by decide) (fun c9 => ?_) (fun c9 => ?_)
    · refine v_aload_n (i := 0) dX8_ways_15 rfl rfl ?_
      refine mg_toGoal rfl dX8_ways_16 ?_
      refine v_iconst (v := nI 0) dX8_ways_19 k_iconst_0 ?_
      refine ml_toGoal hap (by decide) dX8_ways_20 ?_
      refine v_iconst (v := -1) dX8_ways_21 k_iconst_m1 ?_
      refine vo_icmp_ne (tgt := 27) dX8_ways_22 rfl (show gA σ2 59 0 < _ by have := hf3 0 (by omega); omega) (fun c22 => ?_) (fun c22 => ?_)
      · have c22 : ¬ gA σ2 59 0 = 0 := c22
        have hf0 := hf3 0 (by omega)
        generalize hf : gA σ2 59 = f at *
        generalize hRV : spWays A = RV
        have hRV2 : RV = nI (wyF X f (f 0 - 1) 0) := by
          rw [← hRV]
          unfold spWays
          rw [hx]
          dsimp only
          rw [if_neg (by rw [← hds 0 (by omega)]; exact c22), ← hds 0 (by omega), wyF_congr hw hds (by omega)]
        have L29 : ∀ (n d : Nat) (g : Nat → Nat) (z2 z3 : Option Value), d + n = f 0 → (∀ k, k < xn X → f k ≠ 0 → f k ≤ d → g k = wyF X f (f k - 1) k) → V G Γ yX8_ways cX8_ways 4 (some .int) [] 9 (ap rt m ad η0 (some RV) A) 0 0 (MH m ad (stA σ2 77 g) η0) 29 [some (.ref m), some (.int (nI d)), z2, z3] [] := by
          intro n
          induction n with
          | zero =>
            intro d g z2 z3 hdn hg
            refine v_iload_n (i := 1) dX8_ways_29 rfl rfl ?_
            refine v_aload_n (i := 0) dX8_ways_30 rfl rfl ?_
            refine mg_toGoal rfl dX8_ways_31 ?_
            refine v_iconst (v := nI 0) dX8_ways_34 k_iconst_0 ?_
            refine ml_toGoal hap (by decide) dX8_ways_35 ?_
            refine v_top (show _ = nI (f 0 - 1) by show oI (gA σ2 59 0) = _; rw [hf]; exact oI_n (by omega)) ?_
            refine vn_icmp_gt (tgt := 192) dX8_ways_36 rfl (by omega) (by omega) (fun c36 => ?_) (fun c36 => ?_)
            · refine v_aload_n (i := 0) dX8_ways_192 rfl rfl ?_
              refine mg_waysOf rfl dX8_ways_193 ?_
              refine v_iconst (v := nI 0) dX8_ways_196 k_iconst_0 ?_
              refine ml_waysOf hap (by decide) dX8_ways_197 ?_
              exact v_iret rfl dX8_ways_198 ⟨_, rfl, _, rfl, hG2, fun q => (by cases q), fun v q => (by cases q; exact ⟨by rw [hRV2]; exact congrArg nI (hg 0 (by omega) c22 (by omega)), h00⟩)⟩
            · omega
          | succ n ih =>
            intro d g z2 z3 hdn hg
            have L41 : ∀ (q k : Nat) (g : Nat → Nat) (z3 : Option Value), k + q = xn X → (∀ j, j < xn X → f j ≠ 0 → f j ≤ d → g j = wyF X f (f j - 1) j) → (∀ j, j < k → f j = d + 1 → g j = wyF X f d j) → V G Γ yX8_ways cX8_ways 4 (some .int) [] 9 (ap rt m ad η0 (some RV) A) 0 0 (MH m ad (stA σ2 77 g) η0) 41 [some (.ref m), some (.int (nI d)), some (.int (nI k)), z3] [] := by
              intro q
              induction q with
              | zero =>
                intro k g z3 hkq hg hg2
                have ek : k = xn X := by omega
                subst ek
                refine v_iload_n (i := 2) dX8_ways_41 rfl rfl ?_
                refine v_aload_n (i := 0) dX8_ways_42 rfl rfl ?_
                refine mg_states rfl dX8_ways_43 ?_
                refine vn_icmp_ge (tgt := 186) dX8_ways_46 rfl (by omega) (show gN σ2 54 < _ by omega) (fun c46 => ?_) (fun c46 => ?_)
                · refine vn_iinc 1 dX8_ways_186 rfl k_iconst_1 (by decide) rfl ?_
                  refine v_goto (tgt := 29) dX8_ways_189 rfl ?_
                  exact ih (d + 1) g _ _ (by omega) (fun j hj h1 h2 => by by_cases y : f j = d + 1; (rw [y]; exact hg2 j hj y); exact hg j hj h1 (by omega))
                · exact absurd (show xn X < gN σ2 54 from c46) (by omega)
              | succ q ihq =>
                intro k g z3 hkq hg hg2
                have hk : k < xn X := by omega
                have hfk := hf3 k hk
                have hF1 := hF k (by omega)
                have hF2 := hF (k + 1) (by omega)
                have hs1 := hw.2.2.2.1 k hk
                have hs2 := hw.2.2.2.2.1 (k + 1) (by omega)
                have L84 : ∀ (p e a : Nat) (g' : Nat → Nat), e + p = xfs X (k + 1) → xfs X k ≤ e → f k = d + 1 → g' k = a → a ≤ 1000000000 → (∀ j, j ≠ k → g' j = g j) → ((d = 0 ∧ a = 1) ∨ (1 ≤ d ∧ foldE (fun e a => if f (xej X e) = d - 1 + 1 then capA a (wyF X f (d - 1) (xej X e)) else a) p e a = wyF X f d k)) → V G Γ yX8_ways cX8_ways 4 (some .int) [] 9 (ap rt m ad η0 (some RV) A) 0 0 (MH m ad (stA σ2 77 g') η0) 84 [some (.ref m), some (.int (nI d)), some (.int (nI k)), some (.int (nI e))] [] := by
                  intro p
                  induction p with
                  | zero =>
                    intro e a g' hep hle hfd hga ha hgo hfo
                    refine v_iload_n (i := 3) dX8_ways_84 rfl rfl ?_
                    refine v_aload_n (i := 0) dX8_ways_85 rfl rfl ?_
                    refine mg_firstOf rfl dX8_ways_86 ?_
                    refine v_iload_n (i := 2) dX8_ways_89 rfl rfl ?_
                    refine v_iconst (v := nI 1) dX8_ways_90 k_iconst_1 ?_
                    refine vn_iadd dX8_ways_91 ?_
                    refine ml_firstOf hap (show k + 1 < 2002 by omega) dX8_ways_92 ?_
                    refine v_top (show _ = nI (xfs X (k + 1)) from congrArg nI hF2) ?_
                    refine vn_icmp_ge (tgt := 180) dX8_ways_93 rfl (by omega) (by omega) (fun c93 => ?_) (fun c93 => ?_)
                    · refine vn_iinc 1 dX8_ways_180 rfl k_iconst_1 (by decide) rfl ?_
                      refine v_goto (tgt := 41) dX8_ways_183 rfl ?_
                      exact ihq (k + 1) g' _ (by omega) (fun j hj2 h1 h2 => by rw [hgo j (fun y => by rw [y] at h2; omega)]; exact hg j hj2 h1 h2) (fun j hj2 h1 => by by_cases y : j = k; (rw [y, hga]; exact (hfo.elim (fun w => by rw [w.1, w.2]; rfl) (fun w => w.2))); (rw [hgo j y]; exact hg2 j (by omega) h1))
                    · omega
                  | succ p ihp =>
                    intro e a g' hep hle hfd hga ha hgo hfo
                    have he : e < xe X := by omega
                    have hj := hw.2.2.2.2.2 e he
                    obtain ⟨s1, s2, s3, s4, s5, s6, s7, s8⟩ := hX.2.2.2.2.2 e he
                    have hfj := hf3 _ hj
                    have hwl := wyF_le X f (d - 1) (xej X e)
                    refine v_iload_n (i := 3) dX8_ways_84 rfl rfl ?_
                    refine v_aload_n (i := 0) dX8_ways_85 rfl rfl ?_
                    refine mg_firstOf rfl dX8_ways_86 ?_
                    refine v_iload_n (i := 2) dX8_ways_89 rfl rfl ?_
                    refine v_iconst (v := nI 1) dX8_ways_90 k_iconst_1 ?_
                    refine vn_iadd dX8_ways_91 ?_
                    refine ml_firstOf hap (show k + 1 < 2002 by omega) dX8_ways_92 ?_
                    refine v_top (show _ = nI (xfs X (k + 1)) from congrArg nI hF2) ?_
                    refine vn_icmp_ge (tgt := 180) dX8_ways_93 rfl (by omega) (by omega) (fun c93 => ?_) (fun c93 => ?_)
                    · omega
                    · refine v_iload_n (i := 1) dX8_ways_96 rfl rfl ?_
                      refine vn_if_le (tgt := 180) dX8_ways_97 rfl (by omega) (fun c97 => ?_) (fun c97 => ?_)
                      · refine vn_iinc 1 dX8_ways_180 rfl k_iconst_1 (by decide) rfl ?_
                        refine v_goto (tgt := 41) dX8_ways_183 rfl ?_
                        exact ihq (k + 1) g' _ (by omega) (fun j hj2 h1 h2 => by rw [hgo j (fun y => by rw [y] at h2; omega)]; exact hg j hj2 h1 h2) (fun j hj2 h1 => by by_cases y : j = k; (rw [y, hga]; exact (hfo.elim (fun w => by rw [w.1, w.2]; rfl) (fun w => absurd w.1 (by omega)))); (rw [hgo j y]; exact hg2 j (by omega) h1))
                      · refine v_aload_n (i := 0) dX8_ways_100 rfl rfl ?_
                        refine mg_toGoal rfl dX8_ways_101 ?_
                        refine v_aload_n (i := 0) dX8_ways_104 rfl rfl ?_
                        refine mg_edgeState rfl dX8_ways_105 ?_
                        refine v_iload_n (i := 3) dX8_ways_108 rfl rfl ?_
                        refine ml_edgeState hap (show e < 40001 by omega) dX8_ways_109 ?_
                        refine v_top (show _ = nI (xej X e) from congrArg nI s4) ?_
                        refine ml_toGoal hap (show xej X e < 2001 by omega) dX8_ways_110 ?_
                        refine v_top (show _ = oI (f (xej X e)) from congrArg oI (congrFun hf _)) ?_
                        refine v_iload_n (i := 1) dX8_ways_111 rfl rfl ?_
                        refine v_iconst (v := nI 1) dX8_ways_112 k_iconst_1 ?_
                        refine vn_isub (by omega) dX8_ways_113 ?_
                        refine von_icmp_eq (tgt := 120) dX8_ways_114 rfl (show f (xej X e) < _ by omega) (by omega) (fun c114 => ?_) (fun c114 => ?_)
                        · have hgj : g' (xej X e) = wyF X f (d - 1) (xej X e) := by rw [hgo _ (fun y => by rw [y] at c114; omega), hg _ hj (by omega) (by omega), show f (xej X e) - 1 = d - 1 by omega]
                          refine v_aload_n (i := 0) dX8_ways_120 rfl rfl ?_
                          refine mg_waysOf rfl dX8_ways_121 ?_
                          refine v_iload_n (i := 2) dX8_ways_124 rfl rfl ?_
                          refine v_ldcw (v := nI 1000000000) q2473 dX8_ways_125 ?_
                          refine v_aload_n (i := 0) dX8_ways_128 rfl rfl ?_
                          refine mg_waysOf rfl dX8_ways_129 ?_
                          refine v_iload_n (i := 2) dX8_ways_132 rfl rfl ?_
                          refine ml_waysOf hap (show k < 2001 by omega) dX8_ways_133 ?_
                          refine v_top (show _ = nI a from congrArg nI hga) ?_
                          refine vn_isub ha dX8_ways_134 ?_
                          refine v_aload_n (i := 0) dX8_ways_135 rfl rfl ?_
                          refine mg_waysOf rfl dX8_ways_136 ?_
                          refine v_aload_n (i := 0) dX8_ways_139 rfl rfl ?_
                          refine mg_edgeState rfl dX8_ways_140 ?_
                          refine v_iload_n (i := 3) dX8_ways_143 rfl rfl ?_
                          refine ml_edgeState hap (show e < 40001 by omega) dX8_ways_144 ?_
                          refine v_top (show _ = nI (xej X e) from congrArg nI s4) ?_
                          refine ml_waysOf hap (show xej X e < 2001 by omega) dX8_ways_145 ?_
                          refine v_top (show _ = nI (wyF X f (d - 1) (xej X e)) from congrArg nI hgj) ?_
                          refine vn_icmp_ge (tgt := 155) dX8_ways_146 rfl (by omega) (by omega) (fun c146 => ?_) (fun c146 => ?_)
                          · refine v_aload_n (i := 0) dX8_ways_155 rfl rfl ?_
                            refine mg_waysOf rfl dX8_ways_156 ?_
                            refine v_iload_n (i := 2) dX8_ways_159 rfl rfl ?_
                            refine ml_waysOf hap (show k < 2001 by omega) dX8_ways_160 ?_
                            refine v_top (show _ = nI a from congrArg nI hga) ?_
                            refine v_aload_n (i := 0) dX8_ways_161 rfl rfl ?_
                            refine mg_waysOf rfl dX8_ways_162 ?_
                            refine v_aload_n (i := 0) dX8_ways_165 rfl rfl ?_
                            refine mg_edgeState rfl dX8_ways_166 ?_
                            refine v_iload_n (i := 3) dX8_ways_169 rfl rfl ?_
                            refine ml_edgeState hap (show e < 40001 by omega) dX8_ways_170 ?_
                            refine v_top (show _ = nI (xej X e) from congrArg nI s4) ?_
                            refine ml_waysOf hap (show xej X e < 2001 by omega) dX8_ways_171 ?_
                            refine v_top (show _ = nI (wyF X f (d - 1) (xej X e)) from congrArg nI hgj) ?_
                            refine vn_iadd dX8_ways_172 ?_
                            refine ms_waysOf hap (show k < 2001 by omega) dX8_ways_173 ?_
                            refine vn_iinc 1 dX8_ways_174 rfl k_iconst_1 (by decide) rfl ?_
                            refine v_goto (tgt := 84) dX8_ways_177 rfl ?_
                            have hfo2 := (hfo.resolve_left (fun w => by omega)).2
                            have hfo2 : foldE _ p (e + 1) (if f (xej X e) = d - 1 + 1 then capA a (wyF X f (d - 1) (xej X e)) else a) = _ := hfo2
                            rw [if_pos c114] at hfo2
                            rw [sA_stA]
                            exact ihp (e + 1) (capA a (wyF X f (d - 1) (xej X e))) _ (by omega) (by omega) hfd (by rw [va_up_e]; unfold capA; rw [if_neg (by omega)]) (capA_le ha) (fun j hj2 => by rw [va_up_n hj2]; exact hgo j hj2) (Or.inr ⟨by omega, hfo2⟩)
                          · refine v_ldcw (v := nI 1000000000) q2473 dX8_ways_149 ?_
                            refine v_goto (tgt := 173) dX8_ways_152 rfl ?_
                            refine ms_waysOf hap (show k < 2001 by omega) dX8_ways_173 ?_
                            refine vn_iinc 1 dX8_ways_174 rfl k_iconst_1 (by decide) rfl ?_
                            refine v_goto (tgt := 84) dX8_ways_177 rfl ?_
                            have hfo2 := (hfo.resolve_left (fun w => by omega)).2
                            have hfo2 : foldE _ p (e + 1) (if f (xej X e) = d - 1 + 1 then capA a (wyF X f (d - 1) (xej X e)) else a) = _ := hfo2
                            rw [if_pos c114] at hfo2
                            rw [sA_stA]
                            exact ihp (e + 1) (capA a (wyF X f (d - 1) (xej X e))) _ (by omega) (by omega) hfd (by rw [va_up_e]; unfold capA; rw [if_pos (by omega)]) (capA_le ha) (fun j hj2 => by rw [va_up_n hj2]; exact hgo j hj2) (Or.inr ⟨by omega, hfo2⟩)
                        · refine v_goto (tgt := 174) dX8_ways_117 rfl ?_
                          refine vn_iinc 1 dX8_ways_174 rfl k_iconst_1 (by decide) rfl ?_
                          refine v_goto (tgt := 84) dX8_ways_177 rfl ?_
                          have hfo2 := (hfo.resolve_left (fun w => by omega)).2
                          have hfo2 : foldE _ p (e + 1) (if f (xej X e) = d - 1 + 1 then capA a (wyF X f (d - 1) (xej X e)) else a) = _ := hfo2
                          rw [if_neg c114] at hfo2
                          exact ihp (e + 1) a g' (by omega) (by omega) hfd hga ha hgo (Or.inr ⟨by omega, hfo2⟩)
                refine v_iload_n (i := 2) dX8_ways_41 rfl rfl ?_
                refine v_aload_n (i := 0) dX8_ways_42 rfl rfl ?_
                refine mg_states rfl dX8_ways_43 ?_
                refine vn_icmp_ge (tgt := 186) dX8_ways_46 rfl (by omega) (show gN σ2 54 < _ by omega) (fun c46 => ?_) (fun c46 => ?_)
                · exact absurd (show gN σ2 54 ≤ k from c46) (by omega)
                · refine v_aload_n (i := 0) dX8_ways_49 rfl rfl ?_
                  refine mg_toGoal rfl dX8_ways_50 ?_
                  refine v_iload_n (i := 2) dX8_ways_53 rfl rfl ?_
                  refine ml_toGoal hap (show k < 2001 by omega) dX8_ways_54 ?_
                  refine v_top (show _ = oI (f k) from congrArg oI (congrFun hf k)) ?_
                  refine v_iload_n (i := 1) dX8_ways_55 rfl rfl ?_
                  refine von_icmp_eq (tgt := 62) dX8_ways_56 rfl (show f k < _ by omega) (by omega) (fun c56 => ?_) (fun c56 => ?_)
                  · refine v_aload_n (i := 0) dX8_ways_62 rfl rfl ?_
                    refine mg_waysOf rfl dX8_ways_63 ?_
                    refine v_iload_n (i := 2) dX8_ways_66 rfl rfl ?_
                    refine v_iload_n (i := 1) dX8_ways_67 rfl rfl ?_
                    refine vn_if_ne (tgt := 75) dX8_ways_68 rfl (by omega) (fun c68 => ?_) (fun c68 => ?_)
                    · refine v_iconst (v := nI 0) dX8_ways_75 k_iconst_0 ?_
                      refine ms_waysOf hap (show k < 2001 by omega) dX8_ways_76 ?_
                      refine v_aload_n (i := 0) dX8_ways_77 rfl rfl ?_
                      refine mg_firstOf rfl dX8_ways_78 ?_
                      refine v_iload_n (i := 2) dX8_ways_81 rfl rfl ?_
                      refine ml_firstOf hap (show k < 2002 by omega) dX8_ways_82 ?_
                      refine v_top (show _ = nI (xfs X k) from congrArg nI hF1) ?_
                      refine v_istore_n (i := 3) dX8_ways_83 rfl (by decide) rfl ?_
                      rw [sA_stA]
                      exact L84 (xfs X (k + 1) - xfs X k) (xfs X k) 0 (va_up g k 0) (by omega) (Nat.le_refl _) c56 va_up_e (by decide) (fun j hj2 => va_up_n hj2) (Or.inr ⟨by omega, by have e : d = d - 1 + 1 := (by omega); rw [show wyF X f d k = wyF X f (d - 1 + 1) k by rw [← e]]; rfl⟩)
                    · refine v_iconst (v := nI 1) dX8_ways_71 k_iconst_1 ?_
                      refine v_goto (tgt := 76) dX8_ways_72 rfl ?_
                      refine ms_waysOf hap (show k < 2001 by omega) dX8_ways_76 ?_
                      refine v_aload_n (i := 0) dX8_ways_77 rfl rfl ?_
                      refine mg_firstOf rfl dX8_ways_78 ?_
                      refine v_iload_n (i := 2) dX8_ways_81 rfl rfl ?_
                      refine ml_firstOf hap (show k < 2002 by omega) dX8_ways_82 ?_
                      refine v_top (show _ = nI (xfs X k) from congrArg nI hF1) ?_
                      refine v_istore_n (i := 3) dX8_ways_83 rfl (by decide) rfl ?_
                      rw [sA_stA]
                      exact L84 (xfs X (k + 1) - xfs X k) (xfs X k) 1 (va_up g k 1) (by omega) (Nat.le_refl _) c56 va_up_e (by decide) (fun j hj2 => va_up_n hj2) (Or.inl ⟨c68, rfl⟩)
                  · refine v_goto (tgt := 180) dX8_ways_59 rfl ?_
                    refine vn_iinc 1 dX8_ways_180 rfl k_iconst_1 (by decide) rfl ?_
                    refine v_goto (tgt := 41) dX8_ways_183 rfl ?_
                    exact ihq (k + 1) g _ (by omega) hg (fun j hj2 h1 => by by_cases y : j = k; (rw [y] at h1; exact absurd h1 c56); exact hg2 j (by omega) h1)
            refine v_iload_n (i := 1) dX8_ways_29 rfl rfl ?_
            refine v_aload_n (i := 0) dX8_ways_30 rfl rfl ?_
            refine mg_toGoal rfl dX8_ways_31 ?_
            refine v_iconst (v := nI 0) dX8_ways_34 k_iconst_0 ?_
            refine ml_toGoal hap (by decide) dX8_ways_35 ?_
            refine v_top (show _ = nI (f 0 - 1) by show oI (gA σ2 59 0) = _; rw [hf]; exact oI_n (by omega)) ?_
            refine vn_icmp_gt (tgt := 192) dX8_ways_36 rfl (by omega) (by omega) (fun c36 => ?_) (fun c36 => ?_)
            · omega
            · refine v_iconst (v := nI 0) dX8_ways_39 k_iconst_0 ?_
              refine v_istore_n (i := 2) dX8_ways_40 rfl (by decide) rfl ?_
              exact L41 (xn X) 0 g _ (by omega) hg (fun j hj => absurd hj (by omega))
        refine v_iconst (v := nI 0) dX8_ways_27 k_iconst_0 ?_
        refine v_istore_n (i := 1) dX8_ways_28 rfl (by decide) rfl ?_
        have L0 := L29 (f 0) 0 (gA σ2 77) none none (by omega) (fun k _ h1 h2 => absurd h2 (by omega))
        rw [stA_self] at L0
        exact L0
      · have c22 : gA σ2 59 0 = 0 := c22
        refine v_iconst (v := nI 0) dX8_ways_25 k_iconst_0 ?_
        exact v_iret rfl dX8_ways_26 (by
            have E : spWays A = nI 0 := by unfold spWays; rw [hx]; dsimp only; rw [if_pos (by rw [← hds 0 (by omega)]; exact c22)]
            rw [E]
            exact ⟨_, rfl, σ2, rfl, hG2, fun q => (by cases q), fun v q => (by cases q; exact ⟨rfl, h00⟩)⟩)
    · exact absurd c9 (by decide)
