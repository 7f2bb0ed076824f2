abbrev glT (τ : Td) (X : XT) : Nat → Prop := fun k => goalT τ (xst X k)
def FSA (σ : MS) (X : XT) : Prop := ∀ j, j ≤ xn X → gA σ 57 j = xfs X j
theorem cM_measures {G : Gl} {m : Nat} {ad : Nat → Nat} {η0 : AH} (hap : Mp m ad) (σ : MS) (τ : Td) (hd ld : Nat → Nat) (w : Nat) (hW : WX σ τ hd ld w) (X : XT) (hX : XM σ X) (hw : XW X) (hF : FSA σ X) : Ct G yX8_measures cX8_measures 6 none 3 0 0 [.ref m] (MH m ad σ η0) (rv fun η => ∃ f, η = MH m ad (stA σ 59 f) η0 ∧ EQd X (glT τ X) (fun _ => 1) f ∧ ∀ k, k < xn X → f k ≤ 2003) := by
  refine Ct.start rfl rfl (Nat.le_of_ble_eq_true rfl) (fun Γ => ?_)
  have hn2 := hw.2.1
  have hne := hw.2.2.1
  have h54 := hX.1
  have hfs : ∀ k, k < xn X → xfs X k ≤ xfs X (k + 1) ∧ xfs X (k + 1) ≤ xe X := fun k hk => ⟨hw.2.2.2.1 k hk, hw.2.2.2.2.1 (k + 1) (by omega)⟩
  have L63 : ∀ (M d mv : Nat) (f : Nat → Nat) (z3 z4 z5 : Option Value), (xn X - cntN f (xn X)) + mv = M → d + M ≤ 2003 → 1 ≤ d → mv < 2 → BFi X (glT τ X) d f → (mv = 0 → ∀ k, k < xn X → f k ≠ d) → V G Γ yX8_measures cX8_measures 6 none [] 3 (rv fun η => ∃ f, η = MH m ad (stA σ 59 f) η0 ∧ EQd X (glT τ X) (fun _ => 1) f ∧ ∀ k, k < xn X → f k ≤ 2003) 0 0 (MH m ad (stA σ 59 f) η0) 63 [some (.ref m), some (.int (nI mv)), some (.int (nI d)), z3, z4, z5] [] := by
    intro M
    induction M using Nat.strongRecOn with
    | _ M ihM =>
      intro d mv f z3 z4 z5 hM hdM hd1 hmv hB hv
      have hcl := cntN_le f (xn X)
      refine v_iload_n (i := 1) dX8_measures_63 rfl rfl ?_
      refine vn_if_eq (tgt := 181) dX8_measures_64 rfl (by omega) (fun c64 => ?_) (fun c64 => ?_)
      · exact v_vret rfl dX8_measures_181 ⟨rfl, f, rfl, BFi.done hw hB (hv c64), fun k hk => (by have := hB.2.1 k hk; omega)⟩
      · have c64 : mv = 1 := by omega
        have L71 : ∀ (n k m2 : Nat) (f' : Nat → Nat) (z4 z5 : Option Value), k + n = xn X → BFr X d k f f' → m2 < 2 → cntN f (xn X) + m2 ≤ cntN f' (xn X) → (m2 = 0 → ∀ j, j < k → f' j ≠ d + 1) → V G Γ yX8_measures cX8_measures 6 none [] 3 (rv fun η => ∃ f, η = MH m ad (stA σ 59 f) η0 ∧ EQd X (glT τ X) (fun _ => 1) f ∧ ∀ k, k < xn X → f k ≤ 2003) 0 0 (MH m ad (stA σ 59 f') η0) 71 [some (.ref m), some (.int (nI m2)), some (.int (nI d)), some (.int (nI k)), z4, z5] [] := by
          intro n
          induction n with
          | zero =>
            intro k m2 f' z4 z5 hkn hr hm2 hcn hz
            have ek : k = xn X := by omega
            subst ek
            refine v_iload_n (i := 3) dX8_measures_71 rfl rfl ?_
            refine v_aload_n (i := 0) dX8_measures_72 rfl rfl ?_
            refine mg_states rfl dX8_measures_73 ?_
            refine vn_icmp_ge (tgt := 175) dX8_measures_76 rfl (by omega) (show gN σ 54 < _ by omega) (fun c76 => ?_) (fun c76 => ?_)
            · refine vn_iinc 1 dX8_measures_175 rfl k_iconst_1 (by decide) rfl ?_
              refine v_goto (tgt := 63) dX8_measures_178 rfl ?_
              exact ihM ((xn X - cntN f' (xn X)) + m2) (by have := cntN_le f' (xn X); omega) (d + 1) m2 f' _ _ _ rfl (by have := cntN_le f' (xn X); omega) (by omega) hm2 (hB.next hw hd1 hr) (fun q j hj => hz q j hj)
            · exact absurd (show xn X < gN σ 54 from c76) (by omega)
          | succ n ih =>
            intro k m2 f' z4 z5 hkn hr hm2 hcn hz
            have hk : k < xn X := by omega
            have hF1 := hF k (by omega)
            have hF2 := hF (k + 1) (by omega)
            obtain ⟨hs1, hs2⟩ := hfs k hk
            have hfk : f' k = f k := hr.1 k (Nat.le_refl _) hk
            have hfd := hB.2.1 k hk
            have L103 : ∀ (q e iv : Nat), e + q = xfs X (k + 1) → xfs X k ≤ e → f k = 0 → ((iv = 0 ∧ ∀ e', xfs X k ≤ e' → e' < e → f (xej X e') ≠ d) ∨ (iv = 1 ∧ ∃ e', xfs X k ≤ e' ∧ e' < xfs X (k + 1) ∧ f (xej X e') = d)) → V G Γ yX8_measures cX8_measures 6 none [] 3 (rv fun η => ∃ f, η = MH m ad (stA σ 59 f) η0 ∧ EQd X (glT τ X) (fun _ => 1) f ∧ ∀ k, k < xn X → f k ≤ 2003) 0 0 (MH m ad (stA σ 59 f') η0) 103 [some (.ref m), some (.int (nI m2)), some (.int (nI d)), some (.int (nI k)), some (.int (nI iv)), some (.int (nI e))] [] := by
              intro q
              induction q with
              | zero =>
                intro e iv heq hle hf0 hiv
                have hiv2 : iv < 2 := by omega
                refine v_iload (i := 5) dX8_measures_103 rfl ?_
                refine v_aload_n (i := 0) dX8_measures_105 rfl rfl ?_
                refine mg_firstOf rfl dX8_measures_106 ?_
                refine v_iload_n (i := 3) dX8_measures_109 rfl rfl ?_
                refine v_iconst (v := nI 1) dX8_measures_110 k_iconst_1 ?_
                refine vn_iadd dX8_measures_111 ?_
                refine ml_firstOf hap (show k + 1 < 2002 by omega) dX8_measures_112 ?_
                refine v_top (show _ = nI (xfs X (k + 1)) from congrArg nI hF2) ?_
                refine vn_icmp_ge (tgt := 152) dX8_measures_113 rfl (by omega) (by omega) (fun c113 => ?_) (fun c113 => ?_)
                · refine v_iload (i := 4) dX8_measures_152 rfl ?_
                  refine vn_if_ne (tgt := 160) dX8_measures_154 rfl (by omega) (fun c154 => ?_) (fun c154 => ?_)
                  · refine v_aload_n (i := 0) dX8_measures_160 rfl rfl ?_
                    refine mg_toGoal rfl dX8_measures_161 ?_
                    refine v_iload_n (i := 3) dX8_measures_164 rfl rfl ?_
                    refine v_iload_n (i := 2) dX8_measures_165 rfl rfl ?_
                    refine ms_toGoal_n hap (show k < 2001 by omega) dX8_measures_166 ?_
                    refine v_iconst (v := nI 1) dX8_measures_167 k_iconst_1 ?_
                    refine v_istore_n (i := 1) dX8_measures_168 rfl (by decide) rfl ?_
                    rw [sA_stA]
                    refine vn_iinc 1 dX8_measures_169 rfl k_iconst_1 (by decide) rfl ?_
                    refine v_goto (tgt := 71) dX8_measures_172 rfl ?_
                    exact ih (k + 1) 1 (va_up f' k (d + 1)) _ _ (by omega) (hr.yes hk hf0 (hiv.elim (fun w => absurd w.1 c154) (fun w => w.2))) (by decide) (by have h0 : f' k = 0 := hfk.trans hf0; rw [cntN_up (by omega) h0 hk]; omega) (fun w => absurd w (by decide))
                  · refine v_goto (tgt := 169) dX8_measures_157 rfl ?_
                    refine vn_iinc 1 dX8_measures_169 rfl k_iconst_1 (by decide) rfl ?_
                    refine v_goto (tgt := 71) dX8_measures_172 rfl ?_
                    exact ih (k + 1) m2 f' _ _ (by omega) (hr.no hk hf0 (hiv.elim (fun w e' e1 e2 => w.2 e' e1 (by omega)) (fun w => absurd c154 (by omega)))) hm2 hcn (fun w j hj => by by_cases y : j = k; (subst y; rw [hfk, hf0]; omega); exact hz w j (by omega))
                · omega
              | succ q ihq =>
                intro e iv heq hle hf0 hiv
                have hiv2 : iv < 2 := by omega
                have he : e < xe X := by omega
                have hj := hw.2.2.2.2.2 e he
                have hxe := (hX.2.2.2.2.2 e he).2.2.2.1
                have hfj := hB.2.1 _ hj
                have hfj2 := hr.eq hd1 hj hfj
                refine v_iload (i := 5) dX8_measures_103 rfl ?_
                refine v_aload_n (i := 0) dX8_measures_105 rfl rfl ?_
                refine mg_firstOf rfl dX8_measures_106 ?_
                refine v_iload_n (i := 3) dX8_measures_109 rfl rfl ?_
                refine v_iconst (v := nI 1) dX8_measures_110 k_iconst_1 ?_
                refine vn_iadd dX8_measures_111 ?_
                refine ml_firstOf hap (show k + 1 < 2002 by omega) dX8_measures_112 ?_
                refine v_top (show _ = nI (xfs X (k + 1)) from congrArg nI hF2) ?_
                refine vn_icmp_ge (tgt := 152) dX8_measures_113 rfl (by omega) (by omega) (fun c113 => ?_) (fun c113 => ?_)
                · omega
                · refine v_iload (i := 4) dX8_measures_116 rfl ?_
                  refine vn_if_ne (tgt := 152) dX8_measures_118 rfl (by omega) (fun c118 => ?_) (fun c118 => ?_)
                  · refine v_iload (i := 4) dX8_measures_152 rfl ?_
                    refine vn_if_ne (tgt := 160) dX8_measures_154 rfl (by omega) (fun c154 => ?_) (fun c154 => ?_)
                    · refine v_aload_n (i := 0) dX8_measures_160 rfl rfl ?_
                      refine mg_toGoal rfl dX8_measures_161 ?_
                      refine v_iload_n (i := 3) dX8_measures_164 rfl rfl ?_
                      refine v_iload_n (i := 2) dX8_measures_165 rfl rfl ?_
                      refine ms_toGoal_n hap (show k < 2001 by omega) dX8_measures_166 ?_
                      refine v_iconst (v := nI 1) dX8_measures_167 k_iconst_1 ?_
                      refine v_istore_n (i := 1) dX8_measures_168 rfl (by decide) rfl ?_
                      rw [sA_stA]
                      refine vn_iinc 1 dX8_measures_169 rfl k_iconst_1 (by decide) rfl ?_
                      refine v_goto (tgt := 71) dX8_measures_172 rfl ?_
                      exact ih (k + 1) 1 (va_up f' k (d + 1)) _ _ (by omega) (hr.yes hk hf0 (hiv.elim (fun w => absurd w.1 c154) (fun w => w.2))) (by decide) (by have h0 : f' k = 0 := hfk.trans hf0; rw [cntN_up (by omega) h0 hk]; omega) (fun w => absurd w (by decide))
                    · refine v_goto (tgt := 169) dX8_measures_157 rfl ?_
                      refine vn_iinc 1 dX8_measures_169 rfl k_iconst_1 (by decide) rfl ?_
                      refine v_goto (tgt := 71) dX8_measures_172 rfl ?_
                      exact ih (k + 1) m2 f' _ _ (by omega) (hr.no hk hf0 (hiv.elim (fun w e' e1 e2 => w.2 e' e1 (by omega)) (fun w => absurd c154 (by omega)))) hm2 hcn (fun w j hj => by by_cases y : j = k; (subst y; rw [hfk, hf0]; omega); exact hz w j (by omega))
                  · have fb : f' (xej X e) < 2147483649 := by
                      by_cases y : k ≤ xej X e
                      · rw [hr.1 _ y hj]; omega
                      · obtain ⟨a, b⟩ := hr.2 _ (by omega) hj
                        by_cases y2 : f (xej X e) = 0
                        · rcases b y2 with ⟨-, e5⟩ | ⟨-, e5⟩ <;> omega
                        · rw [a y2]; omega
                    refine v_aload_n (i := 0) dX8_measures_121 rfl rfl ?_
                    refine mg_toGoal rfl dX8_measures_122 ?_
                    refine v_aload_n (i := 0) dX8_measures_125 rfl rfl ?_
                    refine mg_edgeState rfl dX8_measures_126 ?_
                    refine v_iload (i := 5) dX8_measures_129 rfl ?_
                    refine ml_edgeState hap (show e < 40001 by omega) dX8_measures_131 ?_
                    refine v_top (show _ = nI (xej X e) from congrArg nI hxe) ?_
                    refine ml_toGoal hap (show xej X e < 2001 by omega) dX8_measures_132 ?_
                    refine v_iload_n (i := 2) dX8_measures_133 rfl rfl ?_
                    refine v_iconst (v := nI 1) dX8_measures_134 k_iconst_1 ?_
                    refine vn_isub hd1 dX8_measures_135 ?_
                    refine von_icmp_ne (tgt := 143) dX8_measures_136 rfl (show f' (xej X e) < 2147483649 from fb) (by omega) (fun c136 => ?_) (fun c136 => ?_)
                    · have c136 : ¬ f (xej X e) = d := fun w => c136 (show f' (xej X e) = d - 1 + 1 by rw [hfj2.mpr w]; omega)
                      refine v_iconst (v := nI 0) dX8_measures_143 k_iconst_0 ?_
                      refine v_istore (i := 4) dX8_measures_144 (by decide) rfl ?_
                      refine vn_iinc 1 dX8_measures_146 rfl k_iconst_1 (by decide) rfl ?_
                      refine v_goto (tgt := 103) dX8_measures_149 rfl ?_
                      exact ihq (e + 1) 0 (by omega) (by omega) hf0 (Or.inl ⟨rfl, fun e' e1 e2 => by by_cases y : e' = e; (rw [y]; exact c136); exact (hiv.elim (fun w => w.2) (fun w => absurd c118 (by omega))) e' e1 (by omega)⟩)
                    · have c136 : f (xej X e) = d := hfj2.mp (by have : f' (xej X e) = d - 1 + 1 := c136; omega)
                      refine v_iconst (v := nI 1) dX8_measures_139 k_iconst_1 ?_
                      refine v_goto (tgt := 144) dX8_measures_140 rfl ?_
                      refine v_istore (i := 4) dX8_measures_144 (by decide) rfl ?_
                      refine vn_iinc 1 dX8_measures_146 rfl k_iconst_1 (by decide) rfl ?_
                      refine v_goto (tgt := 103) dX8_measures_149 rfl ?_
                      exact ihq (e + 1) 1 (by omega) (by omega) hf0 (Or.inr ⟨rfl, e, hle, by omega, c136⟩)
            refine v_iload_n (i := 3) dX8_measures_71 rfl rfl ?_
            refine v_aload_n (i := 0) dX8_measures_72 rfl rfl ?_
            refine mg_states rfl dX8_measures_73 ?_
            refine vn_icmp_ge (tgt := 175) dX8_measures_76 rfl (by omega) (show gN σ 54 < _ by omega) (fun c76 => ?_) (fun c76 => ?_)
            · exact absurd (show gN σ 54 ≤ k from c76) (by omega)
            · refine v_aload_n (i := 0) dX8_measures_79 rfl rfl ?_
              refine mg_toGoal rfl dX8_measures_80 ?_
              refine v_iload_n (i := 3) dX8_measures_83 rfl rfl ?_
              refine ml_toGoal hap (show k < 2001 by omega) dX8_measures_84 ?_
              refine v_iconst (v := -1) dX8_measures_85 k_iconst_m1 ?_
              refine vo_icmp_eq (tgt := 92) dX8_measures_86 rfl (show f' k < _ by omega) (fun c86 => ?_) (fun c86 => ?_)
              · have c86 : f k = 0 := by rw [← hfk]; exact c86
                refine v_iconst (v := nI 0) dX8_measures_92 k_iconst_0 ?_
                refine v_istore (i := 4) dX8_measures_93 (by decide) rfl ?_
                refine v_aload_n (i := 0) dX8_measures_95 rfl rfl ?_
                refine mg_firstOf rfl dX8_measures_96 ?_
                refine v_iload_n (i := 3) dX8_measures_99 rfl rfl ?_
                refine ml_firstOf hap (show k < 2002 by omega) dX8_measures_100 ?_
                refine v_top (show _ = nI (xfs X k) from congrArg nI hF1) ?_
                refine v_istore (i := 5) dX8_measures_101 (by decide) rfl ?_
                exact L103 (xfs X (k + 1) - xfs X k) (xfs X k) 0 (by omega) (Nat.le_refl _) c86 (Or.inl ⟨rfl, fun e' e1 e2 => absurd e1 (by omega)⟩)
              · have c86 : ¬ f k = 0 := by rw [← hfk]; exact c86
                refine v_goto (tgt := 169) dX8_measures_89 rfl ?_
                refine vn_iinc 1 dX8_measures_169 rfl k_iconst_1 (by decide) rfl ?_
                refine v_goto (tgt := 71) dX8_measures_172 rfl ?_
                exact ih (k + 1) m2 f' _ _ (by omega) (hr.skip hk c86) hm2 hcn (fun w j hj => by by_cases y : j = k; (subst y; rw [hfk]; omega); exact hz w j (by omega))
        refine v_iconst (v := nI 0) dX8_measures_67 k_iconst_0 ?_
        refine v_istore_n (i := 1) dX8_measures_68 rfl (by decide) rfl ?_
        refine v_iconst (v := nI 0) dX8_measures_69 k_iconst_0 ?_
        refine v_istore_n (i := 3) dX8_measures_70 rfl (by decide) rfl ?_
        exact L71 (xn X) 0 0 f _ _ (by omega) ⟨fun j _ _ => rfl, fun j hj => absurd hj (by omega)⟩ (by decide) (Nat.le_refl _) (fun _ j hj => absurd hj (by omega))
  have L4 : ∀ (n k mv : Nat) (f : Nat → Nat), k + n = xn X → mv < 2 → (∀ j, j < k → f j = if glT τ X j then 1 else 0) → (mv = 0 → ∀ j, j < k → ¬ glT τ X j) → V G Γ yX8_measures cX8_measures 6 none [] 3 (rv fun η => ∃ f, η = MH m ad (stA σ 59 f) η0 ∧ EQd X (glT τ X) (fun _ => 1) f ∧ ∀ k, k < xn X → f k ≤ 2003) 0 0 (MH m ad (stA σ 59 f) η0) 4 [some (.ref m), some (.int (nI mv)), some (.int (nI k)), none, none, none] [] := by
    intro n
    induction n with
    | zero =>
      intro k mv f hkn hmv hf hz
      have ek : k = xn X := by omega
      subst ek
      refine v_iload_n (i := 2) dX8_measures_4 rfl rfl ?_
      refine v_aload_n (i := 0) dX8_measures_5 rfl rfl ?_
      refine mg_states rfl dX8_measures_6 ?_
      refine vn_icmp_ge (tgt := 61) dX8_measures_9 rfl (by omega) (show gN σ 54 < _ by omega) (fun c9 => ?_) (fun c9 => ?_)
      · refine v_iconst (v := nI 1) dX8_measures_61 k_iconst_1 ?_
        refine v_istore_n (i := 2) dX8_measures_62 rfl (by decide) rfl ?_
        have h01 : ∀ j, j < xn X → f j ≤ 1 ∧ (f j = 1 ↔ glT τ X j) := fun j hj => by
          have h := hf j hj
          by_cases y : glT τ X j
          · rw [if_pos y] at h
            exact ⟨by omega, fun _ => y, fun _ => h⟩
          · rw [if_neg y] at h
            exact ⟨by omega, fun w => by omega, fun w => absurd w y⟩
        exact L63 _ 1 mv f _ _ _ rfl (by have := cntN_le f (xn X); omega) (by omega) hmv ⟨fun j hj => (h01 j hj).2, fun j hj => (h01 j hj).1, fun j hj w => by have := (h01 j hj).1; omega, fun j hj _ e e1 e2 e3 e4 => by omega⟩ (fun w j hj e => hz w j hj ((h01 j hj).2.mp e))
      · exact absurd (show xn X < gN σ 54 from c9) (by omega)
    | succ n ih =>
      intro k mv f hkn hmv hf hz
      have hk : k < xn X := by omega
      obtain ⟨x1, x2, x3, x4⟩ := hX.2.2.2.2.1 k hk
      refine v_iload_n (i := 2) dX8_measures_4 rfl rfl ?_
      refine v_aload_n (i := 0) dX8_measures_5 rfl rfl ?_
      refine mg_states rfl dX8_measures_6 ?_
      refine vn_icmp_ge (tgt := 61) dX8_measures_9 rfl (by omega) (show gN σ 54 < _ by omega) (fun c9 => ?_) (fun c9 => ?_)
      · exact absurd (show gN σ 54 ≤ k from c9) (by omega)
      · refine v_aload_n (i := 0) dX8_measures_12 rfl rfl ?_
        refine mg_toGoal rfl dX8_measures_13 ?_
        refine v_iload_n (i := 2) dX8_measures_16 rfl rfl ?_
        refine v_aload_n (i := 0) dX8_measures_17 rfl rfl ?_
        refine v_aload_n (i := 0) dX8_measures_18 rfl rfl ?_
        refine mg_stateOf rfl dX8_measures_19 ?_
        refine v_iload_n (i := 2) dX8_measures_22 rfl rfl ?_
        refine ml_stateOf hap (show k < 2001 by omega) dX8_measures_23 ?_
        refine v_top (show _ = nI (xst X k) from congrArg nI x1) ?_
        refine v_callVi (cX_isGoal hap (stA σ 59 f) τ hd ld w hW (xst X k) (by omega)) (lw_V q2439 q2441 qs101 q136 q2442) iX8_isGoal rfl KX8 MH_m rfl rfl (by decide) (by decide) (Nat.le_of_ble_eq_true rfl) dX8_measures_24 ?_
        by_cases h24 : goalT τ (xst X k)
        · rw [if_pos h24]
          refine vn_if_eq (tgt := 34) dX8_measures_27 rfl (by decide) (fun c27 => ?_) (fun c27 => ?_)
          · exact absurd c27 (by decide)
          · refine v_iconst (v := nI 0) dX8_measures_30 k_iconst_0 ?_
            refine v_goto (tgt := 35) dX8_measures_31 rfl ?_
            refine ms_toGoal_n hap (show k < 2001 by omega) dX8_measures_35 ?_
            rw [sA_stA]
            refine v_iload_n (i := 1) dX8_measures_36 rfl rfl ?_
            refine vn_if_ne (tgt := 49) dX8_measures_37 rfl (by omega) (fun c37 => ?_) (fun c37 => ?_)
            · refine v_iconst (v := nI 1) dX8_measures_49 k_iconst_1 ?_
              refine v_goto (tgt := 54) dX8_measures_50 rfl ?_
              refine v_istore_n (i := 1) dX8_measures_54 rfl (by decide) rfl ?_
              refine vn_iinc 1 dX8_measures_55 rfl k_iconst_1 (by decide) rfl ?_
              refine v_goto (tgt := 4) dX8_measures_58 rfl ?_
              exact ih (k + 1) 1 (va_up f k (0 + 1)) (by omega) (by decide) (fun j hj => by by_cases y : j = k; (subst y; rw [va_up_e, if_pos h24]); (rw [va_up_n y]; exact hf j (by omega))) (fun w j hj => absurd w (by decide))
            · refine v_aload_n (i := 0) dX8_measures_40 rfl rfl ?_
              refine mg_toGoal rfl dX8_measures_41 ?_
              refine v_iload_n (i := 2) dX8_measures_44 rfl rfl ?_
              refine ml_toGoal hap (show k < 2001 by omega) dX8_measures_45 ?_
              refine v_top (show _ = oI (0 + 1) from congrArg oI va_up_e) ?_
              refine v_if_ne (tgt := 53) dX8_measures_46 rfl (fun c46 => ?_) (fun c46 => ?_)
              · exact absurd (show oI (0 + 1) = 0 from rfl) c46
              · refine v_iconst (v := nI 1) dX8_measures_49 k_iconst_1 ?_
                refine v_goto (tgt := 54) dX8_measures_50 rfl ?_
                refine v_istore_n (i := 1) dX8_measures_54 rfl (by decide) rfl ?_
                refine vn_iinc 1 dX8_measures_55 rfl k_iconst_1 (by decide) rfl ?_
                refine v_goto (tgt := 4) dX8_measures_58 rfl ?_
                exact ih (k + 1) 1 (va_up f k (0 + 1)) (by omega) (by decide) (fun j hj => by by_cases y : j = k; (subst y; rw [va_up_e, if_pos h24]); (rw [va_up_n y]; exact hf j (by omega))) (fun w j hj => absurd w (by decide))
        · rw [if_neg h24]
          refine vn_if_eq (tgt := 34) dX8_measures_27 rfl (by decide) (fun c27 => ?_) (fun c27 => ?_)
          · refine v_iconst (v := -1) dX8_measures_34 k_iconst_m1 ?_
            refine ms_toGoal_m hap (show k < 2001 by omega) dX8_measures_35 ?_
            rw [sA_stA]
            refine v_iload_n (i := 1) dX8_measures_36 rfl rfl ?_
            refine vn_if_ne (tgt := 49) dX8_measures_37 rfl (by omega) (fun c37 => ?_) (fun c37 => ?_)
            · refine v_iconst (v := nI 1) dX8_measures_49 k_iconst_1 ?_
              refine v_goto (tgt := 54) dX8_measures_50 rfl ?_
              refine v_istore_n (i := 1) dX8_measures_54 rfl (by decide) rfl ?_
              refine vn_iinc 1 dX8_measures_55 rfl k_iconst_1 (by decide) rfl ?_
              refine v_goto (tgt := 4) dX8_measures_58 rfl ?_
              exact ih (k + 1) 1 (va_up f k 0) (by omega) (by decide) (fun j hj => by by_cases y : j = k; (subst y; rw [va_up_e, if_neg h24]); (rw [va_up_n y]; exact hf j (by omega))) (fun w j hj => absurd w (by decide))
            · refine v_aload_n (i := 0) dX8_measures_40 rfl rfl ?_
              refine mg_toGoal rfl dX8_measures_41 ?_
              refine v_iload_n (i := 2) dX8_measures_44 rfl rfl ?_
              refine ml_toGoal hap (show k < 2001 by omega) dX8_measures_45 ?_
              refine v_top (show _ = oI 0 from congrArg oI va_up_e) ?_
              refine v_if_ne (tgt := 53) dX8_measures_46 rfl (fun c46 => ?_) (fun c46 => ?_)
              · refine v_iconst (v := nI 0) dX8_measures_53 k_iconst_0 ?_
                refine v_istore_n (i := 1) dX8_measures_54 rfl (by decide) rfl ?_
                refine vn_iinc 1 dX8_measures_55 rfl k_iconst_1 (by decide) rfl ?_
                refine v_goto (tgt := 4) dX8_measures_58 rfl ?_
                exact ih (k + 1) 0 (va_up f k 0) (by omega) (by decide) (fun j hj => by by_cases y : j = k; (subst y; rw [va_up_e, if_neg h24]); (rw [va_up_n y]; exact hf j (by omega))) (fun w j hj => by by_cases y : j = k; (subst y; exact h24); exact hz c37 j (by omega))
              · exact absurd c46 (by decide)
          · exact absurd rfl c27
  refine v_iconst (v := nI 0) dX8_measures_0 k_iconst_0 ?_
  refine v_istore_n (i := 1) dX8_measures_1 rfl (by decide) rfl ?_
  refine v_iconst (v := nI 0) dX8_measures_2 k_iconst_0 ?_
  refine v_istore_n (i := 2) dX8_measures_3 rfl (by decide) rfl ?_
  have L0 := L4 (xn X) 0 0 (gA σ 59) (by omega) (by decide) (fun j hj => absurd hj (by omega)) (fun _ j hj => absurd hj (by omega))
  rw [stA_self] at L0
  exact L0
