theorem lc_ge {v : Nat} (h : v < 9223372036854775808) : 0 ≤ lg_cmp (lI v) (lN 0) ↔ v ≠ 0 := by
  rw [lg_cmp_ge]
  cases v with
  | zero => exact ⟨fun q => absurd q (by decide), fun q => absurd rfl q⟩
  | succ k =>
    show lN 0 ≤ lN k ↔ _
    rw [pk_lLE (by decide) (by omega)]
    exact ⟨fun _ => by omega, fun _ => Nat.zero_le _⟩
theorem lc_lt {v : Nat} (h : v < 9223372036854775808) : lg_cmp (lI v) (lN 0) < 0 ↔ v = 0 := by
  rw [lg_cmp_lt]
  cases v with
  | zero => exact ⟨fun _ => rfl, fun _ => by decide⟩
  | succ k =>
    show lN k < lN 0 ↔ _
    rw [pk_lLT (by omega) (by decide)]
    omega
theorem lc_le {v : Nat} (h : v < 9223372036854775808) : lg_cmp (lI v) (lN 0) ≤ 0 ↔ v ≤ 1 := by
  rw [lg_cmp_le]
  cases v with
  | zero => exact ⟨fun _ => Nat.zero_le _, fun _ => by decide⟩
  | succ k =>
    show lN k ≤ lN 0 ↔ _
    rw [pk_lLE (by omega) (by decide)]
    omega
theorem lc_lt2 {a v : Nat} (ha : a < 9223372036854775808) (h : v < 9223372036854775808) (h0 : v ≠ 0) : lg_cmp (lN a) (lI v) < 0 ↔ a + 1 < v := by
  rw [lg_cmp_lt]
  cases v with
  | zero => exact absurd rfl h0
  | succ k =>
    show lN a < lN k ↔ _
    rw [pk_lLT ha (by omega)]
    omega
theorem lc_eq2 {a v : Nat} (ha : a < 9223372036854775808) (h : v < 9223372036854775808) : lg_cmp (lN a) (lI v) = 0 ↔ a + 1 = v := by
  rw [lg_cmp_eq]
  cases v with
  | zero =>
    refine ⟨fun q => ?_, fun q => absurd q (by omega)⟩
    have q : lN a = -1 := q
    have h1 := pk_lT ha
    rw [q] at h1
    exact absurd h1 (by have : ((-1 : Int64)).toInt = -1 := by decide
                        rw [this]; omega)
  | succ k =>
    show lN a = lN k ↔ _
    rw [pk_lEQ ha (by omega)]
    omega
theorem lI_s {v : Nat} (h : v ≠ 0) : lI v = lN (v - 1) := by
  cases v with
  | zero => exact absurd rfl h
  | succ k => rfl
theorem minE_le {τ : Td} (h : TB τ) (X : XT) (e : Nat) : minE τ X e ≤ 99 := mxN_le (fun t ht => (h.2.1 t ht).2.1)
def W1e (τ : Td) (X : XT) (e : Nat) : Nat := minE τ X e * 100000 + 1
theorem W1e_le {τ : Td} (h : TB τ) (X : XT) (e : Nat) : 0 < W1e τ X e ∧ W1e τ X e ≤ 9900001 := by
  have := minE_le h X e
  unfold W1e
  omega
theorem W1e_v (τ : Td) (X : XT) (e u : Nat) : lN u + lN 100000 * lN (minE τ X e) + lN 1 = lN (u + W1e τ X e) := by
  rw [lN_mul, lN_add, lN_add]
  congr 1
  unfold W1e
  rw [Nat.mul_comm]
  omega
theorem cM_prices {G : Gl} {m : Nat} {ad : Nat → Nat} {η0 : AH} (hap : Mp m ad) (σ : MS) (τ : Td) (hd ld : Nat → Nat) (w : Nat) (hW : WX σ τ hd ld w) (X : XT) (hX : XM σ X) (hw : XW X) (hF : FSA σ X) (hEQ : EQd X (glT τ X) (fun _ => 1) (gA σ 59)) (hf3 : ∀ k, k < xn X → gA σ 59 k ≤ 2003) : Ct G yX8_prices cX8_prices 8 none 3 0 0 [.ref m] (MH m ad σ η0) (rv fun η => ∃ C g, η = MH m ad (stC σ C) η0 ∧ (∀ k, k < xn X → C k = lI (g k) ∧ g k < 100000000000) ∧ EQd X (glT τ X) (W1e τ X) g) := by
  refine Ct.start rfl rfl (Nat.le_of_ble_eq_true rfl) (fun Γ => ?_)
  have hn2 := hw.2.1
  have hn1 := hw.1
  have hne := hw.2.2.1
  have h54 := hX.1
  have hTB := hW.1
  have hWe := W1e_le hTB X
  have bnd : ∀ g, PRi X (glT τ X) (W1e τ X) 9900001 g → ∀ k, k < xn X → g k < 100000000000 := fun g hg k hk => by
    have h1 := hg.2.2 k hk
    have h2 := cntN_le g (xn X)
    have h3 : cntN g (xn X) * 9900001 ≤ 2000 * 9900001 := Nat.mul_le_mul_right _ (by omega)
    have h4 : 2000 * 9900001 = 19800002000 := by decide
    rw [h4] at h3
    exact Nat.lt_of_le_of_lt (Nat.le_trans h1 (Nat.add_le_add_left h3 1)) (by decide)
  have L40 : ∀ (M mv : Nat) (C : Nat → Int64) (g : Nat → Nat) (z2 z3 z4 z5 z6 z7 : Option Value), phi g (xn X) + mv = M → mv < 2 → (∀ k, k < xn X → C k = lI (g k)) → PRi X (glT τ X) (W1e τ X) 9900001 g → (mv = 0 → ∀ k, k < xn X → ∀ e, xfs X k ≤ e → e < xfs X (k + 1) → g (xej X e) ≠ 0 → g k ≠ 0 ∧ g k ≤ g (xej X e) + W1e τ X e) → V G Γ yX8_prices cX8_prices 8 none [] 3 (rv fun η => ∃ C g, η = MH m ad (stC σ C) η0 ∧ (∀ k, k < xn X → C k = lI (g k) ∧ g k < 100000000000) ∧ EQd X (glT τ X) (W1e τ X) g) 0 0 (MH m ad (stC σ C) η0) 40 [some (.ref m), some (.int (nI mv)), z2, z3, z4, z5, z6, z7] [] := by
    intro M
    induction M using Nat.strongRecOn with
    | _ M ihM =>
      intro mv C g z2 z3 z4 z5 z6 z7 hM hmv hC hP hd
      have L53 : ∀ (c m2 : Nat) (C' : Nat → Int64) (g' : Nat → Nat) (z3 z4 z5 z6 z7 : Option Value), c ≤ xn X → m2 < 2 → (∀ k, k < xn X → C' k = lI (g' k)) → PRi X (glT τ X) (W1e τ X) 9900001 g' → phi g' (xn X) + m2 ≤ phi g (xn X) → (m2 = 0 → ∀ k, c ≤ k → k < xn X → ∀ e, xfs X k ≤ e → e < xfs X (k + 1) → g' (xej X e) ≠ 0 → g' k ≠ 0 ∧ g' k ≤ g' (xej X e) + W1e τ X e) → mv = 1 → V G Γ yX8_prices cX8_prices 8 none [] 3 (rv fun η => ∃ C g, η = MH m ad (stC σ C) η0 ∧ (∀ k, k < xn X → C k = lI (g k) ∧ g k < 100000000000) ∧ EQd X (glT τ X) (W1e τ X) g) 0 0 (MH m ad (stC σ C') η0) 53 [some (.ref m), some (.int (nI m2)), some (.int (oI c)), z3, z4, z5, z6, z7] [] := by
        intro c
        induction c with
        | zero =>
          intro m2 C' g' z3 z4 z5 z6 z7 hc hm2 hC hP hph hd hmv1
          refine v_iload_n (i := 2) dX8_prices_53 rfl rfl ?_
          refine vo_if_lt (tgt := 169) dX8_prices_54 rfl (by decide) (fun c54 => ?_) (fun c54 => ?_)
          · refine v_goto (tgt := 40) dX8_prices_169 rfl ?_
            exact ihM (phi g' (xn X) + m2) (by omega) m2 C' g' _ _ _ _ _ _ rfl hm2 hC hP (fun q k hk => hd q k (Nat.zero_le _) hk)
          · exact absurd c54 (by decide)
        | succ k ihk =>
          intro m2 C' g' z3 z4 z5 z6 z7 hc hm2 hC hP hph hd hmv1
          have hk : k < xn X := by omega
          have hF1 := hF k (by omega)
          have hF2 := hF (k + 1) (by omega)
          have hs1 := hw.2.2.2.1 k hk
          have hs2 := hw.2.2.2.2.1 (k + 1) (by omega)
          have L64 : ∀ (q e m2 : Nat) (C' : Nat → Int64) (g' : Nat → Nat) (z4 z5 z6 z7 : Option Value), e + q = xfs X (k + 1) → xfs X k ≤ e → m2 < 2 → (∀ k, k < xn X → C' k = lI (g' k)) → PRi X (glT τ X) (W1e τ X) 9900001 g' → phi g' (xn X) + m2 ≤ phi g (xn X) → (m2 = 0 → (∀ j, k + 1 ≤ j → j < xn X → ∀ e, xfs X j ≤ e → e < xfs X (j + 1) → g' (xej X e) ≠ 0 → g' j ≠ 0 ∧ g' j ≤ g' (xej X e) + W1e τ X e) ∧ ∀ e', xfs X k ≤ e' → e' < e → g' (xej X e') ≠ 0 → g' k ≠ 0 ∧ g' k ≤ g' (xej X e') + W1e τ X e') → V G Γ yX8_prices cX8_prices 8 none [] 3 (rv fun η => ∃ C g, η = MH m ad (stC σ C) η0 ∧ (∀ k, k < xn X → C k = lI (g k) ∧ g k < 100000000000) ∧ EQd X (glT τ X) (W1e τ X) g) 0 0 (MH m ad (stC σ C') η0) 64 [some (.ref m), some (.int (nI m2)), some (.int (nI k)), some (.int (nI e)), z4, z5, z6, z7] [] := by
            intro q
            induction q with
            | zero =>
              intro e m2 C' g' z4 z5 z6 z7 heq hle hm2 hC hP hph hd
              refine v_iload_n (i := 3) dX8_prices_64 rfl rfl ?_
              refine v_aload_n (i := 0) dX8_prices_65 rfl rfl ?_
              refine mg_firstOf rfl dX8_prices_66 ?_
              refine v_iload_n (i := 2) dX8_prices_69 rfl rfl ?_
              refine v_iconst (v := nI 1) dX8_prices_70 k_iconst_1 ?_
              refine vn_iadd dX8_prices_71 ?_
              refine ml_firstOf hap (show k + 1 < 2002 by omega) dX8_prices_72 ?_
              refine v_top (show _ = nI (xfs X (k + 1)) from congrArg nI hF2) ?_
              refine vn_icmp_ge (tgt := 163) dX8_prices_73 rfl (by omega) (by omega) (fun c73 => ?_) (fun c73 => ?_)
              · refine v_iinc dX8_prices_163 rfl (oI_dec k) (by decide) rfl ?_
                refine v_goto (tgt := 53) dX8_prices_166 rfl ?_
                exact ihk m2 C' g' _ _ _ _ _ (by omega) hm2 hC hP hph (fun q j h1 h2 e' b1 b2 => by by_cases y : j = k; (subst y; exact (hd q).2 e' b1 (by omega)); exact (hd q).1 j (by omega) h2 e' b1 b2) hmv1
              · omega
            | succ q ihq =>
              intro e m2 C' g' z4 z5 z6 z7 heq hle hm2 hC hP hph hd
              have he : e < xe X := by omega
              have hj := hw.2.2.2.2.2 e he
              obtain ⟨s1, s2, s3, s4, s5, s6, s7, s8⟩ := hX.2.2.2.2.2 e he
              have hgj := bnd g' hP _ hj
              have hgk := bnd g' hP k hk
              have hWe1 := hWe e
              have hmn := minE_le hTB X e
              refine v_iload_n (i := 3) dX8_prices_64 rfl rfl ?_
              refine v_aload_n (i := 0) dX8_prices_65 rfl rfl ?_
              refine mg_firstOf rfl dX8_prices_66 ?_
              refine v_iload_n (i := 2) dX8_prices_69 rfl rfl ?_
              refine v_iconst (v := nI 1) dX8_prices_70 k_iconst_1 ?_
              refine vn_iadd dX8_prices_71 ?_
              refine ml_firstOf hap (show k + 1 < 2002 by omega) dX8_prices_72 ?_
              refine v_top (show _ = nI (xfs X (k + 1)) from congrArg nI hF2) ?_
              refine vn_icmp_ge (tgt := 163) dX8_prices_73 rfl (by omega) (by omega) (fun c73 => ?_) (fun c73 => ?_)
              · omega
              · refine v_aload_n (i := 0) dX8_prices_76 rfl rfl ?_
                refine mg_cheap rfl dX8_prices_77 ?_
                refine v_aload_n (i := 0) dX8_prices_80 rfl rfl ?_
                refine mg_edgeState rfl dX8_prices_81 ?_
                refine v_iload_n (i := 3) dX8_prices_84 rfl rfl ?_
                refine ml_edgeState hap (show e < 40001 by omega) dX8_prices_85 ?_
                refine v_top (show _ = nI (xej X e) from congrArg nI s4) ?_
                refine ml_cheap hap (show xej X e < 2001 by omega) dX8_prices_86 ?_
                refine v_topl (show _ = lI (g' (xej X e)) from hC _ hj) ?_
                refine v_lstore (i := 4) dX8_prices_87 (by decide) rfl ?_
                refine v_lload (i := 4) dX8_prices_89 rfl ?_
                refine v_lconst (v := lN 0) dX8_prices_91 rfl ?_
                refine v_lcmp dX8_prices_92 ?_
                refine v_if_ge (tgt := 99) dX8_prices_93 rfl (fun c93 => ?_) (fun c93 => ?_)
                · have c93 : g' (xej X e) ≠ 0 := (lc_ge (by omega)).mp c93
                  refine v_lload (i := 4) dX8_prices_99 rfl ?_
                  refine v_topl (lI_s c93) ?_
                  refine v_ldc2 (v := lN 100000) q2468 dX8_prices_101 ?_
                  refine v_aload_n (i := 0) dX8_prices_104 rfl rfl ?_
                  refine v_aload_n (i := 0) dX8_prices_105 rfl rfl ?_
                  refine mg_edgeSet rfl dX8_prices_106 ?_
                  refine v_iload_n (i := 3) dX8_prices_109 rfl rfl ?_
                  refine ml_edgeSet hap (show e < 40001 by omega) dX8_prices_110 ?_
                  refine v_top (show _ = nI (xes X e) from congrArg nI s3) ?_
                  refine v_callVi (cX_minutesOf hap (stC σ C') τ _ _ _ hW (xes X e) (by omega)) (lw_V q2455 q2457 qs104 q136 q2458) iX8_minutesOf rfl KX8 MH_m rfl rfl (by decide) (by decide) (Nat.le_of_ble_eq_true rfl) dX8_prices_111 ?_
                  refine vl_i2l (by show minE τ X e < _; omega) dX8_prices_114 ?_
                  refine v_lmul dX8_prices_115 ?_
                  refine v_ladd dX8_prices_116 ?_
                  refine v_lconst (v := lN 1) dX8_prices_117 rfl ?_
                  refine v_ladd dX8_prices_118 ?_
                  refine v_topl (W1e_v τ X e (g' (xej X e) - 1)) ?_
                  refine v_lstore (i := 6) dX8_prices_119 (by decide) rfl ?_
                  refine v_aload_n (i := 0) dX8_prices_121 rfl rfl ?_
                  refine mg_cheap rfl dX8_prices_122 ?_
                  refine v_iload_n (i := 2) dX8_prices_125 rfl rfl ?_
                  refine ml_cheap hap (show k < 2001 by omega) dX8_prices_126 ?_
                  refine v_topl (show _ = lI (g' k) from hC k hk) ?_
                  refine v_lconst (v := lN 0) dX8_prices_127 rfl ?_
                  refine v_lcmp dX8_prices_128 ?_
                  refine v_if_lt (tgt := 147) dX8_prices_129 rfl (fun c129 => ?_) (fun c129 => ?_)
                  · have c129 : g' k = 0 := (lc_lt (by omega)).mp c129
                    refine v_aload_n (i := 0) dX8_prices_147 rfl rfl ?_
                    refine mg_cheap rfl dX8_prices_148 ?_
                    refine v_iload_n (i := 2) dX8_prices_151 rfl rfl ?_
                    refine v_lload (i := 6) dX8_prices_152 rfl ?_
                    refine ms_cheap hap (show k < 2001 by omega) dX8_prices_154 ?_
                    refine v_iconst (v := nI 1) dX8_prices_155 k_iconst_1 ?_
                    refine v_istore_n (i := 1) dX8_prices_156 rfl (by decide) rfl ?_
                    refine vn_iinc 1 dX8_prices_157 rfl k_iconst_1 (by decide) rfl ?_
                    refine v_goto (tgt := 64) dX8_prices_160 rfl ?_
                    rw [sC_stC]
                    obtain ⟨hP2, hph2⟩ := hP.put hw (by decide) hWe hk hle (by omega) c93 (Or.inl c129)
                    exact ihq (e + 1) 1 _ (va_up g' k (g' (xej X e) + W1e τ X e)) _ _ _ _ (by omega) (by omega) (by decide) (fun j hj2 => by by_cases y : j = k; (subst y; rw [pk_uLs, va_up_e, show g' (xej X e) + W1e τ X e = (g' (xej X e) - 1 + W1e τ X e) + 1 by omega]; rfl); (rw [pk_uLn y, va_up_n y]; exact hC j hj2)) hP2 (by omega) (fun y => absurd y (by decide))
                  · have c129 : g' k ≠ 0 := fun y => c129 ((lc_lt (by omega)).mpr y)
                    refine v_lload (i := 6) dX8_prices_132 rfl ?_
                    refine v_aload_n (i := 0) dX8_prices_134 rfl rfl ?_
                    refine mg_cheap rfl dX8_prices_135 ?_
                    refine v_iload_n (i := 2) dX8_prices_138 rfl rfl ?_
                    refine ml_cheap hap (show k < 2001 by omega) dX8_prices_139 ?_
                    refine v_topl (show _ = lI (g' k) from hC k hk) ?_
                    refine v_lcmp dX8_prices_140 ?_
                    refine v_if_lt (tgt := 147) dX8_prices_141 rfl (fun c141 => ?_) (fun c141 => ?_)
                    · have c141 : g' (xej X e) + W1e τ X e < g' k := by have := (lc_lt2 (by omega) (by omega) c129).mp c141; omega
                      refine v_aload_n (i := 0) dX8_prices_147 rfl rfl ?_
                      refine mg_cheap rfl dX8_prices_148 ?_
                      refine v_iload_n (i := 2) dX8_prices_151 rfl rfl ?_
                      refine v_lload (i := 6) dX8_prices_152 rfl ?_
                      refine ms_cheap hap (show k < 2001 by omega) dX8_prices_154 ?_
                      refine v_iconst (v := nI 1) dX8_prices_155 k_iconst_1 ?_
                      refine v_istore_n (i := 1) dX8_prices_156 rfl (by decide) rfl ?_
                      refine vn_iinc 1 dX8_prices_157 rfl k_iconst_1 (by decide) rfl ?_
                      refine v_goto (tgt := 64) dX8_prices_160 rfl ?_
                      rw [sC_stC]
                      obtain ⟨hP2, hph2⟩ := hP.put hw (by decide) hWe hk hle (by omega) c93 (Or.inr c141)
                      exact ihq (e + 1) 1 _ (va_up g' k (g' (xej X e) + W1e τ X e)) _ _ _ _ (by omega) (by omega) (by decide) (fun j hj2 => by by_cases y : j = k; (subst y; rw [pk_uLs, va_up_e, show g' (xej X e) + W1e τ X e = (g' (xej X e) - 1 + W1e τ X e) + 1 by omega]; rfl); (rw [pk_uLn y, va_up_n y]; exact hC j hj2)) hP2 (by omega) (fun y => absurd y (by decide))
                    · have c141 : g' k ≤ g' (xej X e) + W1e τ X e := by have : ¬ (g' (xej X e) - 1 + W1e τ X e + 1 < g' k) := fun y => c141 ((lc_lt2 (by omega) (by omega) c129).mpr y); omega
                      refine v_goto (tgt := 157) dX8_prices_144 rfl ?_
                      refine vn_iinc 1 dX8_prices_157 rfl k_iconst_1 (by decide) rfl ?_
                      refine v_goto (tgt := 64) dX8_prices_160 rfl ?_
                      exact ihq (e + 1) m2 C' g' _ _ _ _ (by omega) (by omega) hm2 hC hP hph (fun q2 => ⟨(hd q2).1, fun e' b1 b2 y => by by_cases x : e' = e; (subst x; exact ⟨c129, c141⟩); exact (hd q2).2 e' b1 (by omega) y⟩)
                · have c93 : g' (xej X e) = 0 := Classical.byContradiction fun y => c93 ((lc_ge (by omega)).mpr y)
                  refine v_goto (tgt := 157) dX8_prices_96 rfl ?_
                  refine vn_iinc 1 dX8_prices_157 rfl k_iconst_1 (by decide) rfl ?_
                  refine v_goto (tgt := 64) dX8_prices_160 rfl ?_
                  exact ihq (e + 1) m2 C' g' _ _ _ _ (by omega) (by omega) hm2 hC hP hph (fun q2 => ⟨(hd q2).1, fun e' b1 b2 y => by by_cases x : e' = e; (subst x; exact absurd c93 y); exact (hd q2).2 e' b1 (by omega) y⟩)
          refine (show V G Γ yX8_prices cX8_prices 8 none [] 3 (rv fun η => ∃ C g, η = MH m ad (stC σ C) η0 ∧ (∀ k, k < xn X → C k = lI (g k) ∧ g k < 100000000000) ∧ EQd X (glT τ X) (W1e τ X) g) 0 0 (MH m ad (stC σ C') η0) 53 [some (.ref m), some (.int (nI m2)), some (.int (nI k)), z3, z4, z5, z6, z7] [] from ?_)
          refine v_iload_n (i := 2) dX8_prices_53 rfl rfl ?_
          refine vn_if_lt (tgt := 169) dX8_prices_54 rfl (by omega) ?_
          refine v_aload_n (i := 0) dX8_prices_57 rfl rfl ?_
          refine mg_firstOf rfl dX8_prices_58 ?_
          refine v_iload_n (i := 2) dX8_prices_61 rfl rfl ?_
          refine ml_firstOf hap (show k < 2002 by omega) dX8_prices_62 ?_
          refine v_top (show _ = nI (xfs X k) from congrArg nI hF1) ?_
          refine v_istore_n (i := 3) dX8_prices_63 rfl (by decide) rfl ?_
          exact L64 (xfs X (k + 1) - xfs X k) (xfs X k) m2 C' g' _ _ _ _ (by omega) (Nat.le_refl _) hm2 hC hP hph (fun q => ⟨fun j h1 h2 => hd q j (by omega) h2, fun e' b1 b2 => absurd b1 (by omega)⟩)
      refine v_iload_n (i := 1) dX8_prices_40 rfl rfl ?_
      refine vn_if_eq (tgt := 172) dX8_prices_41 rfl (by omega) (fun c41 => ?_) (fun c41 => ?_)
      · exact v_vret rfl dX8_prices_172 ⟨rfl, C, g, rfl, fun k hk => ⟨hC k hk, bnd g hP k hk⟩, hP.done (hd c41)⟩
      · refine v_iconst (v := nI 0) dX8_prices_44 k_iconst_0 ?_
        refine v_istore_n (i := 1) dX8_prices_45 rfl (by decide) rfl ?_
        refine v_aload_n (i := 0) dX8_prices_46 rfl rfl ?_
        refine mg_states rfl dX8_prices_47 ?_
        refine v_iconst (v := nI 1) dX8_prices_50 k_iconst_1 ?_
        refine vn_isub (show 1 ≤ gN σ 54 by omega) dX8_prices_51 ?_
        refine v_top (show _ = oI (xn X) by show nI (gN σ 54 - 1) = _; rw [h54, oI_n (by omega)]) ?_
        refine v_istore_n (i := 2) dX8_prices_52 rfl (by decide) rfl ?_
        exact L53 (xn X) 0 C g _ _ _ _ _ (Nat.le_refl _) (by decide) hC hP (Nat.le_refl _) (fun _ k h1 h2 => absurd h1 (by omega)) (by omega)
  have L2 : ∀ (n k : Nat) (C : Nat → Int64) (g : Nat → Nat), k + n = xn X → (∀ j, j < k → C j = lI (g j) ∧ g j = if glT τ X j then 1 else 0) → V G Γ yX8_prices cX8_prices 8 none [] 3 (rv fun η => ∃ C g, η = MH m ad (stC σ C) η0 ∧ (∀ k, k < xn X → C k = lI (g k) ∧ g k < 100000000000) ∧ EQd X (glT τ X) (W1e τ X) g) 0 0 (MH m ad (stC σ C) η0) 2 [some (.ref m), some (.int (nI k)), none, none, none, none, none, none] [] := by
    intro n
    induction n with
    | zero =>
      intro k C g hkn hC
      have ek : k = xn X := by omega
      subst ek
      refine v_iload_n (i := 1) dX8_prices_2 rfl rfl ?_
      refine v_aload_n (i := 0) dX8_prices_3 rfl rfl ?_
      refine mg_states rfl dX8_prices_4 ?_
      refine vn_icmp_ge (tgt := 38) dX8_prices_7 rfl (by omega) (show gN σ 54 < _ by omega) (fun c7 => ?_) (fun c7 => ?_)
      · refine v_iconst (v := nI 1) dX8_prices_38 k_iconst_1 ?_
        refine v_istore_n (i := 1) dX8_prices_39 rfl (by decide) rfl ?_
        exact L40 (phi g (xn X) + 1) 1 C g _ _ _ _ _ _ rfl (by decide) (fun j hj => (hC j hj).1) ⟨fun j hj q => by rw [(hC j hj).2, if_pos q], fun j hj q => ⟨by rw [(hC j hj).2, if_neg q]; decide, fun z => absurd (by rw [(hC j hj).2, if_neg q]) z⟩, fun j hj => by rw [(hC j hj).2]; split; (exact Nat.le_add_right _ _); (exact Nat.zero_le _)⟩ (fun y => absurd y (by decide))
      · exact absurd (show xn X < gN σ 54 from c7) (by omega)
    | succ n ih =>
      intro k C g hkn hC
      have hk : k < xn X := by omega
      have hfk := hf3 k hk
      have hgk : gA σ 59 k = 1 ↔ glT τ X k := by
        constructor
        · intro q
          by_cases y : glT τ X k
          · exact y
          · obtain ⟨e, e1, e2, e3, e4⟩ := (((hEQ k hk).2 y).2 (by omega)).1
            dsimp only at e4
            omega
        · exact (hEQ k hk).1
      refine v_iload_n (i := 1) dX8_prices_2 rfl rfl ?_
      refine v_aload_n (i := 0) dX8_prices_3 rfl rfl ?_
      refine mg_states rfl dX8_prices_4 ?_
      refine vn_icmp_ge (tgt := 38) dX8_prices_7 rfl (by omega) (show gN σ 54 < _ by omega) (fun c7 => ?_) (fun c7 => ?_)
      · exact absurd (show gN σ 54 ≤ k from c7) (by omega)
      · refine v_aload_n (i := 0) dX8_prices_10 rfl rfl ?_
        refine mg_cheap rfl dX8_prices_11 ?_
        refine v_iload_n (i := 1) dX8_prices_14 rfl rfl ?_
        refine v_aload_n (i := 0) dX8_prices_15 rfl rfl ?_
        refine mg_toGoal rfl dX8_prices_16 ?_
        refine v_iload_n (i := 1) dX8_prices_19 rfl rfl ?_
        refine ml_toGoal hap (show k < 2001 by omega) dX8_prices_20 ?_
        refine v_if_ne (tgt := 28) dX8_prices_21 rfl (fun c21 => ?_) (fun c21 => ?_)
        · have c21 : ¬ glT τ X k := fun y => c21 (show oI (gA σ 59 k) = 0 from (oI_0 (by omega)).mpr (hgk.mpr y))
          refine v_ldc2 (v := -1) q2467 dX8_prices_28 ?_
          refine ms_cheap hap (show k < 2001 by omega) dX8_prices_31 ?_
          refine vn_iinc 1 dX8_prices_32 rfl k_iconst_1 (by decide) rfl ?_
          refine v_goto (tgt := 2) dX8_prices_35 rfl ?_
          rw [sC_stC]
          exact ih (k + 1) _ (va_up g k 0) (by omega) (fun j hj => by by_cases y : j = k; (subst y; rw [pk_uLs, va_up_e, if_neg c21]; exact ⟨rfl, rfl⟩); (rw [pk_uLn y, va_up_n y]; exact hC j (by omega)))
        · have c21 : glT τ X k := hgk.mp ((oI_0 (by omega)).mp (show oI (gA σ 59 k) = 0 from c21))
          refine v_lconst (v := lN 0) dX8_prices_24 rfl ?_
          refine v_goto (tgt := 31) dX8_prices_25 rfl ?_
          refine ms_cheap hap (show k < 2001 by omega) dX8_prices_31 ?_
          refine vn_iinc 1 dX8_prices_32 rfl k_iconst_1 (by decide) rfl ?_
          refine v_goto (tgt := 2) dX8_prices_35 rfl ?_
          rw [sC_stC]
          exact ih (k + 1) _ (va_up g k 1) (by omega) (fun j hj => by by_cases y : j = k; (subst y; rw [pk_uLs, va_up_e, if_pos c21]; exact ⟨rfl, rfl⟩); (rw [pk_uLn y, va_up_n y]; exact hC j (by omega)))
  refine v_iconst (v := nI 0) dX8_prices_0 k_iconst_0 ?_
  refine v_istore_n (i := 1) dX8_prices_1 rfl (by decide) rfl ?_
  exact L2 (xn X) 0 (gC σ) (fun _ => 0) (by omega) (fun j hj => absurd hj (by omega))
