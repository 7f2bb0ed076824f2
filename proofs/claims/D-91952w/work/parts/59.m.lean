theorem cM_seeks {G : Gl} {m : Nat} {ad : Nat → Nat} {η0 : AH} (hap : Mp m ad) (σ : MS) (τ : Td) (hd ld : Nat → Nat) (w : Nat) (hW : WX σ τ hd ld w) : Ct G yX8_seeks cX8_seeks 2 (some .int) 8 0 0 [.ref m, .int (nI (stT τ))] (MH m ad σ η0) (ri fun r η => ∃ σ2, η = MH m ad σ2 η0 ∧ EG σ σ2 ∧ gN σ2 52 = gN σ 52 ∧ Cch (bfT τ) (gA σ2 50) ∧ gN σ2 67 = 0 ∧ gN σ2 66 < 2 ∧ r = pI (skS τ hd ld w)) := by
  refine Ct.start rfl rfl (Nat.le_of_ble_eq_true rfl) (fun Γ => ?_)
  refine v_aload_n (i := 0) dX8_seeks_0 rfl rfl ?_
  refine v_iload_n (i := 1) dX8_seeks_1 rfl rfl ?_
  refine v_callVI (kc' := 0) (ks' := 0) (cM_explores hap σ τ hd ld w hW) (lw_V q2394 q2396 qs91 q136 q2397) iX8_explores rfl KX8 MH_m rfl rfl (by decide) (by decide) (Nat.le_of_ble_eq_true rfl) (by decide) (by decide) dX8_seeks_2 (fun x_ η' h => ?_)
  obtain ⟨σ2, rfl, g1, g2, g3, g4, g5⟩ := h
  have g52 := g1.1 52 (by decide) (by decide) (by decide) (by decide)
  cases hx : expl (τ, hd, ld, w)
  · obtain ⟨rfl, g6⟩ := g4 hx
    refine vn_if_ne (tgt := 11) dX8_seeks_5 rfl (by decide) (fun c5 => ?_) (fun c5 => ?_)
    · exact absurd rfl c5
    · refine v_bipush (v := -2) dX8_seeks_8 k_bipush_m2 ?_
      exact v_iret rfl dX8_seeks_10 ⟨_, rfl, σ2, rfl, g1.g, g52, g2, g3, by omega, by rw [show skS τ hd ld w = 0 by unfold skS; rw [hx]]; rfl⟩
  · rename_i X
    obtain ⟨rfl, g6, g7, g8⟩ := g5 X hx
    have hw := expl_w hx
    refine vn_if_ne (tgt := 11) dX8_seeks_5 rfl (by decide) (fun c5 => ?_) (fun c5 => ?_)
    · refine v_aload_n (i := 0) dX8_seeks_11 rfl rfl ?_
      refine v_callVW (kc' := 0) (ks' := 0) (cM_measures hap σ2 τ hd ld w (g1.wx hW g2) X g7 hw g8) (lw_V q2435 q2437 qs100 q136 q2438) iX8_measures rfl KX8 MH_m rfl rfl (by decide) (by decide) (Nat.le_of_ble_eq_true rfl) (by decide) (by decide) dX8_seeks_12 (fun η' h => ?_)
      obtain ⟨f, rfl, g9, g10⟩ := h
      refine v_aload_n (i := 0) dX8_seeks_15 rfl rfl ?_
      refine mg_toGoal rfl dX8_seeks_16 ?_
      refine v_iconst (v := nI 0) dX8_seeks_19 k_iconst_0 ?_
      refine ml_toGoal hap (by decide) dX8_seeks_20 ?_
      exact v_iret rfl dX8_seeks_21 ⟨_, rfl, stA σ2 59 f, rfl, g1.g.st59, g52, g2, g3, by show gN σ2 66 < 2; omega, by rw [show skS τ hd ld w = f 0 + 1 by unfold skS; rw [hx]; dsimp only; rw [dsF_eq hw (fun _ => by decide) g9 (show 0 < xn X by have := hw.1; omega)]]; rfl⟩
    · exact absurd c5 (by decide)
theorem cM_finds {G : Gl} {m : Nat} {ad : Nat → Nat} {η0 : AH} (hap : Mp m ad) (σ : MS) (τ : Td) (hM : MF σ τ) : Ct G yX8_finds cX8_finds 2 (some .boolean) 8 0 0 [.ref m] (MH m ad σ η0) (ri fun r η => ∃ σ2, η = MH m ad σ2 η0 ∧ EG σ σ2 ∧ gN σ2 52 = 0 ∧ Cch (bfT τ) (gA σ2 50) ∧ gN σ2 67 = 1 ∧ gN σ2 66 < 2 ∧ FD σ2 τ (tA τ 41) (tA τ 42) 0 ∧ (expl (τ, tA τ 41, tA τ 42, 0) = none → r = nI 0) ∧ ∀ X, expl (τ, tA τ 41, tA τ 42, 0) = some X → r = nI 1) := by
  refine Ct.start rfl rfl (Nat.le_of_ble_eq_true rfl) (fun Γ => ?_)
  have hW := hM.wx
  obtain ⟨m1, m2, m3, m4, m5, m6⟩ := hM
  refine v_aload_n (i := 0) dX8_finds_0 rfl rfl ?_
  refine mg_isFirst rfl dX8_finds_1 ?_
  refine vn_if_eq (tgt := 20) dX8_finds_4 rfl (show gN σ 67 < _ by omega) (fun c4 => ?_) (fun c4 => ?_)
  · refine v_aload_n (i := 0) dX8_finds_20 rfl rfl ?_
    refine v_iconst (v := -1) dX8_finds_21 k_iconst_m1 ?_
    refine mp_without_m rfl dX8_finds_22 ?_
    have hW1 : WX (sN σ 52 0) τ (tA τ 41) (tA τ 42) 0 := ⟨hW.1, hW.2.1, hW.2.2.1, hW.2.2.2.1, hW.2.2.2.2.1, hW.2.2.2.2.2.1, hW.2.2.2.2.2.2.1, rfl, by decide⟩
    refine v_aload_n (i := 0) dX8_finds_25 rfl rfl ?_
    refine v_aload_n (i := 0) dX8_finds_26 rfl rfl ?_
    refine v_callVi (cX_start hap (sN σ 52 0) τ _ _ 0 (hW1)) (lw_V q1912 q1914 qs54 q136 q1915) iX8_start rfl KX8 MH_m rfl rfl (by decide) (by decide) (Nat.le_of_ble_eq_true rfl) dX8_finds_27 ?_
    refine v_callVI (kc' := 0) (ks' := 0) (cM_explores hap (sN σ 52 0) τ _ _ 0 hW1) (lw_V q2394 q2396 qs91 q136 q2397) iX8_explores rfl KX8 MH_m rfl rfl (by decide) (by decide) (Nat.le_of_ble_eq_true rfl) (by decide) (by decide) dX8_finds_30 (fun x_ η' h => ?_)
    obtain ⟨σ2, rfl, g1, g2, g3, g4, g5⟩ := h
    have g52 : gN σ2 52 = 0 := g1.1 52 (by decide) (by decide) (by decide) (by decide)
    have gE : EG σ σ2 := ((EG.rf σ).n (by decide)).trans g1.g
    cases hx : expl (τ, tA τ 41, tA τ 42, 0)
    · obtain ⟨rfl, g6⟩ := g4 hx
      refine v_istore_n (i := 1) dX8_finds_33 rfl (by decide) rfl ?_
      refine v_iload_n (i := 1) dX8_finds_34 rfl rfl ?_
      refine vn_if_eq (tgt := 42) dX8_finds_35 rfl (by decide) (fun c35 => ?_) (fun c35 => ?_)
      · refine v_aload_n (i := 0) dX8_finds_42 rfl rfl ?_
        refine v_iconst (v := nI 1) dX8_finds_43 k_iconst_1 ?_
        refine mp_isFirst rfl (by decide) dX8_finds_44 ?_
        refine v_iload_n (i := 1) dX8_finds_47 rfl rfl ?_
        exact v_zret rfl (by decide) dX8_finds_48 ⟨_, rfl, sN σ2 67 1, rfl, gE.n (by decide), g52, g2, rfl, by show gN σ2 66 < 2; omega, ⟨fun _ => g6, fun X q => (by rw [hx] at q; cases q)⟩, fun _ => rfl, fun X q => (by cases q)⟩
      · exact absurd rfl c35
    · rename_i X
      obtain ⟨rfl, g6, g7, g8⟩ := g5 X hx
      have hw := expl_w hx
      refine v_istore_n (i := 1) dX8_finds_33 rfl (by decide) rfl ?_
      refine v_iload_n (i := 1) dX8_finds_34 rfl rfl ?_
      refine vn_if_eq (tgt := 42) dX8_finds_35 rfl (by decide) (fun c35 => ?_) (fun c35 => ?_)
      · exact absurd c35 (by decide)
      · refine v_aload_n (i := 0) dX8_finds_38 rfl rfl ?_
        refine v_callVW (kc' := 0) (ks' := 0) (cM_measures hap σ2 τ _ _ 0 (g1.wx hW1 g2) X g7 hw g8) (lw_V q2435 q2437 qs100 q136 q2438) iX8_measures rfl KX8 MH_m rfl rfl (by decide) (by decide) (Nat.le_of_ble_eq_true rfl) (by decide) (by decide) dX8_finds_39 (fun η' h => ?_)
        obtain ⟨f, rfl, g9, g10⟩ := h
        refine v_aload_n (i := 0) dX8_finds_42 rfl rfl ?_
        refine v_iconst (v := nI 1) dX8_finds_43 k_iconst_1 ?_
        refine mp_isFirst rfl (by decide) dX8_finds_44 ?_
        refine v_iload_n (i := 1) dX8_finds_47 rfl rfl ?_
        exact v_zret rfl (by decide) dX8_finds_48 ⟨_, rfl, sN (stA σ2 59 f) 67 1, rfl, gE.st59.n (by decide), g52, g2, rfl, by show gN σ2 66 < 2; omega, ⟨fun q => (by rw [hx] at q; cases q), fun X q => (by rw [hx] at q; cases q; exact ⟨g6, g7, g8, g9, g10⟩)⟩, fun q => (by cases q), fun X q => rfl⟩
  · have c4 : gN σ 67 = 1 := by have : ¬ gN σ 67 = 0 := c4; omega
    have hFD := m6 c4
    refine v_aload_n (i := 0) dX8_finds_7 rfl rfl ?_
    refine mg_isSpent rfl dX8_finds_8 ?_
    refine vn_if_ne (tgt := 18) dX8_finds_11 rfl (show gN σ 66 < _ by omega) (fun c11 => ?_) (fun c11 => ?_)
    · have c11 : gN σ 66 = 1 := by have : ¬ gN σ 66 = 0 := c11; omega
      refine v_iconst (v := nI 0) dX8_finds_18 k_iconst_0 ?_
      exact v_zret rfl rfl dX8_finds_19 ⟨_, rfl, σ, rfl, EG.rf σ, m3, m2, c4, m5, hFD, fun q => rfl, fun X q => (by have := (hFD.2 X q).1; omega)⟩
    · have c11 : gN σ 66 = 0 := c11
      refine v_iconst (v := nI 1) dX8_finds_14 k_iconst_1 ?_
      refine v_goto (tgt := 19) dX8_finds_15 rfl ?_
      exact v_zret rfl rfl dX8_finds_19 ⟨_, rfl, σ, rfl, EG.rf σ, m3, m2, c4, m5, hFD, fun q => (by have := hFD.1 q; omega), fun X q => rfl⟩
