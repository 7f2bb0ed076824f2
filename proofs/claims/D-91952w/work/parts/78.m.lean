/-! ===== rounds: the steps ===== -/
def CF (σ σ2 : MS) : Prop := (∀ k, gN σ2 k = gN σ k) ∧ (∀ k, k ≠ 50 → k ≠ 83 → gA σ2 k = gA σ k) ∧ (∀ k, k ≠ 51 → gB σ2 k = gB σ k) ∧ gC σ2 = gC σ
theorem CF.rf (σ : MS) : CF σ σ := ⟨fun _ => rfl, fun _ _ _ => rfl, fun _ _ => rfl, rfl⟩
theorem CF.trans {σ σ1 σ2 : MS} (h : CF σ σ1) (g : CF σ1 σ2) : CF σ σ2 := ⟨fun k => (g.1 k).trans (h.1 k), fun k a b => (g.2.1 k a b).trans (h.2.1 k a b), fun k a => (g.2.2.1 k a).trans (h.2.2.1 k a), g.2.2.2.trans h.2.2.2⟩
theorem CF.cp {σ σ2 : MS} (h : CF σ σ2) {c : Nat → Nat} {p : Nat → Int32} : CF σ (sCP σ2 c p) := ⟨h.1, fun k a b => by show gA (stA σ2 50 c) k = _; rw [gA_stA, if_neg a]; exact h.2.1 k a b, fun k a => by show (if k = 51 then p else gB (stA σ2 50 c) k) = _; rw [if_neg a]; exact h.2.2.1 k a, h.2.2.2⟩
theorem CF.a {σ σ2 : MS} (h : CF σ σ2) {i v : Nat} : CF σ (sA σ2 83 i v) := ⟨h.1, fun k a b => by rw [gA_sA, if_neg b]; exact h.2.1 k a b, h.2.2.1, h.2.2.2⟩
theorem CF.wx {σ σ2 : MS} (h : CF σ σ2) {τ : Td} {hd ld : Nat → Nat} {w : Nat} (hW : WX σ τ hd ld w) (hc : Cch (bfT τ) (gA σ2 50)) : WX σ2 τ hd ld w := by
  have n := h.1
  have a : ∀ k, k < 50 → gA σ2 k = gA σ k := fun k a => h.2.1 k (by omega) (by omega)
  obtain ⟨h1, h2, h3, h4, h5, h6, h7, h8, h9⟩ := hW
  refine ⟨h1, ?_, ?_, ?_, ?_, ?_, hc, (n 52).trans h8, h9⟩
  · rw [n 1, n 2, n 3, n 4, n 5, n 13]
    exact h2
  · rw [a 6 (by decide), a 7 (by decide)]
    exact h3
  · rw [a 9 (by decide), a 10 (by decide), a 11 (by decide)]
    exact h4
  · rw [a 12 (by decide)]
    exact h5
  · unfold BarO
    rw [n 1, n 2, n 4, a 6 (by decide), a 7 (by decide), a 15 (by decide), a 16 (by decide), h.2.2.1 14 (by decide)]
    exact h6
/-- what one coming does to the row -/
def CM (τ : Td) (y v : Nat) (ra ra2 : Nat → Nat) : Prop := (ra2 = ra ∨ (bsT τ 0 y 0 0 0 = 0 ∧ ra (smT τ y) = 0 ∧ ra2 = va_up ra (smT τ y) v)) ∧ (bsT τ 0 y 0 0 0 = 0 → ra2 (smT τ y) ≠ 0)
theorem CM.up {τ : Td} {y v : Nat} {ra ra2 : Nat → Nat} (h : CM τ y v ra ra2) {Q : Nat → Prop} (hQ : bsT τ 0 y 0 0 0 = 0 → Q y) (hy : VL τ y) : UpR τ v Q ra ra2 := by
  rcases h.1 with e | ⟨e1, e2, e3⟩
  · rw [e]; exact UpR.rf
  · rw [e3]; exact UpR.put (hQ e1) hy e2
theorem UpR.le {τ : Td} {v M : Nat} {Q : Nat → Prop} {ra rb : Nat → Nat} (h : UpR τ v Q ra rb) (hv : v ≤ M) (hr : ∀ j, j < 1024 → ra j ≤ M) : ∀ j, j < 1024 → rb j ≤ M := fun j hj => by
  rcases h j with a | ⟨-, a, -⟩
  · rw [a]; exact hr j hj
  · omega
theorem cX_small {G : Gl} {m : Nat} {ad : Nat → Nat} {η0 : AH} (hap : Mp m ad) (σ : MS) (τ : Td) (hd ld : Nat → Nat) (w : Nat) (hW : WX σ τ hd ld w) (x : Nat) (hx : VL τ x) : Ct G yX8_small cX8_small 2 (some .int) 2 0 0 [.ref m, .int (nI x)] (MH m ad σ η0) (re (some (.int (nI (smT τ x)))) (MH m ad σ η0)) := by
  refine Ct.start rfl rfl (Nat.le_of_ble_eq_true rfl) (fun Γ => ?_)
  have hl := hW.1.1
  have hx2 := hx.lt hl.2.2.1
  have hb0 := (hx.b2 0).1
  have hb1 := (hx.b2 1).1
  refine v_aload_n (i := 0) dX8_small_0 rfl rfl ?_
  refine v_iload_n (i := 1) dX8_small_1 rfl rfl ?_
  refine v_iconst (v := nI 1) dX8_small_2 k_iconst_1 ?_
  refine v_callVi (cX_setAt hap σ τ hd ld w hW x 1 (by omega) (by decide)) (lw_V q2413 q2415 qs95 q136 q2416) iX8_setAt rfl KX8 MH_m rfl rfl (by decide) (by decide) (Nat.le_of_ble_eq_true rfl) dX8_small_3 ?_
  refine v_iload_n (i := 1) dX8_small_6 rfl rfl ?_
  refine v_iconst (v := nI 0) dX8_small_7 k_iconst_0 ?_
  refine v_callSi (cM_boatIn x 0 (by omega) (by decide)) (lw_S q2410 q2411 q136 q2412) iX8_boatIn rfl rfl (by decide) (by decide) (Nat.le_of_ble_eq_true rfl) dX8_small_8 ?_
  refine v_bipush (v := nI 8) dX8_small_11 k_bipush_8 ?_
  refine vn_ishl (by decide) dX8_small_13 ?_
  refine vn_ior dX8_small_14 ?_
  refine v_iload_n (i := 1) dX8_small_15 rfl rfl ?_
  refine v_iconst (v := nI 1) dX8_small_16 k_iconst_1 ?_
  refine v_callSi (cM_boatIn x 1 (by omega) (by decide)) (lw_S q2410 q2411 q136 q2412) iX8_boatIn rfl rfl (by decide) (by decide) (Nat.le_of_ble_eq_true rfl) dX8_small_17 ?_
  refine v_bipush (v := nI 9) dX8_small_20 k_bipush_9 ?_
  refine vn_ishl (by decide) dX8_small_22 ?_
  refine vn_ior dX8_small_23 ?_
  exact v_iret rfl dX8_small_24 ⟨rfl, rfl⟩
theorem cX_large {G : Gl} {m : Nat} {ad : Nat → Nat} {η0 : AH} (hap : Mp m ad) (σ : MS) (τ : Td) (hd ld : Nat → Nat) (w : Nat) (hW : WX σ τ hd ld w) (k : Nat) (hk : k < 1024) : Ct G yX8_large cX8_large 4 (some .int) 2 0 0 [.ref m, .int (nI k)] (MH m ad σ η0) (re (some (.int (nI (lgT τ k)))) (MH m ad σ η0)) := by
  refine Ct.start rfl rfl (Nat.le_of_ble_eq_true rfl) (fun Γ => ?_)
  have hl := hW.1.1
  have e2 : gN σ 2 = tN τ 30 := hW.2.1.2.1
  have L : ∀ (n t : Nat), t + n = tN τ 30 → V G Γ yX8_large cX8_large 4 (some .int) [] 2 (re (some (.int (nI (lgT τ k)))) (MH m ad σ η0)) 0 0 (MH m ad σ η0) 22 [some (.ref m), some (.int (nI k)), some (.int (nI (lgN k t))), some (.int (nI t))] [] := by
    intro n
    induction n with
    | zero =>
      intro t ht
      have e : t = tN τ 30 := by omega
      subst e
      refine v_iload_n (i := 3) dX8_large_22 rfl rfl ?_
      refine v_aload_n (i := 0) dX8_large_23 rfl rfl ?_
      refine mg_things rfl dX8_large_24 ?_
      refine vn_icmp_ge (tgt := 48) dX8_large_27 rfl (by omega) (show gN σ 2 < _ by omega) (fun c27 => ?_) (fun c27 => ?_)
      · refine v_iload_n (i := 2) dX8_large_48 rfl rfl ?_
        exact v_iret rfl dX8_large_49 ⟨rfl, rfl⟩
      · exact absurd (show tN τ 30 < gN σ 2 from c27) (by omega)
    | succ n ih =>
      intro t ht
      refine v_iload_n (i := 3) dX8_large_22 rfl rfl ?_
      refine v_aload_n (i := 0) dX8_large_23 rfl rfl ?_
      refine mg_things rfl dX8_large_24 ?_
      refine vn_icmp_ge (tgt := 48) dX8_large_27 rfl (by omega) (show gN σ 2 < _ by omega) (fun c27 => ?_) (fun c27 => ?_)
      · exact absurd (show gN σ 2 ≤ t from c27) (by omega)
      · refine v_iload_n (i := 2) dX8_large_30 rfl rfl ?_
        refine v_iload_n (i := 1) dX8_large_31 rfl rfl ?_
        refine v_iload_n (i := 3) dX8_large_32 rfl rfl ?_
        refine vn_ishr (by omega) (by omega) dX8_large_33 ?_
        refine v_iconst (v := nI 1) dX8_large_34 k_iconst_1 ?_
        refine vn_and1 dX8_large_35 ?_
        refine v_iconst (v := nI 2) dX8_large_36 k_iconst_2 ?_
        refine v_iload_n (i := 3) dX8_large_37 rfl rfl ?_
        refine vn_imul dX8_large_38 ?_
        refine vn_ishl (by omega) dX8_large_39 ?_
        refine vn_ior dX8_large_40 ?_
        refine v_istore_n (i := 2) dX8_large_41 rfl (by decide) rfl ?_
        refine vn_iinc 1 dX8_large_42 rfl k_iconst_1 (by decide) rfl ?_
        refine v_goto (tgt := 22) dX8_large_45 rfl ?_
        exact ih (t + 1) (by omega)
  refine v_iload_n (i := 1) dX8_large_0 rfl rfl ?_
  refine v_bipush (v := nI 8) dX8_large_1 k_bipush_8 ?_
  refine vn_ishr (by omega) (by decide) dX8_large_3 ?_
  refine v_iconst (v := nI 1) dX8_large_4 k_iconst_1 ?_
  refine vn_and1 dX8_large_5 ?_
  refine v_bipush (v := nI 16) dX8_large_6 k_bipush_16 ?_
  refine vn_ishl (by decide) dX8_large_8 ?_
  refine v_iload_n (i := 1) dX8_large_9 rfl rfl ?_
  refine v_bipush (v := nI 9) dX8_large_10 k_bipush_9 ?_
  refine vn_ishr (by omega) (by decide) dX8_large_12 ?_
  refine v_iconst (v := nI 1) dX8_large_13 k_iconst_1 ?_
  refine vn_and1 dX8_large_14 ?_
  refine v_bipush (v := nI 18) dX8_large_15 k_bipush_18 ?_
  refine vn_ishl (by decide) dX8_large_17 ?_
  refine vn_ior dX8_large_18 ?_
  refine v_istore_n (i := 2) dX8_large_19 rfl (by decide) rfl ?_
  refine v_iconst (v := nI 0) dX8_large_20 k_iconst_0 ?_
  refine v_istore_n (i := 3) dX8_large_21 rfl (by decide) rfl ?_
  exact L (tN τ 30) 0 (by omega)
theorem cX_comes {G : Gl} {m : Nat} {ad : Nat → Nat} {η0 : AH} (hap : Mp m ad) (σ : MS) (τ : Td) (hW : WX σ τ (tA τ 41) (tA τ 42) 0) (y d : Nat) (hy : VL τ y) (hd : d < 4000) (hra : ∀ j, j < 1024 → gA σ 83 j ≤ 4000) : Ct G yX8_comes cX8_comes 3 none 6 0 0 [.ref m, .int (nI y), .int (nI d)] (MH m ad σ η0) (rv fun η => ∃ σ2, η = MH m ad σ2 η0 ∧ CF σ σ2 ∧ Cch (bfT τ) (gA σ2 50) ∧ CM τ y (d + 1) (gA σ 83) (gA σ2 83)) := by
  refine Ct.start rfl rfl (Nat.le_of_ble_eq_true rfl) (fun Γ => ?_)
  have hl := hW.1.1
  have hy2 := hy.lt hl.2.2.1
  have hs := smT_lt hl.2.2.1 hy
  have hr := hra _ hs
  have hbs := bsT_lt hW.1 0 y 0 0 0
  refine v_aload_n (i := 0) dX8_comes_0 rfl rfl ?_
  refine v_iload_n (i := 1) dX8_comes_1 rfl rfl ?_
  refine v_iconst (v := nI 0) dX8_comes_2 k_iconst_0 ?_
  refine v_iconst (v := nI 0) dX8_comes_3 k_iconst_0 ?_
  refine v_iconst (v := nI 0) dX8_comes_4 k_iconst_0 ?_
  refine v_callVI (kc' := 0) (ks' := 0) (cX_barsShores hap σ τ _ _ 0 hW y 0 0 0 (by omega) (by decide) (by decide)) (lw_V q2406 q2408 qs94 q136 q2409) iX8_barsShores rfl KX8 MH_m rfl rfl (by decide) (by decide) (Nat.le_of_ble_eq_true rfl) (by decide) (by decide) dX8_comes_5 (fun x_ η' h => ?_)
  obtain ⟨rfl, c1, p1, hc1, rfl⟩ := h
  refine vn_if_ne (tgt := 36) dX8_comes_8 rfl (by omega) (fun c8 => ?_) (fun c8 => ?_)
  · exact v_vret rfl dX8_comes_36 ⟨rfl, sCP σ c1 p1, rfl, (CF.rf σ).cp, hc1, Or.inl rfl, fun q => absurd q c8⟩
  · refine v_aload_n (i := 0) dX8_comes_11 rfl rfl ?_
    refine mg_rounds rfl dX8_comes_12 ?_
    refine v_aload_n (i := 0) dX8_comes_15 rfl rfl ?_
    refine v_iload_n (i := 1) dX8_comes_16 rfl rfl ?_
    refine v_callVi (cX_small hap (sCP σ c1 p1) τ _ _ 0 (hW.cp hc1) y hy) (lw_V q2518 q2520 qs111 q136 q2521) iX8_small rfl KX8 MH_m rfl rfl (by decide) (by decide) (Nat.le_of_ble_eq_true rfl) dX8_comes_17 ?_
    refine ml_rounds hap hs dX8_comes_20 ?_
    refine v_iconst (v := -1) dX8_comes_21 k_iconst_m1 ?_
    refine vo_icmp_ne (tgt := 36) dX8_comes_22 rfl (show gA σ 83 (smT τ y) < _ by omega) (fun c22 => ?_) (fun c22 => ?_)
    · have c22 : ¬ gA σ 83 (smT τ y) = 0 := c22
      exact v_vret rfl dX8_comes_36 ⟨rfl, sCP σ c1 p1, rfl, (CF.rf σ).cp, hc1, Or.inl rfl, fun q => c22⟩
    · have c22 : gA σ 83 (smT τ y) = 0 := c22
      refine v_aload_n (i := 0) dX8_comes_25 rfl rfl ?_
      refine mg_rounds rfl dX8_comes_26 ?_
      refine v_aload_n (i := 0) dX8_comes_29 rfl rfl ?_
      refine v_iload_n (i := 1) dX8_comes_30 rfl rfl ?_
      refine v_callVi (cX_small hap (sCP σ c1 p1) τ _ _ 0 (hW.cp hc1) y hy) (lw_V q2518 q2520 qs111 q136 q2521) iX8_small rfl KX8 MH_m rfl rfl (by decide) (by decide) (Nat.le_of_ble_eq_true rfl) dX8_comes_31 ?_
      refine v_iload_n (i := 2) dX8_comes_34 rfl rfl ?_
      refine ms_rounds_n hap hs dX8_comes_35 ?_
      exact v_vret rfl dX8_comes_36 ⟨rfl, sA (sCP σ c1 p1) 83 (smT τ y) (d + 1), rfl, (CF.rf σ).cp.a, hc1, Or.inr ⟨c8, c22, rfl⟩, fun _ => (by show va_up (gA σ 83) (smT τ y) (d + 1) (smT τ y) ≠ 0; rw [va_up_e]; omega)⟩
