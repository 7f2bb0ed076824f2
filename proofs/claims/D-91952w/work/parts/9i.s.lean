set_option maxRecDepth 100000
/-- a Map that has run and is not spent -/
def MapR (η : AH) (t m w j q : Nat) (adm : Nat → Nat) (τ : Td) (hd ld : Nat → Nat) (wo : Nat) (X : XT) (μ : MS) : Prop :=
  ME η t m w j q adm τ hd ld wo μ ∧ expl (τ, hd, ld, wo) = some X ∧ gN μ 11 = 0 ∧ MX τ μ X ∧ FSm μ X ∧ TU μ X ∧ gN μ 14 < 2 ∧ gN μ 15 < 2 ∧
  (gN μ 14 = 1 → EQd X (glT τ X) (Wq τ X 0) (gA μ 12) ∧ ∀ x, x < xn X → gA μ 12 x ≤ 811415505) ∧ (gN μ 15 = 1 → EQd X (glT τ X) (Wq τ X 1) (gA μ 13) ∧ ∀ x, x < xn X → gA μ 13 x ≤ 811415505)
theorem FSm.bk {kk : Nat} {μ μ' : MS} {X : XT} (h : MBk kk μ μ') (hk : 12 ≤ kk) (hX : FSm μ X) : FSm μ' X := fun i hi => by rw [h.2 5 (by omega) (by decide)]; exact hX i hi
theorem TU.bk {kk : Nat} {μ μ' : MS} {X : XT} (h : MBk kk μ μ') (hk : 12 ≤ kk ∧ kk < 16) (hX : TU μ X) : TU μ' X := by
  unfold TU
  rw [h.2 16 (by omega) (by decide), h.2 17 (by omega) (by decide), h.2 18 (by omega) (by decide)]
  exact hX
theorem MapR.w {η : AH} {t m w j q : Nat} {adm : Nat → Nat} {τ : Td} {hd ld : Nat → Nat} {wo : Nat} {X : XT} {μ : MS} (h : MapR η t m w j q adm τ hd ld wo X μ) : XW X := expl_w h.2.1
theorem MapR.f {η : AH} {t m w j q : Nat} {adm : Nat → Nat} {τ : Td} {hd ld : Nat → Nat} {wo : Nat} {X : XT} {μ : MS} (h : MapR η t m w j q adm τ hd ld wo X μ) : xfs X 0 = 0 ∧ xfs X (xn X) = xe X := expl_f h.2.1
theorem MapR.kp {η η' : AH} {t m w j q : Nat} {adm : Nat → Nat} {τ : Td} {hd ld : Nat → Nat} {wo : Nat} {X : XT} {μ : MS} {lo hi : Nat} (h : MapR η t m w j q adm τ hd ld wo X μ) (hk : Kp lo hi η η') (hh : t + 2 < lo ∨ hi ≤ t) : MapR η' t m w j q adm τ hd ld wo X μ := ⟨h.1.kp hk hh, h.2⟩
theorem MapR.d0 {η : AH} {t m w j q : Nat} {adm : Nat → Nat} {τ : Td} {hd ld : Nat → Nat} {wo : Nat} {X : XT} {μ : MS} (h : MapR η t m w j q adm τ hd ld wo X μ) (h1 : gN μ 14 = 1) {k : Nat} (hk : k < xn X) : gA μ 12 k = dsF X (glT τ X) (Wq τ X 0) k := dsF_eq h.w (Wq_pos τ X 0) (h.2.2.2.2.2.2.2.2.1 h1).1 hk
theorem MapR.d1 {η : AH} {t m w j q : Nat} {adm : Nat → Nat} {τ : Td} {hd ld : Nat → Nat} {wo : Nat} {X : XT} {μ : MS} (h : MapR η t m w j q adm τ hd ld wo X μ) (h1 : gN μ 15 = 1) {k : Nat} (hk : k < xn X) : gA μ 13 k = dsF X (glT τ X) (Wq τ X 1) k := dsF_eq h.w (Wq_pos τ X 1) (h.2.2.2.2.2.2.2.2.2 h1).1 hk
theorem cS_left {G : Gl} {η0 : AH} {w : Nat} {τ : Td} (hW : Wd G η0 w τ) {t m j q : Nat} {adm : Nat → Nat} {hd ld : Nat → Nat} {wo : Nat} {μ : MS} {X : XT} (hR : MapR η0 t m w j q adm τ hd ld wo X μ) : Ct G yX3_left cX3_left 1 (some (.array .int)) 6 (3) (10) [.ref m] η0 (rr fun r η => r = adm 12 ∧ ∃ μ2, MapR η t m w j q adm τ hd ld wo X μ2 ∧ gN μ2 14 = 1 ∧ gN μ2 15 = gN μ 15 ∧ Kp t (t + 4) η0 η) := by
  refine Ct.start rfl rfl (Nat.le_of_ble_eq_true rfl) (fun Γ => ?_)
  obtain ⟨hM, hE, h11, hX, hF, hT, h14, h15, r14, r15⟩ := id hR
  have h0 : Kp t (t + 4) η0 η0 := Kp.rf
  have hf := hR.f
  obtain ⟨hMo, m0, m1, hJ, hQ⟩ := id hM
  refine v_aload_n (i := 0) dX3_left_0 rfl rfl ?_
  refine go_get0 hMo KX3 14 (by decide) rfl (gN μ 14) rfl q298 dX3_left_1 ?_
  refine vn_if_ne (tgt := 16) dX3_left_4 rfl (by omega) (fun c4 => ?_) (fun c4 => ?_)
  · refine v_aload_n (i := 0) dX3_left_16 rfl rfl ?_
    refine v_iconst (v := nI 1) dX3_left_17 k_iconst_1 ?_
    refine go_put0 hMo KX3 14 (by decide) rfl q298 rfl (zb (by decide)).1 (zb (by decide)).2 dX3_left_18 (fun η hMo hk => ?_)
    have h0 := h0.th hk (by omega) (by omega)
    have hQ := hQ.kp hk (by omega)
    obtain ⟨lw, hJ⟩ := hJ
    have hJ := hJ.kp hk (by omega)
    have hJ : ∃ lw, Jd _ (t + 1) j q w τ hd ld wo lw := ⟨lw, hJ⟩
    refine v_aload_n (i := 0) dX3_left_21 rfl rfl ?_
    refine go_getA hMo KX3 12 (by decide) (by decide) q296 dX3_left_22 ?_
    exact v_aret rfl (Or.inr ⟨_, rfl⟩) dX3_left_25 ⟨_, rfl, rfl, sN μ 14 1, ⟨⟨hMo, m0, m1, hJ, hQ⟩, hE, h11, hX, hF, hT, (by show 1 < 2; decide), h15, (fun _ => r14 (by omega)), r15⟩, rfl, rfl, h0⟩
  · refine v_aload_n (i := 0) dX3_left_7 rfl rfl ?_
    refine v_iconst (v := nI 0) dX3_left_8 k_iconst_0 ?_
    refine v_aload_n (i := 0) dX3_left_9 rfl rfl ?_
    refine go_getA hMo KX3 12 (by decide) (by decide) q296 dX3_left_10 ?_
    refine v_callVe (kc' := 0) (ks' := 0) (cS_back_left hW hM hX hR.w hF hT hf.1 hf.2) (lw_V q773 q775 qs9 q124 q776) iX3_back rfl KX3 hMo.rcv rfl rfl (by decide) (by decide) (Nat.le_of_ble_eq_true rfl) (by decide) (by decide) dX3_left_13 (kr_W (fun η h => ?_)) kx_W
    obtain ⟨μ2, hM2, h0, hB, hD⟩ := h
    obtain ⟨hMo, m0, m1, hJ, hQ⟩ := id hM2
    refine v_aload_n (i := 0) dX3_left_16 rfl rfl ?_
    refine v_iconst (v := nI 1) dX3_left_17 k_iconst_1 ?_
    refine go_put0 hMo KX3 14 (by decide) rfl q298 rfl (zb (by decide)).1 (zb (by decide)).2 dX3_left_18 (fun η hMo hk => ?_)
    have h0 := h0.th hk (by omega) (by omega)
    have hQ := hQ.kp hk (by omega)
    obtain ⟨lw, hJ⟩ := hJ
    have hJ := hJ.kp hk (by omega)
    have hJ : ∃ lw, Jd _ (t + 1) j q w τ hd ld wo lw := ⟨lw, hJ⟩
    refine v_aload_n (i := 0) dX3_left_21 rfl rfl ?_
    refine go_getA hMo KX3 12 (by decide) (by decide) q296 dX3_left_22 ?_
    exact v_aret rfl (Or.inr ⟨_, rfl⟩) dX3_left_25 ⟨_, rfl, rfl, sN μ2 14 1, ⟨⟨hMo, m0, m1, hJ, hQ⟩, hE, (hB.1 11).trans h11, hB.mx (μ' := μ2) (by decide) hX, hF.bk (μ' := μ2) hB (by decide), hT.bk (μ' := μ2) hB (by decide), (by show 1 < 2; decide), (by show gN μ2 15 < 2; rw [hB.1]; exact h15), (fun _ => hD), (fun z => by have z : gN μ2 15 = 1 := z; show EQd X (glT τ X) (Wq τ X 1) (gA μ2 13) ∧ ∀ x, x < xn X → gA μ2 13 x ≤ 811415505; rw [hB.2 13 (by decide) (by decide)]; exact r15 (by rw [← hB.1]; exact z))⟩, rfl, hB.1 _, h0⟩
theorem cS_cost {G : Gl} {η0 : AH} {w : Nat} {τ : Td} (hW : Wd G η0 w τ) {t m j q : Nat} {adm : Nat → Nat} {hd ld : Nat → Nat} {wo : Nat} {μ : MS} {X : XT} (hR : MapR η0 t m w j q adm τ hd ld wo X μ) : Ct G yX3_cost cX3_cost 1 (some (.array .int)) 6 (3) (10) [.ref m] η0 (rr fun r η => r = adm 13 ∧ ∃ μ2, MapR η t m w j q adm τ hd ld wo X μ2 ∧ gN μ2 15 = 1 ∧ gN μ2 14 = gN μ 14 ∧ Kp t (t + 4) η0 η) := by
  refine Ct.start rfl rfl (Nat.le_of_ble_eq_true rfl) (fun Γ => ?_)
  obtain ⟨hM, hE, h11, hX, hF, hT, h14, h15, r14, r15⟩ := id hR
  have h0 : Kp t (t + 4) η0 η0 := Kp.rf
  have hf := hR.f
  obtain ⟨hMo, m0, m1, hJ, hQ⟩ := id hM
  refine v_aload_n (i := 0) dX3_cost_0 rfl rfl ?_
  refine go_get0 hMo KX3 15 (by decide) rfl (gN μ 15) rfl q299 dX3_cost_1 ?_
  refine vn_if_ne (tgt := 16) dX3_cost_4 rfl (by omega) (fun c4 => ?_) (fun c4 => ?_)
  · refine v_aload_n (i := 0) dX3_cost_16 rfl rfl ?_
    refine v_iconst (v := nI 1) dX3_cost_17 k_iconst_1 ?_
    refine go_put0 hMo KX3 15 (by decide) rfl q299 rfl (zb (by decide)).1 (zb (by decide)).2 dX3_cost_18 (fun η hMo hk => ?_)
    have h0 := h0.th hk (by omega) (by omega)
    have hQ := hQ.kp hk (by omega)
    obtain ⟨lw, hJ⟩ := hJ
    have hJ := hJ.kp hk (by omega)
    have hJ : ∃ lw, Jd _ (t + 1) j q w τ hd ld wo lw := ⟨lw, hJ⟩
    refine v_aload_n (i := 0) dX3_cost_21 rfl rfl ?_
    refine go_getA hMo KX3 13 (by decide) (by decide) q297 dX3_cost_22 ?_
    exact v_aret rfl (Or.inr ⟨_, rfl⟩) dX3_cost_25 ⟨_, rfl, rfl, sN μ 15 1, ⟨⟨hMo, m0, m1, hJ, hQ⟩, hE, h11, hX, hF, hT, h14, (by show 1 < 2; decide), r14, (fun _ => r15 (by omega))⟩, rfl, rfl, h0⟩
  · refine v_aload_n (i := 0) dX3_cost_7 rfl rfl ?_
    refine v_iconst (v := nI 1) dX3_cost_8 k_iconst_1 ?_
    refine v_aload_n (i := 0) dX3_cost_9 rfl rfl ?_
    refine go_getA hMo KX3 13 (by decide) (by decide) q297 dX3_cost_10 ?_
    refine v_callVe (kc' := 0) (ks' := 0) (cS_back_cost hW hM hX hR.w hF hT hf.1 hf.2) (lw_V q773 q775 qs9 q124 q776) iX3_back rfl KX3 hMo.rcv rfl rfl (by decide) (by decide) (Nat.le_of_ble_eq_true rfl) (by decide) (by decide) dX3_cost_13 (kr_W (fun η h => ?_)) kx_W
    obtain ⟨μ2, hM2, h0, hB, hD⟩ := h
    obtain ⟨hMo, m0, m1, hJ, hQ⟩ := id hM2
    refine v_aload_n (i := 0) dX3_cost_16 rfl rfl ?_
    refine v_iconst (v := nI 1) dX3_cost_17 k_iconst_1 ?_
    refine go_put0 hMo KX3 15 (by decide) rfl q299 rfl (zb (by decide)).1 (zb (by decide)).2 dX3_cost_18 (fun η hMo hk => ?_)
    have h0 := h0.th hk (by omega) (by omega)
    have hQ := hQ.kp hk (by omega)
    obtain ⟨lw, hJ⟩ := hJ
    have hJ := hJ.kp hk (by omega)
    have hJ : ∃ lw, Jd _ (t + 1) j q w τ hd ld wo lw := ⟨lw, hJ⟩
    refine v_aload_n (i := 0) dX3_cost_21 rfl rfl ?_
    refine go_getA hMo KX3 13 (by decide) (by decide) q297 dX3_cost_22 ?_
    exact v_aret rfl (Or.inr ⟨_, rfl⟩) dX3_cost_25 ⟨_, rfl, rfl, sN μ2 15 1, ⟨⟨hMo, m0, m1, hJ, hQ⟩, hE, (hB.1 11).trans h11, hB.mx (μ' := μ2) (by decide) hX, hF.bk (μ' := μ2) hB (by decide), hT.bk (μ' := μ2) hB (by decide), (by show gN μ2 14 < 2; rw [hB.1]; exact h14), (by show 1 < 2; decide), (fun z => by have z : gN μ2 14 = 1 := z; show EQd X (glT τ X) (Wq τ X 0) (gA μ2 12) ∧ ∀ x, x < xn X → gA μ2 12 x ≤ 811415505; rw [hB.2 12 (by decide) (by decide)]; exact r14 (by rw [← hB.1]; exact z)), (fun _ => hD)⟩, rfl, hB.1 _, h0⟩
theorem cS_best_left {G : Gl} {η0 : AH} {w : Nat} {τ : Td} (hW : Wd G η0 w τ) {t m j q : Nat} {adm : Nat → Nat} {hd ld : Nat → Nat} {wo : Nat} {μ : MS} {X : XT} (hR : MapR η0 t m w j q adm τ hd ld wo X μ) {k : Nat} (hk_ : k < xn X) (hf1 : 1 < (dsF X (glT τ X) (Wq τ X 0)) k) : Ct G yX3_best cX3_best 5 (some .int) 7 (3) (10) [.ref m, .int (nI k), .int (nI 0)] η0 (ri fun r η => r = nI (bestE X (dsF X (glT τ X) (Wq τ X 0)) (Wq τ X 0) k) ∧ ∃ μ2, MapR η t m w j q adm τ hd ld wo X μ2 ∧ gN μ2 14 = 1 ∧ gN μ2 15 = gN μ 15 ∧ Kp t (t + 4) η0 η) := by
  refine Ct.start rfl rfl (Nat.le_of_ble_eq_true rfl) (fun Γ => ?_)
  have hTB := hW.tb
  refine v_iload_n (i := 2) dX3_best_0 rfl rfl ?_
  refine vn_if_eq (tgt := 11) dX3_best_1 rfl (by decide) (fun c1 => ?_) (fun c1 => ?_)
  · refine v_aload_n (i := 0) dX3_best_11 rfl rfl ?_
    refine v_callVe (kc' := 0) (ks' := 0) (cS_left hW hR) (lw_V q798 q770 q771 q124 q772) iX3_left rfl KX3 hR.1.1.rcv rfl rfl (by decide) (by decide) (Nat.le_of_ble_eq_true rfl) (by decide) (by decide) dX3_best_12 (kr_R (fun x_ η h => ?_)) kx_R
    obtain ⟨rfl, μ2, hR2, h14, h1o, h0⟩ := h
    obtain ⟨hM, hE, g11, hX, hF, hT, g14, g15, r14, r15⟩ := id hR2
    have hM := hM.1
    obtain ⟨x1, x2, x3, x4, x5, x6⟩ := id hX
    obtain ⟨w1, w2, w3, w4, w5, w6⟩ := id hR2.w
    have hdd := r14 h14
    have hds : ∀ {k}, k < xn X → gA μ2 12 k = (dsF X (glT τ X) (Wq τ X 0)) k := fun hk => hR2.d0 h14 hk
    have w4k := w4 k hk_
    have w5k := w5 (k + 1) (by omega)
    have hBE := bestE_ok hdd.1 hR2.w hk_ (by rw [hds hk_]; exact hf1)
    have hbe : bestE X (gA μ2 12) (Wq τ X 0) k = bestE X (dsF X (glT τ X) (Wq τ X 0)) (Wq τ X 0) k := bestE_congr hR2.w hk_ (fun j hj => hds hj)
    have hex : ∃ i, xfs X k ≤ i ∧ i < xfs X k + (xfs X (k + 1) - xfs X k) ∧ goodE X (gA μ2 12) (Wq τ X 0) k i = true := ⟨_, hBE.1, by omega, decide_eq_true ⟨hBE.2.2.1, hBE.2.2.2.1⟩⟩
    have L24 : ∀ (n e : Nat), e + n = xfs X (k + 1) → fstB (goodE X (gA μ2 12) (Wq τ X 0) k) n e = bestE X (dsF X (glT τ X) (Wq τ X 0)) (Wq τ X 0) k → (∃ i, e ≤ i ∧ i < e + n ∧ goodE X (gA μ2 12) (Wq τ X 0) k i = true) → V G Γ yX3_best cX3_best 5 (some .int) [] 7 (ri fun r η => r = nI (bestE X (dsF X (glT τ X) (Wq τ X 0)) (Wq τ X 0) k) ∧ ∃ μ2, MapR η t m w j q adm τ hd ld wo X μ2 ∧ gN μ2 14 = 1 ∧ gN μ2 15 = gN μ 15 ∧ Kp t (t + 4) η0 η) (0) (0) (η) 24 [some (.ref m), some (.int (nI k)), some (.int (nI 0)), some (.ref (adm 12)), some (.int (nI e))] [] := by
      intro n
      induction n with
      | zero =>
        intro e h1 h2 h3
        obtain ⟨i, i1, i2, i3⟩ := h3
        exact absurd i1 (by omega)
      | succ n ih =>
        intro e h1 h2 h3
        have he : e < xe X := by omega
        have x6e := (x6 e he).1
        have hj := w6 e he
        have hWp := Wq_pos τ X 0 e
        have hWl := Wq_le hTB X 0 e
        have hbj := hdd.2 _ hj
        have hbk := hdd.2 k hk_
        have hfk := hds hk_
        have hst : (goodE X (gA μ2 12) (Wq τ X 0) k e = true → fstB (goodE X (gA μ2 12) (Wq τ X 0) k) (n + 1) e = e) := fun g => by show (if goodE X (gA μ2 12) (Wq τ X 0) k e then e else _) = e; rw [if_pos g]
        obtain ⟨u, hu⟩ : ∃ u, gA μ2 12 k = u + 1 := ⟨gA μ2 12 k - 1, by omega⟩
        have hex2 : goodE X (gA μ2 12) (Wq τ X 0) k e ≠ true → (fstB (goodE X (gA μ2 12) (Wq τ X 0) k) n (e + 1) = bestE X (dsF X (glT τ X) (Wq τ X 0)) (Wq τ X 0) k ∧ ∃ i, e + 1 ≤ i ∧ i < e + 1 + n ∧ goodE X (gA μ2 12) (Wq τ X 0) k i = true) := fun g => by
          refine ⟨?_, ?_⟩
          · rw [← h2]
            show _ = if goodE X (gA μ2 12) (Wq τ X 0) k e then e else _
            rw [if_neg g]
          · obtain ⟨i, i1, i2, i3⟩ := h3
            exact ⟨i, by by_cases c : i = e; (rw [c] at i3; exact absurd i3 g); omega, by omega, i3⟩
        refine v_aload_n (i := 3) dX3_best_24 rfl rfl ?_
        refine v_aload_n (i := 0) dX3_best_25 rfl rfl ?_
        refine go_getA hM KX3 6 (by decide) (by decide) q285 dX3_best_26 ?_
        refine v_iload (i := 4) dX3_best_29 rfl ?_
        refine go_ld10 hM 6 (by decide) rfl (show _ < 40000 from (by omega)) (by decide) _ x6e dX3_best_31 ?_
        refine go_ld11 hM 12 (by decide) rfl (show _ < 2000 from (by omega)) (by decide) _ rfl dX3_best_32 ?_
        refine v_iconst (v := -1) dX3_best_33 k_iconst_m1 ?_
        refine vo_icmp_eq (tgt := 60) dX3_best_34 rfl (by omega) (fun c34 => ?_) (fun c34 => ?_)
        · refine vn_iinc 1 dX3_best_60 rfl k_iconst_1 (by decide) rfl ?_
          refine v_goto (tgt := 24) dX3_best_63 rfl ?_
          obtain ⟨e1, e2⟩ := hex2 (fun g => by have g := of_decide_eq_true g; exact g.1 c34)
          exact ih (e + 1) (by omega) e1 e2
        · obtain ⟨v, hv⟩ : ∃ v, gA μ2 12 (xej X e) = v + 1 := ⟨gA μ2 12 (xej X e) - 1, by omega⟩
          refine v_aload_n (i := 3) dX3_best_37 rfl rfl ?_
          refine v_aload_n (i := 0) dX3_best_38 rfl rfl ?_
          refine go_getA hM KX3 6 (by decide) (by decide) q285 dX3_best_39 ?_
          refine v_iload (i := 4) dX3_best_42 rfl ?_
          refine go_ld10 hM 6 (by decide) rfl (show _ < 40000 from (by omega)) (by decide) _ x6e dX3_best_44 ?_
          refine go_ld11 hM 12 (by decide) rfl (show _ < 2000 from (by omega)) (by decide) _ hv dX3_best_45 ?_
          refine v_aload_n (i := 0) dX3_best_46 rfl rfl ?_
          refine v_iload (i := 4) dX3_best_47 rfl ?_
          refine v_iload_n (i := 2) dX3_best_49 rfl rfl ?_
          refine v_callVe (cS_step hM hTB hX he (by decide)) (lw_V q781 q783 qs10 q124 q784) iX3_step rfl KX3 hM.rcv rfl rfl (by decide) (by decide) (Nat.le_of_ble_eq_true rfl) (Nat.le_refl _) (Nat.le_refl _) dX3_best_50 (kr_ei ?_) kx_e
          refine vn_iadd dX3_best_53 ?_
          refine v_aload_n (i := 3) dX3_best_54 rfl rfl ?_
          refine v_iload_n (i := 1) dX3_best_55 rfl rfl ?_
          refine go_ld11 hM 12 (by decide) rfl (show _ < 2000 from (by omega)) (by decide) _ hu dX3_best_56 ?_
          refine vn_icmp_eq (tgt := 66) dX3_best_57 rfl (by omega) (by omega) (fun c57 => ?_) (fun c57 => ?_)
          · refine v_iload (i := 4) dX3_best_66 rfl ?_
            exact v_iret rfl dX3_best_68 ⟨_, rfl, by rw [← h2, hst (decide_eq_true ⟨by omega, by omega⟩)], μ2, hR2, h14, h1o, h0⟩
          · refine vn_iinc 1 dX3_best_60 rfl k_iconst_1 (by decide) rfl ?_
            refine v_goto (tgt := 24) dX3_best_63 rfl ?_
            obtain ⟨e1, e2⟩ := hex2 (fun g => by have g := of_decide_eq_true g; omega)
            exact ih (e + 1) (by omega) e1 e2
    refine v_astore_n (i := 3) dX3_best_15 rfl (by decide) rfl ?_
    refine v_aload_n (i := 0) dX3_best_16 rfl rfl ?_
    refine go_getA hM KX3 5 (by decide) (by decide) q284 dX3_best_17 ?_
    refine v_iload_n (i := 1) dX3_best_20 rfl rfl ?_
    refine go_ld10 hM 5 (by decide) rfl (show _ < 2001 from (by omega)) (by decide) _ (hF k (by omega)) dX3_best_21 ?_
    refine v_istore (i := 4) dX3_best_22 (by decide) rfl ?_
    exact L24 _ (xfs X k) (by omega) hbe hex
  · exact absurd c1 (by decide)
theorem cS_best_cost {G : Gl} {η0 : AH} {w : Nat} {τ : Td} (hW : Wd G η0 w τ) {t m j q : Nat} {adm : Nat → Nat} {hd ld : Nat → Nat} {wo : Nat} {μ : MS} {X : XT} (hR : MapR η0 t m w j q adm τ hd ld wo X μ) {k : Nat} (hk_ : k < xn X) (hf1 : 1 < (dsF X (glT τ X) (Wq τ X 1)) k) : Ct G yX3_best cX3_best 5 (some .int) 7 (3) (10) [.ref m, .int (nI k), .int (nI 1)] η0 (ri fun r η => r = nI (bestE X (dsF X (glT τ X) (Wq τ X 1)) (Wq τ X 1) k) ∧ ∃ μ2, MapR η t m w j q adm τ hd ld wo X μ2 ∧ gN μ2 15 = 1 ∧ gN μ2 14 = gN μ 14 ∧ Kp t (t + 4) η0 η) := by
  refine Ct.start rfl rfl (Nat.le_of_ble_eq_true rfl) (fun Γ => ?_)
  have hTB := hW.tb
  refine v_iload_n (i := 2) dX3_best_0 rfl rfl ?_
  refine vn_if_eq (tgt := 11) dX3_best_1 rfl (by decide) (fun c1 => ?_) (fun c1 => ?_)
  · exact absurd c1 (by decide)
  · refine v_aload_n (i := 0) dX3_best_4 rfl rfl ?_
    refine v_callVe (kc' := 0) (ks' := 0) (cS_cost hW hR) (lw_V q797 q790 q791 q124 q792) iX3_cost rfl KX3 hR.1.1.rcv rfl rfl (by decide) (by decide) (Nat.le_of_ble_eq_true rfl) (by decide) (by decide) dX3_best_5 (kr_R (fun x_ η h => ?_)) kx_R
    obtain ⟨rfl, μ2, hR2, h14, h1o, h0⟩ := h
    obtain ⟨hM, hE, g11, hX, hF, hT, g14, g15, r14, r15⟩ := id hR2
    have hM := hM.1
    obtain ⟨x1, x2, x3, x4, x5, x6⟩ := id hX
    obtain ⟨w1, w2, w3, w4, w5, w6⟩ := id hR2.w
    have hdd := r15 h14
    have hds : ∀ {k}, k < xn X → gA μ2 13 k = (dsF X (glT τ X) (Wq τ X 1)) k := fun hk => hR2.d1 h14 hk
    refine v_goto (tgt := 15) dX3_best_8 rfl ?_
    have w4k := w4 k hk_
    have w5k := w5 (k + 1) (by omega)
    have hBE := bestE_ok hdd.1 hR2.w hk_ (by rw [hds hk_]; exact hf1)
    have hbe : bestE X (gA μ2 13) (Wq τ X 1) k = bestE X (dsF X (glT τ X) (Wq τ X 1)) (Wq τ X 1) k := bestE_congr hR2.w hk_ (fun j hj => hds hj)
    have hex : ∃ i, xfs X k ≤ i ∧ i < xfs X k + (xfs X (k + 1) - xfs X k) ∧ goodE X (gA μ2 13) (Wq τ X 1) k i = true := ⟨_, hBE.1, by omega, decide_eq_true ⟨hBE.2.2.1, hBE.2.2.2.1⟩⟩
    have L24 : ∀ (n e : Nat), e + n = xfs X (k + 1) → fstB (goodE X (gA μ2 13) (Wq τ X 1) k) n e = bestE X (dsF X (glT τ X) (Wq τ X 1)) (Wq τ X 1) k → (∃ i, e ≤ i ∧ i < e + n ∧ goodE X (gA μ2 13) (Wq τ X 1) k i = true) → V G Γ yX3_best cX3_best 5 (some .int) [] 7 (ri fun r η => r = nI (bestE X (dsF X (glT τ X) (Wq τ X 1)) (Wq τ X 1) k) ∧ ∃ μ2, MapR η t m w j q adm τ hd ld wo X μ2 ∧ gN μ2 15 = 1 ∧ gN μ2 14 = gN μ 14 ∧ Kp t (t + 4) η0 η) (0) (0) (η) 24 [some (.ref m), some (.int (nI k)), some (.int (nI 1)), some (.ref (adm 13)), some (.int (nI e))] [] := by
      intro n
      induction n with
      | zero =>
        intro e h1 h2 h3
        obtain ⟨i, i1, i2, i3⟩ := h3
        exact absurd i1 (by omega)
      | succ n ih =>
        intro e h1 h2 h3
        have he : e < xe X := by omega
        have x6e := (x6 e he).1
        have hj := w6 e he
        have hWp := Wq_pos τ X 1 e
        have hWl := Wq_le hTB X 1 e
        have hbj := hdd.2 _ hj
        have hbk := hdd.2 k hk_
        have hfk := hds hk_
        have hst : (goodE X (gA μ2 13) (Wq τ X 1) k e = true → fstB (goodE X (gA μ2 13) (Wq τ X 1) k) (n + 1) e = e) := fun g => by show (if goodE X (gA μ2 13) (Wq τ X 1) k e then e else _) = e; rw [if_pos g]
        obtain ⟨u, hu⟩ : ∃ u, gA μ2 13 k = u + 1 := ⟨gA μ2 13 k - 1, by omega⟩
        have hex2 : goodE X (gA μ2 13) (Wq τ X 1) k e ≠ true → (fstB (goodE X (gA μ2 13) (Wq τ X 1) k) n (e + 1) = bestE X (dsF X (glT τ X) (Wq τ X 1)) (Wq τ X 1) k ∧ ∃ i, e + 1 ≤ i ∧ i < e + 1 + n ∧ goodE X (gA μ2 13) (Wq τ X 1) k i = true) := fun g => by
          refine ⟨?_, ?_⟩
          · rw [← h2]
            show _ = if goodE X (gA μ2 13) (Wq τ X 1) k e then e else _
            rw [if_neg g]
          · obtain ⟨i, i1, i2, i3⟩ := h3
            exact ⟨i, by by_cases c : i = e; (rw [c] at i3; exact absurd i3 g); omega, by omega, i3⟩
        refine v_aload_n (i := 3) dX3_best_24 rfl rfl ?_
        refine v_aload_n (i := 0) dX3_best_25 rfl rfl ?_
        refine go_getA hM KX3 6 (by decide) (by decide) q285 dX3_best_26 ?_
        refine v_iload (i := 4) dX3_best_29 rfl ?_
        refine go_ld10 hM 6 (by decide) rfl (show _ < 40000 from (by omega)) (by decide) _ x6e dX3_best_31 ?_
        refine go_ld11 hM 13 (by decide) rfl (show _ < 2000 from (by omega)) (by decide) _ rfl dX3_best_32 ?_
        refine v_iconst (v := -1) dX3_best_33 k_iconst_m1 ?_
        refine vo_icmp_eq (tgt := 60) dX3_best_34 rfl (by omega) (fun c34 => ?_) (fun c34 => ?_)
        · refine vn_iinc 1 dX3_best_60 rfl k_iconst_1 (by decide) rfl ?_
          refine v_goto (tgt := 24) dX3_best_63 rfl ?_
          obtain ⟨e1, e2⟩ := hex2 (fun g => by have g := of_decide_eq_true g; exact g.1 c34)
          exact ih (e + 1) (by omega) e1 e2
        · obtain ⟨v, hv⟩ : ∃ v, gA μ2 13 (xej X e) = v + 1 := ⟨gA μ2 13 (xej X e) - 1, by omega⟩
          refine v_aload_n (i := 3) dX3_best_37 rfl rfl ?_
          refine v_aload_n (i := 0) dX3_best_38 rfl rfl ?_
          refine go_getA hM KX3 6 (by decide) (by decide) q285 dX3_best_39 ?_
          refine v_iload (i := 4) dX3_best_42 rfl ?_
          refine go_ld10 hM 6 (by decide) rfl (show _ < 40000 from (by omega)) (by decide) _ x6e dX3_best_44 ?_
          refine go_ld11 hM 13 (by decide) rfl (show _ < 2000 from (by omega)) (by decide) _ hv dX3_best_45 ?_
          refine v_aload_n (i := 0) dX3_best_46 rfl rfl ?_
          refine v_iload (i := 4) dX3_best_47 rfl ?_
          refine v_iload_n (i := 2) dX3_best_49 rfl rfl ?_
          refine v_callVe (cS_step hM hTB hX he (by decide)) (lw_V q781 q783 qs10 q124 q784) iX3_step rfl KX3 hM.rcv rfl rfl (by decide) (by decide) (Nat.le_of_ble_eq_true rfl) (Nat.le_refl _) (Nat.le_refl _) dX3_best_50 (kr_ei ?_) kx_e
          refine vn_iadd dX3_best_53 ?_
          refine v_aload_n (i := 3) dX3_best_54 rfl rfl ?_
          refine v_iload_n (i := 1) dX3_best_55 rfl rfl ?_
          refine go_ld11 hM 13 (by decide) rfl (show _ < 2000 from (by omega)) (by decide) _ hu dX3_best_56 ?_
          refine vn_icmp_eq (tgt := 66) dX3_best_57 rfl (by omega) (by omega) (fun c57 => ?_) (fun c57 => ?_)
          · refine v_iload (i := 4) dX3_best_66 rfl ?_
            exact v_iret rfl dX3_best_68 ⟨_, rfl, by rw [← h2, hst (decide_eq_true ⟨by omega, by omega⟩)], μ2, hR2, h14, h1o, h0⟩
          · refine vn_iinc 1 dX3_best_60 rfl k_iconst_1 (by decide) rfl ?_
            refine v_goto (tgt := 24) dX3_best_63 rfl ?_
            obtain ⟨e1, e2⟩ := hex2 (fun g => by have g := of_decide_eq_true g; omega)
            exact ih (e + 1) (by omega) e1 e2
    refine v_astore_n (i := 3) dX3_best_15 rfl (by decide) rfl ?_
    refine v_aload_n (i := 0) dX3_best_16 rfl rfl ?_
    refine go_getA hM KX3 5 (by decide) (by decide) q284 dX3_best_17 ?_
    refine v_iload_n (i := 1) dX3_best_20 rfl rfl ?_
    refine go_ld10 hM 5 (by decide) rfl (show _ < 2001 from (by omega)) (by decide) _ (hF k (by omega)) dX3_best_21 ?_
    refine v_istore (i := 4) dX3_best_22 (by decide) rfl ?_
    exact L24 _ (xfs X k) (by omega) hbe hex
