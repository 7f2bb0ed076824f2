set_option maxRecDepth 100000
/-- what a run leaves and answers -/
def RunR (τ : Td) (μ : MS) (r : Int32) : Option XT → Prop
  | none => r = nI 0 ∧ gN μ 11 = 1
  | some X => r = nI 1 ∧ gN μ 11 = 0 ∧ MX τ μ X ∧ FSm μ X ∧ TU μ X
theorem MX.one {τ : Td} {μ : MS} {q : Nat} (hx : NR τ (stT τ)) (h10 : gN μ 10 = 0) (hS : SLt hsC (va_up (gA μ 3) q 1) (va_up (gA μ 2) 0 (cdT τ (stT τ))) 1) : MX τ (sN (sA (sA (sA μ 2 0 (cdT τ (stT τ))) 4 0 0) 3 q 1) 9 1) (xOne (stT τ)) := by
  refine ⟨rfl, h10, hS, by show 0 ≤ 40000; omega, fun j hj => ?_, fun e he => absurd he (by show ¬ e < 0; omega)⟩
  have hj : j < 1 := hj
  have e : j = 0 := by omega
  subst e
  exact ⟨rfl, rfl, hx, Nat.le_refl _⟩
theorem MR.w {τ : Td} {μ : MS} {X : XT} (h : MR τ μ (some X)) : MX τ μ X := h.1
theorem cS_run {G : Gl} {η0 : AH} {w : Nat} {τ : Td} (hW : Wd G η0 w τ) {t m : Nat} {adm : Nat → Nat} {μ : MS} (hMo : GO scX3 η0 (some t) m adm μ) {hn ln wo : Nat} {hd ld : Nat → Nat} (hhd : Ovr (tA τ 41) hn hd) (hld : Ovr (tA τ 42) ln ld) : Ct G yX3_run cX3_run 7 (some .boolean) 8 (7) (29) [.ref m, .ref w, .int (oI hn), .int (oI ln), .int (nI (ouN wo))] η0 (ri fun r η => ∃ μ2 j q, ME η t m w j q adm τ hd ld wo μ2 ∧ Kp t (t + 4) η0 η ∧ gN μ2 14 = 0 ∧ gN μ2 15 = 0 ∧ RunR τ μ2 r (expl (τ, hd, ld, wo))) := by
  refine Ct.start rfl rfl (Nat.le_of_ble_eq_true rfl) (fun Γ => ?_)
  have hTB := hW.tb
  obtain ⟨⟨wb1, wb2, wb3, wb4, wb5, wb6, wb7⟩, -⟩ := id hTB
  have hwn : expl (τ, hd, ld, wo) = expl (τ, hd, ld, wo) := rfl
  have LN : ∀ (j q p k : Nat) (η : AH) (μ1 : MS), k ≤ 2001 → GO scX3 η (some t) m adm μ1 → gN μ1 0 = w + 1 → gN μ1 1 = j + 1 → (∃ lw, Jd η (t + 1) j q w τ hd ld wo lw) → P0 η (t + 2) q w → Wd G η w τ → Kp t (t + 4) η0 η → gN μ1 14 = 0 → gN μ1 15 = 0 → gN μ1 11 = 1 → gN μ1 9 ≤ 2000 → gN μ1 10 ≤ 40000 → expl (τ, hd, ld, wo) = none → V G Γ yX3_run cX3_run 7 (some .boolean) [] 8 (ri fun r η => ∃ μ2 j q, ME η t m w j q adm τ hd ld wo μ2 ∧ Kp t (t + 4) η0 η ∧ gN μ2 14 = 0 ∧ gN μ2 15 = 0 ∧ RunR τ μ2 r (expl (τ, hd, ld, wo))) (0) (0) (η) 106 [some (.ref m), some (.ref w), some (.int (oI hn)), some (.int (oI ln)), some (.int (nI (ouN wo))), some (.ref p), some (.int (nI k))] [] := by
    intro j q p k η μ1 hk2 hMo m0 m1 hJ hQ hW h0 h14 h15 h11 h9 h10 hE
    refine v_iload (i := 6) dX3_run_106 rfl ?_
    refine v_aload_n (i := 0) dX3_run_108 rfl rfl ?_
    refine go_get0 hMo KX3 9 (by decide) rfl (gN μ1 9) rfl q290 dX3_run_109 ?_
    refine vn_icmp_ge (tgt := 159) dX3_run_112 rfl (by omega) (by omega) (fun c112 => ?_) (fun c112 => ?_)
    · refine v_aload_n (i := 0) dX3_run_159 rfl rfl ?_
      refine go_getA hMo KX3 5 (by decide) (by decide) q284 dX3_run_160 ?_
      refine v_aload_n (i := 0) dX3_run_163 rfl rfl ?_
      refine go_get0 hMo KX3 9 (by decide) rfl (gN μ1 9) rfl q290 dX3_run_164 ?_
      refine v_aload_n (i := 0) dX3_run_167 rfl rfl ?_
      refine go_get0 hMo KX3 10 (by decide) rfl (gN μ1 10) rfl q292 dX3_run_168 ?_
      refine go_st10 hMo 5 (by decide) rfl (show _ < 2001 from (by omega)) (by decide) dX3_run_171 (fun η hMo hk => ?_)
      have h0 := h0.th hk (by omega) (by omega)
      have hW := hW.kp hk
      have hQ := hQ.kp hk (by omega)
      obtain ⟨lw, hJ⟩ := hJ
      have hJ := hJ.kp hk (by omega)
      have hJ : ∃ lw, Jd _ (t + 1) j q w τ hd ld wo lw := ⟨lw, hJ⟩
      refine v_aload_n (i := 0) dX3_run_172 rfl rfl ?_
      refine go_get0 hMo KX3 11 (by decide) rfl (1) h11 q294 dX3_run_173 ?_
      refine vn_if_ne (tgt := 183) dX3_run_176 rfl (by decide) (fun c176 => ?_) (fun c176 => ?_)
      · refine v_aload_n (i := 0) dX3_run_183 rfl rfl ?_
        refine go_get0 hMo KX3 11 (by decide) rfl (1) h11 q294 dX3_run_184 ?_
        refine vn_if_ne (tgt := 194) dX3_run_187 rfl (by decide) (fun c187 => ?_) (fun c187 => ?_)
        · refine v_iconst (v := nI 0) dX3_run_194 k_iconst_0 ?_
          exact v_zret rfl rfl dX3_run_195 ⟨_, rfl, _, j, q, ⟨hMo, m0, m1, hJ, hQ⟩, h0, h14, h15, (by rw [hE]; exact ⟨rfl, h11⟩)⟩
        · exact absurd c187 (by decide)
      · exact absurd c176 (by decide)
    · refine v_aload_n (i := 0) dX3_run_115 rfl rfl ?_
      refine go_get0 hMo KX3 11 (by decide) rfl (1) h11 q294 dX3_run_116 ?_
      refine vn_if_ne (tgt := 159) dX3_run_119 rfl (by decide) (fun c119 => ?_) (fun c119 => ?_)
      · refine v_aload_n (i := 0) dX3_run_159 rfl rfl ?_
        refine go_getA hMo KX3 5 (by decide) (by decide) q284 dX3_run_160 ?_
        refine v_aload_n (i := 0) dX3_run_163 rfl rfl ?_
        refine go_get0 hMo KX3 9 (by decide) rfl (gN μ1 9) rfl q290 dX3_run_164 ?_
        refine v_aload_n (i := 0) dX3_run_167 rfl rfl ?_
        refine go_get0 hMo KX3 10 (by decide) rfl (gN μ1 10) rfl q292 dX3_run_168 ?_
        refine go_st10 hMo 5 (by decide) rfl (show _ < 2001 from (by omega)) (by decide) dX3_run_171 (fun η hMo hk => ?_)
        have h0 := h0.th hk (by omega) (by omega)
        have hW := hW.kp hk
        have hQ := hQ.kp hk (by omega)
        obtain ⟨lw, hJ⟩ := hJ
        have hJ := hJ.kp hk (by omega)
        have hJ : ∃ lw, Jd _ (t + 1) j q w τ hd ld wo lw := ⟨lw, hJ⟩
        refine v_aload_n (i := 0) dX3_run_172 rfl rfl ?_
        refine go_get0 hMo KX3 11 (by decide) rfl (1) h11 q294 dX3_run_173 ?_
        refine vn_if_ne (tgt := 183) dX3_run_176 rfl (by decide) (fun c176 => ?_) (fun c176 => ?_)
        · refine v_aload_n (i := 0) dX3_run_183 rfl rfl ?_
          refine go_get0 hMo KX3 11 (by decide) rfl (1) h11 q294 dX3_run_184 ?_
          refine vn_if_ne (tgt := 194) dX3_run_187 rfl (by decide) (fun c187 => ?_) (fun c187 => ?_)
          · refine v_iconst (v := nI 0) dX3_run_194 k_iconst_0 ?_
            exact v_zret rfl rfl dX3_run_195 ⟨_, rfl, _, j, q, ⟨hMo, m0, m1, hJ, hQ⟩, h0, h14, h15, (by rw [hE]; exact ⟨rfl, h11⟩)⟩
          · exact absurd c187 (by decide)
        · exact absurd c176 (by decide)
      · exact absurd c119 (by decide)
  have L106 : ∀ (n k j q p : Nat) (η : AH) (μ1 : MS) (X : XT), 2001 ≤ n + k → GO scX3 η (some t) m adm μ1 → gN μ1 0 = w + 1 → gN μ1 1 = j + 1 → (∃ lw, Jd η (t + 1) j q w τ hd ld wo lw) → P0 η (t + 2) q w → Wd G η w τ → Kp t (t + 4) η0 η → gN μ1 14 = 0 → gN μ1 15 = 0 → P0 η (t + 3) p w → MX τ μ1 X → gN μ1 11 = 0 → k ≤ xn X → (∀ i, i < k → gA μ1 5 i = xfs X i) → (¬ bsT τ wo (stT τ) 0 0 0 = 0 → xn X = 1 ∧ xst X 0 = stT τ) → expl (τ, hd, ld, wo) = xK (τ, hd, ld, wo) n k X → V G Γ yX3_run cX3_run 7 (some .boolean) [] 8 (ri fun r η => ∃ μ2 j q, ME η t m w j q adm τ hd ld wo μ2 ∧ Kp t (t + 4) η0 η ∧ gN μ2 14 = 0 ∧ gN μ2 15 = 0 ∧ RunR τ μ2 r (expl (τ, hd, ld, wo))) (0) (0) (η) 106 [some (.ref m), some (.ref w), some (.int (oI hn)), some (.int (oI ln)), some (.int (nI (ouN wo))), some (.ref p), some (.int (nI k))] [] := by
    intro n
    induction n with
    | zero =>
      intro k j q p η μ1 X hnk hMo m0 m1 hJ hQ hW h0 h14 h15 hP hX h11 hkn
      have := hX.2.2.1.1
      omega
    | succ n ih =>
      intro k j q p η μ1 X hnk hMo m0 m1 hJ hQ hW h0 h14 h15 hP hX h11 hkn hf hN hE
      obtain ⟨x1, x2, x3, x4, x5, x6⟩ := id hX
      have hn2 := x3.1
      by_cases hk : k < xn X
      · have hE : expl (τ, hd, ld, wo) = (if bsT τ wo (stT τ) 0 0 0 = 0 then xBo (τ, hd, ld, wo) k (xst X k) (tN τ 31) 0 (xFst X k) else some (xFst X k)).bind (xK (τ, hd, ld, wo) n (k + 1)) := hE.trans (if_pos hk)
        have hst : ¬ bsT τ wo (stT τ) 0 0 0 = 0 → xst X k = stT τ := fun z => by
          obtain ⟨z1, z2⟩ := hN z
          rw [show k = 0 by omega]; exact z2
        have hk_ := hk
        refine v_iload (i := 6) dX3_run_106 rfl ?_
        refine v_aload_n (i := 0) dX3_run_108 rfl rfl ?_
        refine go_get0 hMo KX3 9 (by decide) rfl (xn X) x1 q290 dX3_run_109 ?_
        refine vn_icmp_ge (tgt := 159) dX3_run_112 rfl (by omega) (by omega) (fun c112 => ?_) (fun c112 => ?_)
        · exact absurd (show xn X ≤ k from c112) (by omega)
        · refine v_aload_n (i := 0) dX3_run_115 rfl rfl ?_
          refine go_get0 hMo KX3 11 (by decide) rfl (0) h11 q294 dX3_run_116 ?_
          refine vn_if_ne (tgt := 159) dX3_run_119 rfl (by decide) (fun c119 => ?_) (fun c119 => ?_)
          · exact absurd rfl c119
          · refine v_aload_n (i := 0) dX3_run_122 rfl rfl ?_
            refine go_getA hMo KX3 5 (by decide) (by decide) q284 dX3_run_123 ?_
            refine v_iload (i := 6) dX3_run_126 rfl ?_
            refine v_aload_n (i := 0) dX3_run_128 rfl rfl ?_
            refine go_get0 hMo KX3 10 (by decide) rfl (xe X) x2 q292 dX3_run_129 ?_
            refine go_st10 hMo 5 (by decide) rfl (show _ < 2001 from (by omega)) (by decide) dX3_run_132 (fun η hMo hk => ?_)
            have h0 := h0.th hk (by omega) (by omega)
            have hW := hW.kp hk
            have hQ := hQ.kp hk (by omega)
            obtain ⟨lw, hJ⟩ := hJ
            have hJ := hJ.kp hk (by omega)
            have hJ : ∃ lw, Jd _ (t + 1) j q w τ hd ld wo lw := ⟨lw, hJ⟩
            have hP := hP.kp hk (by omega)
            refine v_aload (i := 5) dX3_run_133 rfl ?_
            refine v_aload_n (i := 0) dX3_run_135 rfl rfl ?_
            refine go_getA hMo KX3 2 (by decide) (by decide) q280 dX3_run_136 ?_
            refine v_iload (i := 6) dX3_run_139 rfl ?_
            refine go_ld10 hMo 2 (by decide) rfl (show _ < 2000 from (by omega)) (by decide) _ ((x5 k (by omega)).1) dX3_run_141 ?_
            refine v_callVe (cP_read hW hP (xst X k)) (lw_V q705 q706 q707 q135 q708) iX7_read rfl KX7 hP.rcv rfl rfl (by decide) (by decide) (Nat.le_of_ble_eq_true rfl) (Nat.le_refl _) (Nat.le_refl _) dX3_run_142 (kr_W (fun η h => ?_)) kx_W
            obtain ⟨hP, hk⟩ := h
            have h0 := h0.th hk (by omega) (by omega)
            have hW := hW.kp hk
            have hQ := hQ.kp hk (by omega)
            obtain ⟨lw, hJ⟩ := hJ
            have hJ := hJ.kp hk (by omega)
            have hJ : ∃ lw, Jd _ (t + 1) j q w τ hd ld wo lw := ⟨lw, hJ⟩
            have hMo := hMo.kpS hk (by omega)
            refine v_aload_n (i := 0) dX3_run_145 rfl rfl ?_
            refine v_iload (i := 6) dX3_run_146 rfl ?_
            refine v_aload (i := 5) dX3_run_148 rfl ?_
            refine v_callVe (cS_go hW ⟨hMo, m0, m1, hJ, hQ⟩ (X := xFst X k) hX h11 hP (Or.inr (Nat.le_refl _)) hk_ rfl hst) (lw_V q709 q711 qs4 q124 q712) iX3_go rfl KX3 hMo.rcv rfl rfl (by decide) (by decide) (Nat.le_of_ble_eq_true rfl) (Nat.le_refl _) (Nat.le_refl _) dX3_run_150 (kr_W (fun η h => ?_)) kx_W
            obtain ⟨μ2, hM, hMK, hk, hR, hKX⟩ := h
            rw [gBo_eq hTB] at hR hKX
            have h0 := h0.th hk (by omega) (by omega)
            have hW := hW.kp hk
            have hP := hP.kp hk (by omega)
            obtain ⟨hMo, n0, n1, hJ, hQ⟩ := hM
            have m14 : gN μ2 14 = 0 := (hMK.1 14 (by decide) (by decide) (by decide)).trans h14
            have m15 : gN μ2 15 = 0 := (hMK.1 15 (by decide) (by decide) (by decide)).trans h15
            have m5 : ∀ i, i < k + 1 → gA μ2 5 i = xfs (xFst X k) i := fun i hi => by
              rw [hMK.2 5 (by decide) (by decide) (by decide) (by decide) (by decide) (by decide)]
              show va_up (gA μ1 5) k (xe X) i = va_up (xfs X) k (xe X) i
              by_cases c : i = k
              · rw [c, va_up_e, va_up_e]
              · rw [va_up_n c, va_up_n c]; exact hf i (by omega)
            refine vn_iinc 1 dX3_run_153 rfl k_iconst_1 (by decide) rfl ?_
            refine v_goto (tgt := 106) dX3_run_156 rfl ?_
            by_cases hbs : bsT τ wo (stT τ) 0 0 0 = 0
            · rw [if_pos hbs] at hR hKX hE
              generalize hY : xBo (τ, hd, ld, wo) k (xst X k) (tN τ 31) 0 (xFst X k) = oY at hR hKX hE
              cases oY with
              | none => exact LN j q p (k + 1) η μ2 (by omega) hMo n0 n1 hJ hQ hW h0 m14 m15 hR.1 hR.2.1 hR.2.2 hE
              | some Y =>
                have hg := xBo_g hY
                refine ih (k + 1) j q p η μ2 Y (by omega) hMo n0 n1 hJ hQ hW h0 m14 m15 hP.p0 hR.1 hR.2 (by have := hg.2.1; have : xn X ≤ xn Y := this; omega) (fun i hi => ?_) (fun z => absurd hbs z) hE
                rw [m5 i hi, hg.1]
            · rw [if_neg hbs] at hR hKX hE
              exact ih (k + 1) j q p η μ2 (xFst X k) (by omega) hMo n0 n1 hJ hQ hW h0 m14 m15 hP.p0 hR.1 hR.2 (by show k + 1 ≤ xn X; omega) m5 (fun z => hN z) hE
      · have ek : k = xn X := by omega
        subst ek
        have hE : expl (τ, hd, ld, wo) = some (xFst X (xn X)) := hE.trans (if_neg hk)
        have hXW := expl_w hE
        refine v_iload (i := 6) dX3_run_106 rfl ?_
        refine v_aload_n (i := 0) dX3_run_108 rfl rfl ?_
        refine go_get0 hMo KX3 9 (by decide) rfl (xn X) x1 q290 dX3_run_109 ?_
        refine vn_icmp_ge (tgt := 159) dX3_run_112 rfl (by omega) (by omega) (fun c112 => ?_) (fun c112 => ?_)
        · refine v_aload_n (i := 0) dX3_run_159 rfl rfl ?_
          refine go_getA hMo KX3 5 (by decide) (by decide) q284 dX3_run_160 ?_
          refine v_aload_n (i := 0) dX3_run_163 rfl rfl ?_
          refine go_get0 hMo KX3 9 (by decide) rfl (xn X) x1 q290 dX3_run_164 ?_
          refine v_aload_n (i := 0) dX3_run_167 rfl rfl ?_
          refine go_get0 hMo KX3 10 (by decide) rfl (xe X) x2 q292 dX3_run_168 ?_
          refine go_st10 hMo 5 (by decide) rfl (show _ < 2001 from (by omega)) (by decide) dX3_run_171 (fun η hMo hk => ?_)
          have h0 := h0.th hk (by omega) (by omega)
          have hW := hW.kp hk
          have hQ := hQ.kp hk (by omega)
          obtain ⟨lw, hJ⟩ := hJ
          have hJ := hJ.kp hk (by omega)
          have hJ : ∃ lw, Jd _ (t + 1) j q w τ hd ld wo lw := ⟨lw, hJ⟩
          have hP := hP.kp hk (by omega)
          refine v_aload_n (i := 0) dX3_run_172 rfl rfl ?_
          refine go_get0 hMo KX3 11 (by decide) rfl (0) h11 q294 dX3_run_173 ?_
          refine vn_if_ne (tgt := 183) dX3_run_176 rfl (by decide) (fun c176 => ?_) (fun c176 => ?_)
          · exact absurd rfl c176
          · have hFS : FSm (sA μ1 5 (xn X) (xe X)) (xFst X (xn X)) := fun i hi => by
              have hi : i ≤ xn X := hi
              show va_up (gA μ1 5) (xn X) (xe X) i = va_up (xfs X) (xn X) (xe X) i
              by_cases c : i = xn X
              · rw [c, va_up_e, va_up_e]
              · rw [va_up_n c, va_up_n c]; exact hf i (by omega)
            refine v_aload_n (i := 0) dX3_run_179 rfl rfl ?_
            refine v_callVe (cS_turn hMo (X := xFst X (xn X)) (show MX τ (sA μ1 5 (xn X) (xe X)) (xFst X (xn X)) from hX) hXW hFS) (lw_V q765 q767 qs8 q124 q768) iX3_turn rfl KX3 hMo.rcv rfl rfl (by decide) (by decide) (Nat.le_of_ble_eq_true rfl) (Nat.le_refl _) (Nat.le_refl _) dX3_run_180 (kr_W (fun η h => ?_)) kx_W
            obtain ⟨μ2, hMo, hk, hMT, hTU⟩ := h
            have h0 := h0.th hk (by omega) (by omega)
            have hW := hW.kp hk
            have hQ := hQ.kp hk (by omega)
            obtain ⟨lw, hJ⟩ := hJ
            have hJ := hJ.kp hk (by omega)
            have hJ : ∃ lw, Jd _ (t + 1) j q w τ hd ld wo lw := ⟨lw, hJ⟩
            have hP := hP.kp hk (by omega)
            have h11b : gN μ2 11 = 0 := (hMT.1 11).trans h11
            refine v_aload_n (i := 0) dX3_run_183 rfl rfl ?_
            refine go_get0 hMo KX3 11 (by decide) rfl (0) h11b q294 dX3_run_184 ?_
            refine vn_if_ne (tgt := 194) dX3_run_187 rfl (by decide) (fun c187 => ?_) (fun c187 => ?_)
            · exact absurd rfl c187
            · refine v_iconst (v := nI 1) dX3_run_190 k_iconst_1 ?_
              refine v_goto (tgt := 195) dX3_run_191 rfl ?_
              exact v_zret rfl rfl dX3_run_195 (by
                refine ⟨_, rfl, μ2, j, q, ⟨hMo, (hMT.1 0).trans m0, (hMT.1 1).trans m1, hJ, hQ⟩, h0, (hMT.1 14).trans h14, (hMT.1 15).trans h15, ?_⟩
                rw [hE]
                refine ⟨rfl, h11b, hMT.mx (μ := sA μ1 5 (xn X) (xe X)) hX, fun i hi => ?_, hTU⟩
                rw [hMT.2 5 (by decide) (by decide) (by decide)]
                exact hFS i hi)
        · exact absurd (show xn X < xn X from c112) (by omega)
  have L52 : ∀ (n i j q : Nat) (η : AH) (μ1 : MS) (z6 : Option Value), i + n = 8192 → GO scX3 η (some t) m adm μ1 → gN μ1 0 = w + 1 → gN μ1 1 = j + 1 → (∃ lw, Jd η (t + 1) j q w τ hd ld wo lw) → P0 η (t + 2) q w → Wd G η w τ → Kp t (t + 4) η0 η → gN μ1 14 = 0 → gN μ1 15 = 0 → gN μ1 9 = 0 → gN μ1 10 = 0 → gN μ1 11 = 0 → (∀ k, k < i → gA μ1 3 k = 0) → V G Γ yX3_run cX3_run 7 (some .boolean) [] 8 (ri fun r η => ∃ μ2 j q, ME η t m w j q adm τ hd ld wo μ2 ∧ Kp t (t + 4) η0 η ∧ gN μ2 14 = 0 ∧ gN μ2 15 = 0 ∧ RunR τ μ2 r (expl (τ, hd, ld, wo))) (3) (10) (η) 52 [some (.ref m), some (.ref w), some (.int (oI hn)), some (.int (oI ln)), some (.int (nI (ouN wo))), some (.int (nI i)), z6] [] := by
    intro n
    induction n with
    | zero =>
      intro i j q η μ1 z6 hi hMo m0 m1 hJ hQ hW h0 h14 h15 h9 h10 h11 hz
      have ei : i = 8192 := by omega
      subst ei
      refine v_iload (i := 5) dX3_run_52 rfl ?_
      refine v_sipush (v := nI 8192) dX3_run_54 k_sipush_8192 ?_
      refine vn_icmp_ge (tgt := 74) dX3_run_57 rfl (by decide) (by decide) (fun c57 => ?_) (fun c57 => ?_)
      · refine v_nw (t + 3) KX7 q693 q503 q135 (by omega) (by omega) dX3_run_74 (fun qP η hqP hη hk => ?_)
        have hPo : GO (8, 4, kzX7, lnX7) η (some (t + 3)) qP (fun _ => 0) (zS kdX7) := by rw [hη]; exact bornX7
        have h0 := h0.th hk (by omega) (by omega)
        have hW := hW.kp hk
        have hQ := hQ.kp hk (by omega)
        obtain ⟨lw, hJ⟩ := hJ
        have hJ := hJ.kp hk (by omega)
        have hJ : ∃ lw, Jd _ (t + 1) j q w τ hd ld wo lw := ⟨lw, hJ⟩
        have hMo := hMo.kpS hk (by omega)
        refine v_dup dX3_run_77 rfl ?_
        refine v_aload_n (i := 0) dX3_run_78 rfl rfl ?_
        refine go_get3 hMo KX3 0 (by decide) rfl (w) m0 q278 dX3_run_79 ?_
        refine v_callI (kc' := 0) (ks' := 0) (cP_init hPo) (lw_meth q506) q135 q694 q505 rfl iX7_init rfl rfl (by decide) (by decide) (Nat.le_of_ble_eq_true rfl) (by decide) (by decide) dX3_run_82 (kr_W (fun η h => ?_)) kx_W
        obtain ⟨hPo, hk⟩ := h
        have h0 := h0.th hk (by omega) (by omega)
        have hW := hW.kp hk
        have hQ := hQ.kp hk (by omega)
        obtain ⟨lw, hJ⟩ := hJ
        have hJ := hJ.kp hk (by omega)
        have hJ : ∃ lw, Jd _ (t + 1) j q w τ hd ld wo lw := ⟨lw, hJ⟩
        have hMo := hMo.kpS hk (by omega)
        refine v_astore (i := 5) dX3_run_85 (by decide) rfl ?_
        refine v_aload (i := 5) dX3_run_87 rfl ?_
        refine v_callVe (cP_start hW hPo) (lw_V q695 q533 q534 q135 q535) iX7_start rfl KX7 hPo.rcv rfl rfl (by decide) (by decide) (Nat.le_of_ble_eq_true rfl) (Nat.le_refl _) (Nat.le_refl _) dX3_run_89 (kr_W (fun η h => ?_)) kx_W
        obtain ⟨hPo, hk⟩ := h
        have h0 := h0.th hk (by omega) (by omega)
        have hW := hW.kp hk
        have hQ := hQ.kp hk (by omega)
        obtain ⟨lw, hJ⟩ := hJ
        have hJ := hJ.kp hk (by omega)
        have hJ : ∃ lw, Jd _ (t + 1) j q w τ hd ld wo lw := ⟨lw, hJ⟩
        have hMo := hMo.kpS hk (by omega)
        refine v_aload_n (i := 0) dX3_run_92 rfl rfl ?_
        refine v_aload (i := 5) dX3_run_93 rfl ?_
        refine v_callVe (cP_code hW hPo) (lw_V q696 q644 q645 q135 q646) iX7_code rfl KX7 hPo.rcv rfl rfl (by decide) (by decide) (Nat.le_of_ble_eq_true rfl) (Nat.le_refl _) (Nat.le_refl _) dX3_run_95 (kr_ei ?_) kx_e
        refine v_iconst (v := nI 0) dX3_run_98 k_iconst_0 ?_
        refine v_callVe (cS_add hMo (by rw [h9]; exact SLt.nil hz) (fun k hk => absurd hk (by omega)) (cdT_lt hTB (stT τ)) 0) (lw_V q697 q699 qs2 q124 q700) iX3_add rfl KX3 hMo.rcv rfl rfl (by decide) (by decide) (Nat.le_of_ble_eq_true rfl) (Nat.le_refl _) (Nat.le_refl _) dX3_run_99 (kr_I (fun x_ η h => ?_)) kx_I
        obtain ⟨μ2, hMo, hk, -, -, hC⟩ := h
        obtain ⟨rfl, r8, -, hSL, rfl⟩ := hC (by rw [h9]; rfl) (by omega)
        rw [h9] at hMo hSL
        have h0 := h0.th hk (by omega) (by omega)
        have hW := hW.kp hk
        have hQ := hQ.kp hk (by omega)
        obtain ⟨lw, hJ⟩ := hJ
        have hJ := hJ.kp hk (by omega)
        have hJ : ∃ lw, Jd _ (t + 1) j q w τ hd ld wo lw := ⟨lw, hJ⟩
        have hPo := hPo.kp hk (by omega)
        refine v_pop dX3_run_102 rfl ?_
        refine v_iconst (v := nI 0) dX3_run_103 k_iconst_0 ?_
        refine v_istore (i := 6) dX3_run_104 (by decide) rfl ?_
        exact L106 2001 0 j q qP η _ (xOne (stT τ)) (by omega) hMo m0 m1 hJ hQ hW h0 h14 h15 hPo.p0 (MX.one (NR_st hTB) h10 hSL) h11 (Nat.zero_le _) (fun i hi => absurd hi (by omega)) (fun _ => ⟨rfl, rfl⟩) rfl
      · exact absurd (show 8192 < 8192 from c57) (by omega)
    | succ n ih =>
      intro i j q η μ1 z6 hi hMo m0 m1 hJ hQ hW h0 h14 h15 h9 h10 h11 hz
      refine v_iload (i := 5) dX3_run_52 rfl ?_
      refine v_sipush (v := nI 8192) dX3_run_54 k_sipush_8192 ?_
      refine vn_icmp_ge (tgt := 74) dX3_run_57 rfl (by omega) (by decide) (fun c57 => ?_) (fun c57 => ?_)
      · exact absurd (show 8192 ≤ i from c57) (by omega)
      · refine v_aload_n (i := 0) dX3_run_60 rfl rfl ?_
        refine go_getA hMo KX3 3 (by decide) (by decide) q281 dX3_run_61 ?_
        refine v_iload (i := 5) dX3_run_64 rfl ?_
        refine v_iconst (v := -1) dX3_run_66 k_iconst_m1 ?_
        refine go_st11m hMo 3 (by decide) rfl (show _ < 8192 from (by omega)) (by decide) dX3_run_67 (fun η hMo hk => ?_)
        have h0 := h0.th hk (by omega) (by omega)
        have hW := hW.kp hk
        have hQ := hQ.kp hk (by omega)
        obtain ⟨lw, hJ⟩ := hJ
        have hJ := hJ.kp hk (by omega)
        have hJ : ∃ lw, Jd _ (t + 1) j q w τ hd ld wo lw := ⟨lw, hJ⟩
        refine vn_iinc 1 dX3_run_68 rfl k_iconst_1 (by decide) rfl ?_
        refine v_goto (tgt := 52) dX3_run_71 rfl ?_
        refine ih (i + 1) j q η _ z6 (by omega) hMo m0 m1 hJ hQ hW h0 h14 h15 h9 h10 h11 (fun k hk => ?_)
        show va_up (gA μ1 3) i 0 k = 0
        by_cases c : k = i
        · rw [c, va_up_e]
        · rw [va_up_n c]; exact hz k (by omega)
  have h0 : Kp t (t + 4) η0 η0 := Kp.rf
  refine v_aload_n (i := 0) dX3_run_0 rfl rfl ?_
  refine v_aload_n (i := 1) dX3_run_1 rfl rfl ?_
  refine go_put3 hMo KX3 0 (by decide) rfl q278 rfl rfl rfl dX3_run_2 (fun η hMo hk => ?_)
  have h0 := h0.th hk (by omega) (by omega)
  have hW := hW.kp hk
  refine v_aload_n (i := 0) dX3_run_5 rfl rfl ?_
  refine v_nw (t + 1) KX17 q634 q635 q157 (by omega) (by omega) dX3_run_6 (fun qJ η hqJ hη hk => ?_)
  have hJo : GO (21, 9, kzX17, lnX17) η (some (t + 1)) qJ (fun _ => 0) (zS kdX17) := by rw [hη]; exact bornX17
  have h0 := h0.th hk (by omega) (by omega)
  have hW := hW.kp hk
  have hMo := hMo.kpS hk (by omega)
  refine v_dup dX3_run_9 rfl ?_
  refine v_aload_n (i := 0) dX3_run_10 rfl rfl ?_
  refine go_get3 hMo KX3 0 (by decide) rfl (w) rfl q278 dX3_run_11 ?_
  refine v_iload_n (i := 2) dX3_run_14 rfl rfl ?_
  refine v_iload_n (i := 3) dX3_run_15 rfl rfl ?_
  refine v_iload (i := 4) dX3_run_16 rfl ?_
  refine v_callI (kc' := 3) (ks' := 10) (cG_init hW hJo hhd hld) (lw_meth q638) q157 q636 q637 rfl iX17_init rfl rfl (by decide) (by decide) (Nat.le_of_ble_eq_true rfl) (by decide) (by decide) dX3_run_18 (kr_W (fun η h => ?_)) kx_W
  obtain ⟨q, hJ, hQ, hk⟩ := h
  have h0 := h0.th hk (by omega) (by omega)
  have hW := hW.kp hk
  have hMo := hMo.kpS hk (by omega)
  refine go_put3 hMo KX3 1 (by decide) rfl q279 rfl rfl rfl dX3_run_21 (fun η hMo hk => ?_)
  have h0 := h0.th hk (by omega) (by omega)
  have hW := hW.kp hk
  have hJ := hJ.kp hk (by omega)
  have hQ := hQ.kp hk (by omega)
  refine v_aload_n (i := 0) dX3_run_24 rfl rfl ?_
  refine v_iconst (v := nI 0) dX3_run_25 k_iconst_0 ?_
  refine go_put0 hMo KX3 9 (by decide) rfl q290 rfl rfl rfl dX3_run_26 (fun η hMo hk => ?_)
  have h0 := h0.th hk (by omega) (by omega)
  have hW := hW.kp hk
  have hJ := hJ.kp hk (by omega)
  have hQ := hQ.kp hk (by omega)
  refine v_aload_n (i := 0) dX3_run_29 rfl rfl ?_
  refine v_iconst (v := nI 0) dX3_run_30 k_iconst_0 ?_
  refine go_put0 hMo KX3 10 (by decide) rfl q292 rfl rfl rfl dX3_run_31 (fun η hMo hk => ?_)
  have h0 := h0.th hk (by omega) (by omega)
  have hW := hW.kp hk
  have hJ := hJ.kp hk (by omega)
  have hQ := hQ.kp hk (by omega)
  refine v_aload_n (i := 0) dX3_run_34 rfl rfl ?_
  refine v_iconst (v := nI 0) dX3_run_35 k_iconst_0 ?_
  refine go_put0 hMo KX3 11 (by decide) rfl q294 rfl (zb (by decide)).1 (zb (by decide)).2 dX3_run_36 (fun η hMo hk => ?_)
  have h0 := h0.th hk (by omega) (by omega)
  have hW := hW.kp hk
  have hJ := hJ.kp hk (by omega)
  have hQ := hQ.kp hk (by omega)
  refine v_aload_n (i := 0) dX3_run_39 rfl rfl ?_
  refine v_iconst (v := nI 0) dX3_run_40 k_iconst_0 ?_
  refine go_put0 hMo KX3 14 (by decide) rfl q298 rfl (zb (by decide)).1 (zb (by decide)).2 dX3_run_41 (fun η hMo hk => ?_)
  have h0 := h0.th hk (by omega) (by omega)
  have hW := hW.kp hk
  have hJ := hJ.kp hk (by omega)
  have hQ := hQ.kp hk (by omega)
  refine v_aload_n (i := 0) dX3_run_44 rfl rfl ?_
  refine v_iconst (v := nI 0) dX3_run_45 k_iconst_0 ?_
  refine go_put0 hMo KX3 15 (by decide) rfl q299 rfl (zb (by decide)).1 (zb (by decide)).2 dX3_run_46 (fun η hMo hk => ?_)
  have h0 := h0.th hk (by omega) (by omega)
  have hW := hW.kp hk
  have hJ := hJ.kp hk (by omega)
  have hQ := hQ.kp hk (by omega)
  refine v_iconst (v := nI 0) dX3_run_49 k_iconst_0 ?_
  refine v_istore (i := 5) dX3_run_50 (by decide) rfl ?_
  exact L52 8192 0 qJ q η _ none (by omega) hMo rfl rfl ⟨_, hJ⟩ hQ.p0 hW h0 rfl rfl rfl rfl rfl (fun k hk => absurd hk (by omega))
