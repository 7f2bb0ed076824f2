set_option maxRecDepth 100000
theorem kp_or (w a b : Nat) : kp w (a ||| b) = kp w a ||| kp w b := by
  unfold kp
  split
  · rfl
  · apply Nat.eq_of_testBit_eq
    intro i
    rw [Nat.testBit_or, ndf_tb, ndf_tb, ndf_tb, Nat.testBit_or]
    cases a.testBit i <;> cases b.testBit i <;> cases (2 ^ (w - 1)).testBit i <;> rfl
theorem plN_0 {τ : Td} {hd ld : Nat → Nat} {x : Nat} {bz tz : Int32} {s : Nat} (h : plN τ hd ld x bz tz s = 0) (hS : tN τ 29 ≤ 4) (hB : tN τ 31 ≤ 2) : ∃ b to, bz = nI b ∧ tz = nI to ∧ bz.toInt.toNat = b ∧ tz.toInt.toNat = to ∧ b < tN τ 31 ∧ to < tN τ 29 ∧ brN (tN τ 29) (tN τ 30) (tN τ 33) (tA τ 38) (tA τ 39) hd ld (flT τ) x b to s = 0 := by
  unfold plN at h
  by_cases c : inB bz (tN τ 31) = 0 ∨ inB tz (tN τ 29) = 0
  · rw [if_pos c] at h; cases h
  · rw [if_neg c] at h
    obtain ⟨h1, h2⟩ := inB_1 (fun q => c (Or.inl q)) (by omega)
    obtain ⟨h3, h4⟩ := inB_1 (fun q => c (Or.inr q)) (by omega)
    exact ⟨_, _, h2, h4, rfl, rfl, h1, h3, h⟩
theorem plN_le (τ : Td) (hd ld : Nat → Nat) (x : Nat) (bz tz : Int32) (s : Nat) : plN τ hd ld x bz tz s ≤ 6 := by
  unfold plN
  split
  · decide
  · exact brN_le
theorem cG_why {G : Gl} {η0 : AH} {w : Nat} {τ : Td} (hW : Wd G η0 w τ) {t j q : Nat} {hd ld : Nat → Nat} {wo lw : Nat} (hJ : Jd η0 t j q w τ hd ld wo lw) (hQ : P0 η0 (t + 1) q w) {tp p x : Nat} (hP : Pl η0 tp p w τ x) (htp : tp < t ∨ t + 2 ≤ tp) (bz tz : Int32) {s : Nat} (hs : s < 4294967296) (hst : ¬ bsT τ wo (stT τ) 0 0 0 = 0 → x = stT τ) : Ct G yX17_why cX17_why 7 (some .int) 5 (0) (0) [.ref j, .ref p, .int (nI (cdT τ x)), .int bz, .int tz, .int (nI s)] η0 (ri fun r η => r = nI (jgN τ hd ld wo x bz tz s).1 ∧ Jd η t j q w τ hd ld wo (jgN τ hd ld wo x bz tz s).2 ∧ Kp t (t + 2) η0 η ∧ P0 η (t + 1) q w ∧ ((jgN τ hd ld wo x bz tz s).1 = 0 → Pl η (t + 1) q w τ (bhT τ x bz.toInt.toNat tz.toInt.toNat s))) := by
  refine Ct.start rfl rfl (Nat.le_of_ble_eq_true rfl) (fun Γ => ?_)
  have h0 : Kp t (t + 2) η0 η0 := Kp.rf
  have hTB := hW.tb
  obtain ⟨⟨wb1, wb2, wb3, wb4, wb5, wb6, wb7⟩, -⟩ := id hTB
  have hcd := cdT_lt hTB x
  have hcs := cdT_lt hTB (stT τ)
  have hbs : bsT τ wo (stT τ) 0 0 0 < 4096 := bs_lt (bfT_lt hTB) _ _ _ _ _ _ _ _ _
  refine v_aload_n (i := 0) dX17_why_0 rfl rfl ?_
  refine v_aload_n (i := 1) dX17_why_1 rfl rfl ?_
  refine v_iload_n (i := 3) dX17_why_2 rfl rfl ?_
  refine v_iload (i := 4) dX17_why_3 rfl ?_
  refine v_iload (i := 5) dX17_why_5 rfl ?_
  refine v_callVe (cG_plainly hW hJ hP (by omega) bz tz hs) (lw_V q727 q728 q729 q157 q730) iX17_plainly rfl KX17 hJ.rcv rfl rfl (by decide) (by decide) (Nat.le_of_ble_eq_true rfl) (Nat.le_refl _) (Nat.le_refl _) dX17_why_7 (kr_I (fun x_ η h => ?_)) kx_I
  obtain ⟨rfl, hJ, hk⟩ := h
  have h0 := h0.th hk (by omega) (by omega)
  have hW := hW.kp hk
  have hP := hP.kp hk (by omega)
  have hQ := hQ.kp hk (by omega)
  refine v_istore (i := 6) dX17_why_10 (by decide) rfl ?_
  generalize hpl : plN τ hd ld x bz tz s = v
  refine v_iload (i := 6) dX17_why_12 rfl ?_
  refine vn_if_eq (tgt := 20) dX17_why_14 rfl (by have := plN_le τ hd ld x bz tz s; omega) (fun c14 => ?_) (fun c14 => ?_)
  · subst c14
    obtain ⟨b, to, rfl, rfl, hbn, htn, hb, hto, hbr⟩ := plN_0 hpl wb2 wb4
    obtain ⟨q1, q2, q3, q4, q5, q6⟩ := brN_0 hbr
    have hsT : s < 2 ^ tN τ 30 := ndf_0 (setN_lt x (bo x b) _) q2
    have hM : 2 ^ tN τ 30 ≤ 2 ^ 8 := p2_le wb3
    obtain ⟨adj, θ, hJo, j0, j7, hhd, hld, j3, j4, j5, j6, j8⟩ := hJ
    have hW0 := hW
    refine v_aload_n (i := 0) dX17_why_20 rfl rfl ?_
    refine v_iload_n (i := 2) dX17_why_21 rfl rfl ?_
    refine v_aload_n (i := 0) dX17_why_22 rfl rfl ?_
    refine go_get0 hJo KX17 6 (by decide) rfl (cdT τ (stT τ)) j6 q669 dX17_why_23 ?_
    refine vn_icmp_ne (tgt := 43) dX17_why_26 rfl (by omega) (by omega) (fun c26 => ?_) (fun c26 => ?_)
    · have hbare : bsT τ wo (stT τ) 0 0 0 = 0 := by
        by_cases k : bsT τ wo (stT τ) 0 0 0 = 0
        · exact k
        · exact absurd (congrArg (cdT τ) (hst k)) c26
      refine v_aload_n (i := 1) dX17_why_43 rfl rfl ?_
      refine v_iload (i := 5) dX17_why_44 rfl ?_
      refine v_callVe (cP_aboard hW hP hsT) (lw_V q751 q752 q753 q135 q754) iX7_aboard rfl KX7 hP.rcv rfl rfl (by decide) (by decide) (Nat.le_of_ble_eq_true rfl) (Nat.le_refl _) (Nat.le_refl _) dX17_why_46 (kr_ei ?_) kx_e
      refine v_aload_n (i := 1) dX17_why_49 rfl rfl ?_
      refine v_iconst (v := nI 1) dX17_why_50 k_iconst_1 ?_
      refine v_iload_n (i := 3) dX17_why_51 rfl rfl ?_
      refine vn_ishl (by omega) dX17_why_52 ?_
      refine v_iload (i := 5) dX17_why_53 rfl ?_
      have hgb : 1 * 2 ^ b < 2147483648 := by
        have : 2 ^ b ≤ 2 ^ 2 := p2_le (by omega)
        omega
      have hg1 : ¬ 1 * 2 ^ b = 0 := by have := Nat.two_pow_pos b; omega
      refine v_callVe (cP_barred hW hP (gb := 1 * 2 ^ b) (gone := s) hgb) (lw_V q654 q655 q656 q135 q657) iX7_barred rfl KX7 hP.rcv rfl rfl (by decide) (by decide) (Nat.le_of_ble_eq_true rfl) (Nat.le_refl _) (Nat.le_refl _) dX17_why_55 (kr_ei ?_) kx_e
      refine vn_ior dX17_why_58 ?_
      refine v_aload_n (i := 0) dX17_why_59 rfl rfl ?_
      refine go_get0 hJo KX17 3 (by decide) rfl (ouN wo) j3 q665 dX17_why_60 ?_
      refine v_iconst (v := -1) dX17_why_63 k_iconst_m1 ?_
      refine v_ixor dX17_why_64 ?_
      refine vn_andc dX17_why_65 ?_
      refine v_top (x' := nI (abT τ wo s ||| bsT τ wo x s (1 * 2 ^ b) 1)) (by rw [ouN_kp, kp_or, if_neg hg1]; rfl) ?_
      refine go_put0 hJo KX17 8 (by decide) rfl q672 rfl rfl rfl dX17_why_66 (fun η hJo hk => ?_)
      have h0 := h0.th hk (by omega) (by omega)
      have hW := hW.kp hk
      have hP := hP.kp hk (by omega)
      have hQ := hQ.kp hk (by omega)
      have hlw : abT τ wo s ||| bsT τ wo x s (1 * 2 ^ b) 1 < 4096 := or4096 (ab_lt (bfT_lt hTB) _ _ _ _) (bs_lt (bfT_lt hTB) _ _ _ _ _ _ _ _ _)
      refine v_aload_n (i := 0) dX17_why_69 rfl rfl ?_
      refine go_get0 hJo KX17 8 (by decide) rfl (abT τ wo s ||| bsT τ wo x s (1 * 2 ^ b) 1) rfl q672 dX17_why_70 ?_
      refine vn_if_eq (tgt := 79) dX17_why_73 rfl (by omega) (fun c73 => ?_) (fun c73 => ?_)
      · refine v_aload_n (i := 0) dX17_why_79 rfl rfl ?_
        refine go_get3 hJo KX17 7 (by decide) rfl (q) j7 q670 dX17_why_80 ?_
        refine v_iload_n (i := 2) dX17_why_83 rfl rfl ?_
        refine v_callVe (cP_read hW hQ x) (lw_V q755 q706 q707 q135 q708) iX7_read rfl KX7 hQ.rcv rfl rfl (by decide) (by decide) (Nat.le_of_ble_eq_true rfl) (Nat.le_refl _) (Nat.le_refl _) dX17_why_84 (kr_W (fun η h => ?_)) kx_W
        obtain ⟨hQ, hk⟩ := h
        have h0 := h0.th hk (by omega) (by omega)
        have hW := hW.kp hk
        have hP := hP.kp hk (by omega)
        have hJo := hJo.kpS hk (by omega)
        refine v_aload_n (i := 0) dX17_why_87 rfl rfl ?_
        refine go_get3 hJo KX17 7 (by decide) rfl (q) j7 q670 dX17_why_88 ?_
        refine v_iload_n (i := 3) dX17_why_91 rfl rfl ?_
        refine v_iload (i := 4) dX17_why_92 rfl ?_
        refine v_iload (i := 5) dX17_why_94 rfl ?_
        refine v_callVe (cP_move hW hQ hb (by omega) q2) (lw_V q756 q757 q758 q135 q759) iX7_move rfl KX7 hQ.rcv rfl rfl (by decide) (by decide) (Nat.le_of_ble_eq_true rfl) (Nat.le_refl _) (Nat.le_refl _) dX17_why_96 (kr_W (fun η h => ?_)) kx_W
        obtain ⟨hQ, hk⟩ := h
        have h0 := h0.th hk (by omega) (by omega)
        have hW := hW.kp hk
        have hP := hP.kp hk (by omega)
        have hJo := hJo.kpS hk (by omega)
        refine v_aload_n (i := 0) dX17_why_99 rfl rfl ?_
        refine v_aload_n (i := 0) dX17_why_100 rfl rfl ?_
        refine go_get3 hJo KX17 7 (by decide) rfl (q) j7 q670 dX17_why_101 ?_
        refine v_iconst (v := nI 0) dX17_why_104 k_iconst_0 ?_
        refine v_iconst (v := nI 0) dX17_why_105 k_iconst_0 ?_
        refine v_callVe (cP_barred hW hQ (gb := 0) (gone := 0) (by decide)) (lw_V q654 q655 q656 q135 q657) iX7_barred rfl KX7 hQ.rcv rfl rfl (by decide) (by decide) (Nat.le_of_ble_eq_true rfl) (Nat.le_refl _) (Nat.le_refl _) dX17_why_106 (kr_ei ?_) kx_e
        refine v_aload_n (i := 0) dX17_why_109 rfl rfl ?_
        refine go_get0 hJo KX17 3 (by decide) rfl (ouN wo) j3 q665 dX17_why_110 ?_
        refine v_iconst (v := -1) dX17_why_113 k_iconst_m1 ?_
        refine v_ixor dX17_why_114 ?_
        refine vn_andc dX17_why_115 ?_
        refine v_top (x' := nI (bsT τ wo (bhT τ x b to s) 0 0 0)) (by rw [ouN_kp, if_pos rfl]; rfl) ?_
        refine go_put0 hJo KX17 8 (by decide) rfl q672 rfl rfl rfl dX17_why_116 (fun η hJo hk => ?_)
        have h0 := h0.th hk (by omega) (by omega)
        have hW := hW.kp hk
        have hP := hP.kp hk (by omega)
        have hQ := hQ.kp hk (by omega)
        have hl8 : bsT τ wo (bhT τ x b to s) 0 0 0 < 4096 := bs_lt (bfT_lt hTB) _ _ _ _ _ _ _ _ _
        refine v_aload_n (i := 0) dX17_why_119 rfl rfl ?_
        refine go_get0 hJo KX17 8 (by decide) rfl (bsT τ wo (bhT τ x b to s) 0 0 0) rfl q672 dX17_why_120 ?_
        refine vn_if_eq (tgt := 131) dX17_why_123 rfl (by omega) (fun c123 => ?_) (fun c123 => ?_)
        · refine v_iconst (v := nI 0) dX17_why_131 k_iconst_0 ?_
          exact v_iret rfl dX17_why_132 (by
            have e : jgN τ hd ld wo x (nI b) (nI to) s = (0, 0) := by unfold jgN jd; rw [hpl, if_neg (fun z => z rfl), if_neg (fun z => z hbare), hbn, htn]; refine (if_neg (fun z => z c73)).trans ?_; exact if_neg (fun z => z c123)
            rw [e, hbn, htn]
            exact ⟨_, rfl, rfl, ⟨adj, _, hJo, j0, j7, hhd, hld, j3, j4, j5, j6, c123⟩, h0, hQ.p0, fun _ => hQ⟩)
        · refine v_bipush (v := nI 8) dX17_why_126 k_bipush_8 ?_
          refine v_goto (tgt := 132) dX17_why_128 rfl ?_
          exact v_iret rfl dX17_why_132 (by
            have e : jgN τ hd ld wo x (nI b) (nI to) s = (8, bsT τ wo (bhT τ x b to s) 0 0 0) := by unfold jgN jd; rw [hpl, if_neg (fun z => z rfl), if_neg (fun z => z hbare), hbn, htn]; refine (if_neg (fun z => z c73)).trans ?_; exact if_pos c123
            rw [e, hbn, htn]
            exact ⟨_, rfl, rfl, ⟨adj, _, hJo, j0, j7, hhd, hld, j3, j4, j5, j6, rfl⟩, h0, hQ.p0, fun z => absurd (show (8 : Nat) = 0 from z) (by decide)⟩)
      · refine v_bipush (v := nI 7) dX17_why_76 k_bipush_7 ?_
        exact v_iret rfl dX17_why_78 (by
          have e : jgN τ hd ld wo x (nI b) (nI to) s = (7, abT τ wo s ||| bsT τ wo x s (1 * 2 ^ b) 1) := by unfold jgN jd; rw [hpl, if_neg (fun z => z rfl), if_neg (fun z => z hbare), hbn]; exact if_pos c73
          rw [e]
          exact ⟨_, rfl, rfl, ⟨adj, _, hJo, j0, j7, hhd, hld, j3, j4, j5, j6, rfl⟩, h0, hQ, fun z => absurd (show (7 : Nat) = 0 from z) (by decide)⟩)
    · refine v_aload_n (i := 0) dX17_why_29 rfl rfl ?_
      refine go_get0 hJo KX17 4 (by decide) rfl (if bsT τ wo (stT τ) 0 0 0 = 0 then 1 else 0) j4 q666 dX17_why_30 ?_
      refine vn_if_ne (tgt := 43) dX17_why_33 rfl (by split <;> decide) (fun c33 => ?_) (fun c33 => ?_)
      · have hbare : bsT τ wo (stT τ) 0 0 0 = 0 := by
          by_cases k : bsT τ wo (stT τ) 0 0 0 = 0
          · exact k
          · rw [if_neg k] at c33; exact absurd rfl c33
        refine v_aload_n (i := 1) dX17_why_43 rfl rfl ?_
        refine v_iload (i := 5) dX17_why_44 rfl ?_
        refine v_callVe (cP_aboard hW hP hsT) (lw_V q751 q752 q753 q135 q754) iX7_aboard rfl KX7 hP.rcv rfl rfl (by decide) (by decide) (Nat.le_of_ble_eq_true rfl) (Nat.le_refl _) (Nat.le_refl _) dX17_why_46 (kr_ei ?_) kx_e
        refine v_aload_n (i := 1) dX17_why_49 rfl rfl ?_
        refine v_iconst (v := nI 1) dX17_why_50 k_iconst_1 ?_
        refine v_iload_n (i := 3) dX17_why_51 rfl rfl ?_
        refine vn_ishl (by omega) dX17_why_52 ?_
        refine v_iload (i := 5) dX17_why_53 rfl ?_
        have hgb : 1 * 2 ^ b < 2147483648 := by
          have : 2 ^ b ≤ 2 ^ 2 := p2_le (by omega)
          omega
        have hg1 : ¬ 1 * 2 ^ b = 0 := by have := Nat.two_pow_pos b; omega
        refine v_callVe (cP_barred hW hP (gb := 1 * 2 ^ b) (gone := s) hgb) (lw_V q654 q655 q656 q135 q657) iX7_barred rfl KX7 hP.rcv rfl rfl (by decide) (by decide) (Nat.le_of_ble_eq_true rfl) (Nat.le_refl _) (Nat.le_refl _) dX17_why_55 (kr_ei ?_) kx_e
        refine vn_ior dX17_why_58 ?_
        refine v_aload_n (i := 0) dX17_why_59 rfl rfl ?_
        refine go_get0 hJo KX17 3 (by decide) rfl (ouN wo) j3 q665 dX17_why_60 ?_
        refine v_iconst (v := -1) dX17_why_63 k_iconst_m1 ?_
        refine v_ixor dX17_why_64 ?_
        refine vn_andc dX17_why_65 ?_
        refine v_top (x' := nI (abT τ wo s ||| bsT τ wo x s (1 * 2 ^ b) 1)) (by rw [ouN_kp, kp_or, if_neg hg1]; rfl) ?_
        refine go_put0 hJo KX17 8 (by decide) rfl q672 rfl rfl rfl dX17_why_66 (fun η hJo hk => ?_)
        have h0 := h0.th hk (by omega) (by omega)
        have hW := hW.kp hk
        have hP := hP.kp hk (by omega)
        have hQ := hQ.kp hk (by omega)
        have hlw : abT τ wo s ||| bsT τ wo x s (1 * 2 ^ b) 1 < 4096 := or4096 (ab_lt (bfT_lt hTB) _ _ _ _) (bs_lt (bfT_lt hTB) _ _ _ _ _ _ _ _ _)
        refine v_aload_n (i := 0) dX17_why_69 rfl rfl ?_
        refine go_get0 hJo KX17 8 (by decide) rfl (abT τ wo s ||| bsT τ wo x s (1 * 2 ^ b) 1) rfl q672 dX17_why_70 ?_
        refine vn_if_eq (tgt := 79) dX17_why_73 rfl (by omega) (fun c73 => ?_) (fun c73 => ?_)
        · refine v_aload_n (i := 0) dX17_why_79 rfl rfl ?_
          refine go_get3 hJo KX17 7 (by decide) rfl (q) j7 q670 dX17_why_80 ?_
          refine v_iload_n (i := 2) dX17_why_83 rfl rfl ?_
          refine v_callVe (cP_read hW hQ x) (lw_V q755 q706 q707 q135 q708) iX7_read rfl KX7 hQ.rcv rfl rfl (by decide) (by decide) (Nat.le_of_ble_eq_true rfl) (Nat.le_refl _) (Nat.le_refl _) dX17_why_84 (kr_W (fun η h => ?_)) kx_W
          obtain ⟨hQ, hk⟩ := h
          have h0 := h0.th hk (by omega) (by omega)
          have hW := hW.kp hk
          have hP := hP.kp hk (by omega)
          have hJo := hJo.kpS hk (by omega)
          refine v_aload_n (i := 0) dX17_why_87 rfl rfl ?_
          refine go_get3 hJo KX17 7 (by decide) rfl (q) j7 q670 dX17_why_88 ?_
          refine v_iload_n (i := 3) dX17_why_91 rfl rfl ?_
          refine v_iload (i := 4) dX17_why_92 rfl ?_
          refine v_iload (i := 5) dX17_why_94 rfl ?_
          refine v_callVe (cP_move hW hQ hb (by omega) q2) (lw_V q756 q757 q758 q135 q759) iX7_move rfl KX7 hQ.rcv rfl rfl (by decide) (by decide) (Nat.le_of_ble_eq_true rfl) (Nat.le_refl _) (Nat.le_refl _) dX17_why_96 (kr_W (fun η h => ?_)) kx_W
          obtain ⟨hQ, hk⟩ := h
          have h0 := h0.th hk (by omega) (by omega)
          have hW := hW.kp hk
          have hP := hP.kp hk (by omega)
          have hJo := hJo.kpS hk (by omega)
          refine v_aload_n (i := 0) dX17_why_99 rfl rfl ?_
          refine v_aload_n (i := 0) dX17_why_100 rfl rfl ?_
          refine go_get3 hJo KX17 7 (by decide) rfl (q) j7 q670 dX17_why_101 ?_
          refine v_iconst (v := nI 0) dX17_why_104 k_iconst_0 ?_
          refine v_iconst (v := nI 0) dX17_why_105 k_iconst_0 ?_
          refine v_callVe (cP_barred hW hQ (gb := 0) (gone := 0) (by decide)) (lw_V q654 q655 q656 q135 q657) iX7_barred rfl KX7 hQ.rcv rfl rfl (by decide) (by decide) (Nat.le_of_ble_eq_true rfl) (Nat.le_refl _) (Nat.le_refl _) dX17_why_106 (kr_ei ?_) kx_e
          refine v_aload_n (i := 0) dX17_why_109 rfl rfl ?_
          refine go_get0 hJo KX17 3 (by decide) rfl (ouN wo) j3 q665 dX17_why_110 ?_
          refine v_iconst (v := -1) dX17_why_113 k_iconst_m1 ?_
          refine v_ixor dX17_why_114 ?_
          refine vn_andc dX17_why_115 ?_
          refine v_top (x' := nI (bsT τ wo (bhT τ x b to s) 0 0 0)) (by rw [ouN_kp, if_pos rfl]; rfl) ?_
          refine go_put0 hJo KX17 8 (by decide) rfl q672 rfl rfl rfl dX17_why_116 (fun η hJo hk => ?_)
          have h0 := h0.th hk (by omega) (by omega)
          have hW := hW.kp hk
          have hP := hP.kp hk (by omega)
          have hQ := hQ.kp hk (by omega)
          have hl8 : bsT τ wo (bhT τ x b to s) 0 0 0 < 4096 := bs_lt (bfT_lt hTB) _ _ _ _ _ _ _ _ _
          refine v_aload_n (i := 0) dX17_why_119 rfl rfl ?_
          refine go_get0 hJo KX17 8 (by decide) rfl (bsT τ wo (bhT τ x b to s) 0 0 0) rfl q672 dX17_why_120 ?_
          refine vn_if_eq (tgt := 131) dX17_why_123 rfl (by omega) (fun c123 => ?_) (fun c123 => ?_)
          · refine v_iconst (v := nI 0) dX17_why_131 k_iconst_0 ?_
            exact v_iret rfl dX17_why_132 (by
              have e : jgN τ hd ld wo x (nI b) (nI to) s = (0, 0) := by unfold jgN jd; rw [hpl, if_neg (fun z => z rfl), if_neg (fun z => z hbare), hbn, htn]; refine (if_neg (fun z => z c73)).trans ?_; exact if_neg (fun z => z c123)
              rw [e, hbn, htn]
              exact ⟨_, rfl, rfl, ⟨adj, _, hJo, j0, j7, hhd, hld, j3, j4, j5, j6, c123⟩, h0, hQ.p0, fun _ => hQ⟩)
          · refine v_bipush (v := nI 8) dX17_why_126 k_bipush_8 ?_
            refine v_goto (tgt := 132) dX17_why_128 rfl ?_
            exact v_iret rfl dX17_why_132 (by
              have e : jgN τ hd ld wo x (nI b) (nI to) s = (8, bsT τ wo (bhT τ x b to s) 0 0 0) := by unfold jgN jd; rw [hpl, if_neg (fun z => z rfl), if_neg (fun z => z hbare), hbn, htn]; refine (if_neg (fun z => z c73)).trans ?_; exact if_pos c123
              rw [e, hbn, htn]
              exact ⟨_, rfl, rfl, ⟨adj, _, hJo, j0, j7, hhd, hld, j3, j4, j5, j6, rfl⟩, h0, hQ.p0, fun z => absurd (show (8 : Nat) = 0 from z) (by decide)⟩)
        · refine v_bipush (v := nI 7) dX17_why_76 k_bipush_7 ?_
          exact v_iret rfl dX17_why_78 (by
            have e : jgN τ hd ld wo x (nI b) (nI to) s = (7, abT τ wo s ||| bsT τ wo x s (1 * 2 ^ b) 1) := by unfold jgN jd; rw [hpl, if_neg (fun z => z rfl), if_neg (fun z => z hbare), hbn]; exact if_pos c73
            rw [e]
            exact ⟨_, rfl, rfl, ⟨adj, _, hJo, j0, j7, hhd, hld, j3, j4, j5, j6, rfl⟩, h0, hQ, fun z => absurd (show (7 : Nat) = 0 from z) (by decide)⟩)
      · have hnb : ¬ bsT τ wo (stT τ) 0 0 0 = 0 := fun k => by rw [if_pos k] at c33; cases c33
        refine v_aload_n (i := 0) dX17_why_36 rfl rfl ?_
        refine go_get0 hJo KX17 5 (by decide) rfl (bsT τ wo (stT τ) 0 0 0) j5 q668 dX17_why_37 ?_
        refine v_goto (tgt := 66) dX17_why_40 rfl ?_
        refine go_put0 hJo KX17 8 (by decide) rfl q672 rfl rfl rfl dX17_why_66 (fun η hJo hk => ?_)
        have h0 := h0.th hk (by omega) (by omega)
        have hW := hW.kp hk
        have hP := hP.kp hk (by omega)
        have hQ := hQ.kp hk (by omega)
        refine v_aload_n (i := 0) dX17_why_69 rfl rfl ?_
        refine go_get0 hJo KX17 8 (by decide) rfl (bsT τ wo (stT τ) 0 0 0) rfl q672 dX17_why_70 ?_
        refine vn_if_eq (tgt := 79) dX17_why_73 rfl (by omega) (fun c73 => ?_) (fun c73 => ?_)
        · exact absurd c73 hnb
        · refine v_bipush (v := nI 7) dX17_why_76 k_bipush_7 ?_
          exact v_iret rfl dX17_why_78 (by
            have e : jgN τ hd ld wo x (nI b) (nI to) s = (7, bsT τ wo (stT τ) 0 0 0) := by unfold jgN jd; rw [hpl, if_neg (fun z => z rfl)]; exact if_pos hnb
            rw [e]
            exact ⟨_, rfl, rfl, ⟨adj, _, hJo, j0, j7, hhd, hld, j3, j4, j5, j6, rfl⟩, h0, hQ, fun z => absurd (show (7 : Nat) = 0 from z) (by decide)⟩)
  · refine v_iload (i := 6) dX17_why_17 rfl ?_
    exact v_iret rfl dX17_why_19 (by
      have e : jgN τ hd ld wo x bz tz s = (v, 0) := by unfold jgN jd; rw [hpl, if_pos c14]
      rw [e]
      exact ⟨_, rfl, rfl, hJ, h0, hQ, fun z => absurd z c14⟩)
theorem cG_init {G : Gl} {η0 : AH} {t j w : Nat} {τ : Td} {adj : Nat → Nat} (hW : Wd G η0 w τ) (hJo : GO (21, 9, kzX17, lnX17) η0 (some t) j adj (zS kdX17)) {hn ln wo : Nat} {hd ld : Nat → Nat} (hhd : Ovr (tA τ 41) hn hd) (hld : Ovr (tA τ 42) ln ld) : Ct G yX17_init cX17_init 5 none 4 (3) (10) [.ref j, .ref w, .int (oI hn), .int (oI ln), .int (nI (ouN wo))] η0 (rv fun η => ∃ q, Jd η t j q w τ hd ld wo 0 ∧ Pl η (t + 1) q w τ (stT τ) ∧ Kp t (t + 2) η0 η) := by
  refine Ct.start rfl rfl (Nat.le_of_ble_eq_true rfl) (fun Γ => ?_)
  have h0 : Kp t (t + 2) η0 η0 := Kp.rf
  have hTB := hW.tb
  have hJo := hJo.sc (kd2 := kdX17) (by decide)
  obtain ⟨⟨wb1, wb2, wb3, wb4, wb5, wb6, wb7⟩, -⟩ := id hTB
  have hbs : bsT τ wo (stT τ) 0 0 0 < 4096 := bs_lt (bfT_lt hTB) _ _ _ _ _ _ _ _ _
  refine v_aload_n (i := 0) dX17_init_0 rfl rfl ?_
  refine v_objI q639 (by decide) (Nat.le_of_ble_eq_true rfl) dX17_init_1 ?_
  refine v_aload_n (i := 0) dX17_init_4 rfl rfl ?_
  refine v_aload_n (i := 1) dX17_init_5 rfl rfl ?_
  refine go_put3F hJo KX17 0 (by decide) rfl q662 rfl rfl rfl rfl rfl dX17_init_6 (fun η hJo hk => ?_)
  have h0 := h0.th hk (by omega) (by omega)
  have hW := hW.kp hk
  refine v_aload_n (i := 0) dX17_init_9 rfl rfl ?_
  refine v_iload_n (i := 2) dX17_init_10 rfl rfl ?_
  refine go_put1F hJo KX17 1 (by decide) rfl q663 rfl rfl rfl rfl rfl dX17_init_11 (fun η hJo hk => ?_)
  have h0 := h0.th hk (by omega) (by omega)
  have hW := hW.kp hk
  refine v_aload_n (i := 0) dX17_init_14 rfl rfl ?_
  refine v_iload_n (i := 3) dX17_init_15 rfl rfl ?_
  refine go_put1F hJo KX17 2 (by decide) rfl q664 rfl rfl rfl rfl rfl dX17_init_16 (fun η hJo hk => ?_)
  have h0 := h0.th hk (by omega) (by omega)
  have hW := hW.kp hk
  refine v_aload_n (i := 0) dX17_init_19 rfl rfl ?_
  refine v_iload (i := 4) dX17_init_20 rfl ?_
  refine go_put0F hJo KX17 3 (by decide) rfl q665 rfl rfl rfl rfl rfl dX17_init_22 (fun η hJo hk => ?_)
  have h0 := h0.th hk (by omega) (by omega)
  have hW := hW.kp hk
  refine v_aload_n (i := 0) dX17_init_25 rfl rfl ?_
  refine v_nw (t + 1) KX7 q640 q503 q135 (by omega) (by omega) dX17_init_26 (fun qQ η hqQ hη hk => ?_)
  have hQ : GO (8, 4, kzX7, lnX7) η (some (t + 1)) qQ (fun _ => 0) (zS kdX7) := by rw [hη]; exact bornX7
  have h0 := h0.th hk (by omega) (by omega)
  have hW := hW.kp hk
  have hJo := hJo.kpS hk (by omega)
  refine v_dup dX17_init_29 rfl ?_
  refine v_aload_n (i := 1) dX17_init_30 rfl rfl ?_
  refine v_callI (kc' := 0) (ks' := 0) (cP_init hQ) (lw_meth q506) q135 q641 q505 rfl iX7_init rfl rfl (by decide) (by decide) (Nat.le_of_ble_eq_true rfl) (by decide) (by decide) dX17_init_31 (kr_W (fun η h => ?_)) kx_W
  obtain ⟨hQ, hk⟩ := h
  have h0 := h0.th hk (by omega) (by omega)
  have hW := hW.kp hk
  have hJo := hJo.kpS hk (by omega)
  refine go_put3F hJo KX17 7 (by decide) rfl q670 rfl rfl rfl rfl rfl dX17_init_34 (fun η hJo hk => ?_)
  have h0 := h0.th hk (by omega) (by omega)
  have hW := hW.kp hk
  have hQ := hQ.kp hk (by omega)
  refine v_aload_n (i := 0) dX17_init_37 rfl rfl ?_
  refine go_get3 hJo KX17 7 (by decide) rfl (qQ) rfl q670 dX17_init_38 ?_
  refine v_callVe (cP_start hW hQ) (lw_V q642 q533 q534 q135 q535) iX7_start rfl KX7 hQ.rcv rfl rfl (by decide) (by decide) (Nat.le_of_ble_eq_true rfl) (Nat.le_refl _) (Nat.le_refl _) dX17_init_41 (kr_W (fun η h => ?_)) kx_W
  obtain ⟨hQ, hk⟩ := h
  have h0 := h0.th hk (by omega) (by omega)
  have hW := hW.kp hk
  have hJo := hJo.kpS hk (by omega)
  refine v_aload_n (i := 0) dX17_init_44 rfl rfl ?_
  refine v_aload_n (i := 0) dX17_init_45 rfl rfl ?_
  refine go_get3 hJo KX17 7 (by decide) rfl (qQ) rfl q670 dX17_init_46 ?_
  refine v_callVe (cP_code hW hQ) (lw_V q643 q644 q645 q135 q646) iX7_code rfl KX7 hQ.rcv rfl rfl (by decide) (by decide) (Nat.le_of_ble_eq_true rfl) (Nat.le_refl _) (Nat.le_refl _) dX17_init_49 (kr_ei ?_) kx_e
  refine go_put0F hJo KX17 6 (by decide) rfl q669 rfl rfl rfl rfl rfl dX17_init_52 (fun η hJo hk => ?_)
  have h0 := h0.th hk (by omega) (by omega)
  have hW := hW.kp hk
  have hQ := hQ.kp hk (by omega)
  refine v_aload_n (i := 0) dX17_init_55 rfl rfl ?_
  refine v_aload_n (i := 0) dX17_init_56 rfl rfl ?_
  refine go_get3 hJo KX17 7 (by decide) rfl (qQ) rfl q670 dX17_init_57 ?_
  refine v_iconst (v := nI 0) dX17_init_60 k_iconst_0 ?_
  refine v_iconst (v := nI 0) dX17_init_61 k_iconst_0 ?_
  refine v_callVe (cP_barred hW hQ (gb := 0) (gone := 0) (by decide)) (lw_V q654 q655 q656 q135 q657) iX7_barred rfl KX7 hQ.rcv rfl rfl (by decide) (by decide) (Nat.le_of_ble_eq_true rfl) (Nat.le_refl _) (Nat.le_refl _) dX17_init_62 (kr_ei ?_) kx_e
  refine v_iload (i := 4) dX17_init_65 rfl ?_
  refine v_iconst (v := -1) dX17_init_67 k_iconst_m1 ?_
  refine v_ixor dX17_init_68 ?_
  refine vn_andc dX17_init_69 ?_
  refine v_top (x' := nI (bsT τ wo (stT τ) 0 0 0)) (by rw [ouN_kp, if_pos rfl]; rfl) ?_
  refine go_put0F hJo KX17 5 (by decide) rfl q668 rfl rfl rfl rfl rfl dX17_init_70 (fun η hJo hk => ?_)
  have h0 := h0.th hk (by omega) (by omega)
  have hW := hW.kp hk
  have hQ := hQ.kp hk (by omega)
  refine v_aload_n (i := 0) dX17_init_73 rfl rfl ?_
  refine v_aload_n (i := 0) dX17_init_74 rfl rfl ?_
  refine go_get0 hJo KX17 5 (by decide) rfl (bsT τ wo (stT τ) 0 0 0) rfl q668 dX17_init_75 ?_
  refine vn_if_ne (tgt := 85) dX17_init_78 rfl (by omega) (fun c78 => ?_) (fun c78 => ?_)
  · refine v_iconst (v := nI 0) dX17_init_85 k_iconst_0 ?_
    refine go_put0F hJo KX17 4 (by decide) rfl q666 rfl rfl rfl (zb (by decide : 0 < 2)).1 (zb (by decide : 0 < 2)).2 dX17_init_86 (fun η hJo hk => ?_)
    have h0 := h0.th hk (by omega) (by omega)
    have hW := hW.kp hk
    have hQ := hQ.kp hk (by omega)
    exact v_vret rfl dX17_init_89 (by
      refine ⟨rfl, qQ, ⟨adj, _, hJo, rfl, rfl, hhd, hld, rfl, (if_neg c78).symm, rfl, rfl, rfl⟩, hQ, h0⟩)
  · refine v_iconst (v := nI 1) dX17_init_81 k_iconst_1 ?_
    refine v_goto (tgt := 86) dX17_init_82 rfl ?_
    refine go_put0F hJo KX17 4 (by decide) rfl q666 rfl rfl rfl (zb (by decide : 1 < 2)).1 (zb (by decide : 1 < 2)).2 dX17_init_86 (fun η hJo hk => ?_)
    have h0 := h0.th hk (by omega) (by omega)
    have hW := hW.kp hk
    have hQ := hQ.kp hk (by omega)
    exact v_vret rfl dX17_init_89 (by
      refine ⟨rfl, qQ, ⟨adj, _, hJo, rfl, rfl, hhd, hld, rfl, (if_pos c78).symm, rfl, rfl, rfl⟩, hQ, h0⟩)
