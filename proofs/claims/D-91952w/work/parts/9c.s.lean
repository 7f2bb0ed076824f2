set_option maxRecDepth 100000
/-- the map m as it explores: its judge j, the judge's place q -/
def ME (η : AH) (t m w j q : Nat) (ad : Nat → Nat) (τ : Td) (hd ld : Nat → Nat) (wo : Nat) (μ : MS) : Prop := GO scX3 η (some t) m ad μ ∧ gN μ 0 = w + 1 ∧ gN μ 1 = j + 1 ∧ (∃ lw, Jd η (t + 1) j q w τ hd ld wo lw) ∧ P0 η (t + 2) q w
def MR (τ : Td) (μ : MS) : Option XT → Prop
  | none => gN μ 11 = 1 ∧ gN μ 9 ≤ 2000 ∧ gN μ 10 ≤ 40000
  | some X => MX τ μ X ∧ gN μ 11 = 0
theorem ME.kp {lo hi : Nat} {η η' : AH} {t m w j q : Nat} {ad : Nat → Nat} {τ : Td} {hd ld : Nat → Nat} {wo : Nat} {μ : MS} (h : ME η t m w j q ad τ hd ld wo μ) (hk : Kp lo hi η η') (ho : t + 2 < lo ∨ hi ≤ t) : ME η' t m w j q ad τ hd ld wo μ := by
  obtain ⟨h1, h2, h3, ⟨lw, h4⟩, h5⟩ := h
  exact ⟨h1.kpS hk (by omega), h2, h3, ⟨lw, h4.kp hk (by omega)⟩, h5.kp hk (by omega)⟩
theorem jgN_le (τ : Td) (hd ld : Nat → Nat) (wo x : Nat) (bz tz : Int32) (s : Nat) : (jgN τ hd ld wo x bz tz s).1 ≤ 8 := by
  have h := plN_le τ hd ld x bz tz s
  unfold jgN jd
  split
  · show plN τ hd ld x bz tz s ≤ 8
    omega
  · split
    · show 7 ≤ 8; decide
    · split
      · show 7 ≤ 8; decide
      · split
        · show 8 ≤ 8; decide
        · show 0 ≤ 8; decide
theorem cS_cross {G : Gl} {η0 : AH} {w : Nat} {τ : Td} (hW : Wd G η0 w τ) {t m j q : Nat} {adm : Nat → Nat} {hd ld : Nat → Nat} {wo : Nat} {μ : MS} (hM : ME η0 t m w j q adm τ hd ld wo μ) {X : XT} (hX : MX τ μ X) (hsp : gN μ 11 = 0) {tp p x k : Nat} (hP : Pl η0 tp p w τ x) (htp : tp < t ∨ t + 3 ≤ tp) (hk0 : k < xn X) (hxk : xst X k = x) {b to s : Nat} (hb : b < tN τ 31) (hto : to < tN τ 29) (hs : s < 256) (hst : ¬ bsT τ wo (stT τ) 0 0 0 = 0 → x = stT τ) : Ct G yX3_cross cX3_cross 7 none 6 (0) (0) [.ref m, .int (nI k), .ref p, .int (nI b), .int (nI to), .int (nI s)] η0 (rv fun η => ∃ μ2, ME η t m w j q adm τ hd ld wo μ2 ∧ MK μ μ2 ∧ Kp t (t + 3) η0 η ∧ MR τ μ2 (if (jgN τ hd ld wo x (nI b) (nI to) s).1 = 0 then xStep X k b to s (bhT τ x b to s) else some X)) := by
  refine Ct.start rfl rfl (Nat.le_of_ble_eq_true rfl) (fun Γ => ?_)
  have h0 : Kp t (t + 3) η0 η0 := Kp.rf
  have hTB := hW.tb
  obtain ⟨⟨wb1, wb2, wb3, wb4, wb5, wb6, wb7⟩, -⟩ := id hTB
  obtain ⟨hMo, m0, m1, ⟨lw, hJ⟩, hQ⟩ := hM
  obtain ⟨x1, x2, x3, x4, x5, x6⟩ := id hX
  have hn2 := x3.1
  have x5k := x5 k hk0
  have hx : NR τ x := by rw [← hxk]; exact x5k.2.2.1
  have e1 : (nI b).toInt.toNat = b := by rw [nI_toInt (by omega)]; rfl
  have e2 : (nI to).toInt.toNat = to := by rw [nI_toInt (by omega)]; rfl
  have hcdx := cdT_lt hTB x
  have hjl := jgN_le τ hd ld wo x (nI b) (nI to) s
  refine v_aload_n (i := 0) dX3_cross_0 rfl rfl ?_
  refine go_get3 hMo KX3 1 (by decide) rfl (j) m1 q279 dX3_cross_1 ?_
  refine v_aload_n (i := 2) dX3_cross_4 rfl rfl ?_
  refine v_aload_n (i := 0) dX3_cross_5 rfl rfl ?_
  refine go_getA hMo KX3 2 (by decide) (by decide) q280 dX3_cross_6 ?_
  refine v_iload_n (i := 1) dX3_cross_9 rfl rfl ?_
  refine go_ld10 hMo 2 (by decide) rfl (show _ < 2000 from (by omega)) (by decide) _ (x5k.1.trans (congrArg (cdT τ) hxk)) dX3_cross_10 ?_
  refine v_iload_n (i := 3) dX3_cross_11 rfl rfl ?_
  refine v_iload (i := 4) dX3_cross_12 rfl ?_
  refine v_iload (i := 5) dX3_cross_14 rfl ?_
  refine v_callVe (cG_why hW hJ hQ hP (by omega) (nI b) (nI to) (by omega) hst) (lw_V q723 q724 q725 q157 q726) iX17_why rfl KX17 hJ.rcv rfl rfl (by decide) (by decide) (Nat.le_of_ble_eq_true rfl) (Nat.le_refl _) (Nat.le_refl _) dX3_cross_16 (kr_I (fun x_ η h => ?_)) kx_I
  obtain ⟨rfl, hJ, hk, hQ, hPq⟩ := h
  have h0 := h0.th hk (by omega) (by omega)
  have hW := hW.kp hk
  have hP := hP.kp hk (by omega)
  have hMo := hMo.kpS hk (by omega)
  refine vn_if_eq (tgt := 23) dX3_cross_19 rfl (by omega) (fun c19 => ?_) (fun c19 => ?_)
  · have hPq := hPq c19
    rw [e1, e2] at hPq
    have hy : NR τ (bhT τ x b to s) := NR_bh hTB hx hb (by omega)
    generalize hyy : bhT τ x b to s = y at hPq hy
    have hcdy := cdT_lt hTB y
    have hix := hX.ix hy
    have hixl := ixN_le (xst X) y (xn X)
    refine v_aload_n (i := 0) dX3_cross_23 rfl rfl ?_
    refine v_aload_n (i := 0) dX3_cross_24 rfl rfl ?_
    obtain ⟨adj, θ, hJo, j0, j7, j8⟩ := id hJ
    refine go_get3 hMo KX3 1 (by decide) rfl (j) m1 q279 dX3_cross_25 ?_
    refine go_get3N hJo KX17 7 (by decide) rfl (q) j7 q671 dX3_cross_28 ?_
    refine v_callVe (cP_code hW hPq) (lw_V q696 q644 q645 q135 q646) iX7_code rfl KX7 hPq.rcv rfl rfl (by decide) (by decide) (Nat.le_of_ble_eq_true rfl) (Nat.le_refl _) (Nat.le_refl _) dX3_cross_31 (kr_ei ?_) kx_e
    refine v_aload_n (i := 0) dX3_cross_34 rfl rfl ?_
    refine go_getA hMo KX3 4 (by decide) (by decide) q282 dX3_cross_35 ?_
    refine v_iload_n (i := 1) dX3_cross_38 rfl rfl ?_
    refine go_ld10 hMo 4 (by decide) rfl (show _ < 2000 from (by omega)) (by decide) _ x5k.2.1 dX3_cross_39 ?_
    refine v_iconst (v := nI 1) dX3_cross_40 k_iconst_1 ?_
    refine vn_iadd dX3_cross_41 ?_
    refine v_callVe (cS_add hMo (by rw [x1]; exact x3) (fun i hi => by rw [x1] at hi; rw [(x5 i hi).1]; exact cdT_lt hTB _) hcdy (xfar X k + 1)) (lw_V q697 q699 qs2 q124 q700) iX3_add rfl KX3 hMo.rcv rfl rfl (by decide) (by decide) (Nat.le_of_ble_eq_true rfl) (Nat.le_refl _) (Nat.le_refl _) dX3_cross_42 (kr_I (fun x_ η h => ?_)) kx_I
    obtain ⟨μ2, hMo, hk, hA, hB, hC⟩ := h
    rw [hix, x1] at hA hB hC
    have h0 := h0.th hk (by omega) (by omega)
    have hW := hW.kp hk
    have hP := hP.kp hk (by omega)
    have hJ := hJ.kp hk (by omega)
    have hQ := hQ.kp hk (by omega)
    have hPq := hPq.kp hk (by omega)
    rcases (show ixN (xst X) y (xn X) < xn X ∨ (ixN (xst X) y (xn X) = xn X ∧ xn X = 2000) ∨ (ixN (xst X) y (xn X) = xn X ∧ xn X < 2000) by omega) with hc | ⟨hc, hcn⟩ | ⟨hc, hcn⟩
    · obtain ⟨rfl, he⟩ := hA hc
      rw [he] at hMo
      refine v_istore (i := 6) dX3_cross_45 (by decide) rfl ?_
      refine v_iload (i := 6) dX3_cross_47 rfl ?_
      refine v_iconst (v := -1) dX3_cross_49 k_iconst_m1 ?_
      refine v_icmp_ne (tgt := 54) dX3_cross_50 rfl (fun c50 => ?_) (fun c50 => ?_)
      · refine v_aload_n (i := 0) dX3_cross_54 rfl rfl ?_
        refine go_get0 hMo KX3 10 (by decide) rfl (xe X) x2 q292 dX3_cross_55 ?_
        refine v_ldc (v := nI 40000) q277 dX3_cross_58 ?_
        refine vn_icmp_ne (tgt := 69) dX3_cross_60 rfl (by omega) (by decide) (fun c60 => ?_) (fun c60 => ?_)
        · refine v_aload_n (i := 0) dX3_cross_69 rfl rfl ?_
          refine go_getA hMo KX3 6 (by decide) (by decide) q285 dX3_cross_70 ?_
          refine v_aload_n (i := 0) dX3_cross_73 rfl rfl ?_
          refine go_get0 hMo KX3 10 (by decide) rfl (xe X) x2 q292 dX3_cross_74 ?_
          refine v_iload (i := 6) dX3_cross_77 rfl ?_
          refine go_st10 hMo 6 (by decide) rfl (show _ < 40000 from (by omega)) (by decide) dX3_cross_79 (fun η hMo hk => ?_)
          have h0 := h0.th hk (by omega) (by omega)
          have hW := hW.kp hk
          have hP := hP.kp hk (by omega)
          have hJ := hJ.kp hk (by omega)
          have hQ := hQ.kp hk (by omega)
          have hPq := hPq.kp hk (by omega)
          refine v_aload_n (i := 0) dX3_cross_80 rfl rfl ?_
          refine go_getA hMo KX3 7 (by decide) (by decide) q287 dX3_cross_81 ?_
          refine v_aload_n (i := 0) dX3_cross_84 rfl rfl ?_
          refine go_get0 hMo KX3 10 (by decide) rfl (xe X) x2 q292 dX3_cross_85 ?_
          refine v_iload_n (i := 3) dX3_cross_88 rfl rfl ?_
          refine v_iconst (v := nI 4) dX3_cross_89 k_iconst_4 ?_
          refine vn_imul dX3_cross_90 ?_
          refine v_iload (i := 4) dX3_cross_91 rfl ?_
          refine vn_iadd dX3_cross_93 ?_
          refine v_sipush (v := nI 256) dX3_cross_94 k_sipush_256 ?_
          refine vn_imul dX3_cross_97 ?_
          refine v_iload (i := 5) dX3_cross_98 rfl ?_
          refine vn_iadd dX3_cross_100 ?_
          refine go_st10 hMo 7 (by decide) rfl (show _ < 40000 from (by omega)) (by decide) dX3_cross_101 (fun η hMo hk => ?_)
          have h0 := h0.th hk (by omega) (by omega)
          have hW := hW.kp hk
          have hP := hP.kp hk (by omega)
          have hJ := hJ.kp hk (by omega)
          have hQ := hQ.kp hk (by omega)
          have hPq := hPq.kp hk (by omega)
          refine v_aload_n (i := 0) dX3_cross_102 rfl rfl ?_
          refine go_getA hMo KX3 8 (by decide) (by decide) q289 dX3_cross_103 ?_
          refine v_aload_n (i := 0) dX3_cross_106 rfl rfl ?_
          refine go_get0 hMo KX3 10 (by decide) rfl (xe X) x2 q292 dX3_cross_107 ?_
          refine v_aload_n (i := 0) dX3_cross_110 rfl rfl ?_
          refine go_get3 hMo KX3 0 (by decide) rfl (w) m0 q278 dX3_cross_111 ?_
          refine v_iload (i := 5) dX3_cross_114 rfl ?_
          refine v_callVe (cW_slowest hW (s := s) (by omega)) (lw_V q760 q761 q762 q120 q763) iX2_slowest rfl KX2 hW.rcv rfl rfl (by decide) (by decide) (Nat.le_of_ble_eq_true rfl) (Nat.le_refl _) (Nat.le_refl _) dX3_cross_116 (kr_ei ?_) kx_e
          refine go_st10 hMo 8 (by decide) rfl (show _ < 40000 from (by omega)) (by decide) dX3_cross_119 (fun η hMo hk => ?_)
          have h0 := h0.th hk (by omega) (by omega)
          have hW := hW.kp hk
          have hP := hP.kp hk (by omega)
          have hJ := hJ.kp hk (by omega)
          have hQ := hQ.kp hk (by omega)
          have hPq := hPq.kp hk (by omega)
          refine v_aload_n (i := 0) dX3_cross_120 rfl rfl ?_
          refine v_dup dX3_cross_121 rfl ?_
          refine go_get0 hMo KX3 10 (by decide) rfl (xe X) x2 q292 dX3_cross_122 ?_
          refine v_iconst (v := nI 1) dX3_cross_125 k_iconst_1 ?_
          refine vn_iadd dX3_cross_126 ?_
          refine go_put0 hMo KX3 10 (by decide) rfl q292 rfl rfl rfl dX3_cross_127 (fun η hMo hk => ?_)
          have h0 := h0.th hk (by omega) (by omega)
          have hW := hW.kp hk
          have hP := hP.kp hk (by omega)
          have hJ := hJ.kp hk (by omega)
          have hQ := hQ.kp hk (by omega)
          have hPq := hPq.kp hk (by omega)
          exact v_vret rfl dX3_cross_130 (by
            refine ⟨rfl, _, ⟨hMo, m0, m1, ⟨_, hJ⟩, hQ⟩, ⟨fun i a b c => (by show gN (sN _ 10 _) i = _; rw [gN_sN, if_neg b]; rfl), fun i a b c d e f => (by show gA (sA (sA (sA μ 6 _ _) 7 _ _) 8 _ _) i = _; rw [gA_sA, if_neg f, gA_sA, if_neg e, gA_sA, if_neg d])⟩, h0, ?_⟩
            rw [if_pos c19, xStep_old hc c60]
            have := hX.edge (b := b) (to := to) (s := s) (J := ixN (xst X) y (xn X)) (by omega) hc (by omega) (by omega) hs
            rw [x2] at this
            exact ⟨this, hsp⟩)
        · refine v_aload_n (i := 0) dX3_cross_63 rfl rfl ?_
          refine v_iconst (v := nI 1) dX3_cross_64 k_iconst_1 ?_
          refine go_put0 hMo KX3 11 (by decide) rfl q294 rfl (zb (by decide)).1 (zb (by decide)).2 dX3_cross_65 (fun η hMo hk => ?_)
          have h0 := h0.th hk (by omega) (by omega)
          have hW := hW.kp hk
          have hP := hP.kp hk (by omega)
          have hJ := hJ.kp hk (by omega)
          have hQ := hQ.kp hk (by omega)
          have hPq := hPq.kp hk (by omega)
          exact v_vret rfl dX3_cross_68 (by
            refine ⟨rfl, _, ⟨hMo, m0, m1, ⟨_, hJ⟩, hQ⟩, ⟨fun i a b c => (by rw [gN_sN, if_neg c]), fun i _ _ _ _ _ _ => rfl⟩, h0, ?_⟩
            rw [if_pos c19, xStep_none2 c60]
            exact ⟨rfl, by show gN μ 9 ≤ 2000; omega, by show gN μ 10 ≤ 40000; omega⟩)
      · exact absurd c50 (nI_m1 (by omega))
    · obtain ⟨rfl, rfl⟩ := hB hc hcn
      refine v_istore (i := 6) dX3_cross_45 (by decide) rfl ?_
      refine v_iload (i := 6) dX3_cross_47 rfl ?_
      refine v_iconst (v := -1) dX3_cross_49 k_iconst_m1 ?_
      refine v_icmp_ne (tgt := 54) dX3_cross_50 rfl (fun c50 => ?_) (fun c50 => ?_)
      · exact absurd rfl c50
      · exact v_vret rfl dX3_cross_53 (by
          refine ⟨rfl, _, ⟨hMo, m0, m1, ⟨_, hJ⟩, hQ⟩, ⟨fun i a b c => (by rw [gN_sN, if_neg c]), fun i _ _ _ _ _ _ => rfl⟩, h0, ?_⟩
          rw [if_pos c19, xStep_none1 hc hcn]
          exact ⟨rfl, by show gN μ 9 ≤ 2000; omega, by show gN μ 10 ≤ 40000; omega⟩)
    · obtain ⟨rfl, r8, hr8, hSL, rfl⟩ := hC hc hcn
      refine v_istore (i := 6) dX3_cross_45 (by decide) rfl ?_
      refine v_iload (i := 6) dX3_cross_47 rfl ?_
      refine v_iconst (v := -1) dX3_cross_49 k_iconst_m1 ?_
      refine v_icmp_ne (tgt := 54) dX3_cross_50 rfl (fun c50 => ?_) (fun c50 => ?_)
      · have hX2 := hX.add (f := xfar X k + 1) (y := y) (q := r8) hcn hy (by omega) (by rw [x1]; exact hSL)
        rw [x1] at hX2
        refine v_aload_n (i := 0) dX3_cross_54 rfl rfl ?_
        refine go_get0 hMo KX3 10 (by decide) rfl (xe X) x2 q292 dX3_cross_55 ?_
        refine v_ldc (v := nI 40000) q277 dX3_cross_58 ?_
        refine vn_icmp_ne (tgt := 69) dX3_cross_60 rfl (by omega) (by decide) (fun c60 => ?_) (fun c60 => ?_)
        · refine v_aload_n (i := 0) dX3_cross_69 rfl rfl ?_
          refine go_getA hMo KX3 6 (by decide) (by decide) q285 dX3_cross_70 ?_
          refine v_aload_n (i := 0) dX3_cross_73 rfl rfl ?_
          refine go_get0 hMo KX3 10 (by decide) rfl (xe X) x2 q292 dX3_cross_74 ?_
          refine v_iload (i := 6) dX3_cross_77 rfl ?_
          refine go_st10 hMo 6 (by decide) rfl (show _ < 40000 from (by omega)) (by decide) dX3_cross_79 (fun η hMo hk => ?_)
          have h0 := h0.th hk (by omega) (by omega)
          have hW := hW.kp hk
          have hP := hP.kp hk (by omega)
          have hJ := hJ.kp hk (by omega)
          have hQ := hQ.kp hk (by omega)
          have hPq := hPq.kp hk (by omega)
          refine v_aload_n (i := 0) dX3_cross_80 rfl rfl ?_
          refine go_getA hMo KX3 7 (by decide) (by decide) q287 dX3_cross_81 ?_
          refine v_aload_n (i := 0) dX3_cross_84 rfl rfl ?_
          refine go_get0 hMo KX3 10 (by decide) rfl (xe X) x2 q292 dX3_cross_85 ?_
          refine v_iload_n (i := 3) dX3_cross_88 rfl rfl ?_
          refine v_iconst (v := nI 4) dX3_cross_89 k_iconst_4 ?_
          refine vn_imul dX3_cross_90 ?_
          refine v_iload (i := 4) dX3_cross_91 rfl ?_
          refine vn_iadd dX3_cross_93 ?_
          refine v_sipush (v := nI 256) dX3_cross_94 k_sipush_256 ?_
          refine vn_imul dX3_cross_97 ?_
          refine v_iload (i := 5) dX3_cross_98 rfl ?_
          refine vn_iadd dX3_cross_100 ?_
          refine go_st10 hMo 7 (by decide) rfl (show _ < 40000 from (by omega)) (by decide) dX3_cross_101 (fun η hMo hk => ?_)
          have h0 := h0.th hk (by omega) (by omega)
          have hW := hW.kp hk
          have hP := hP.kp hk (by omega)
          have hJ := hJ.kp hk (by omega)
          have hQ := hQ.kp hk (by omega)
          have hPq := hPq.kp hk (by omega)
          refine v_aload_n (i := 0) dX3_cross_102 rfl rfl ?_
          refine go_getA hMo KX3 8 (by decide) (by decide) q289 dX3_cross_103 ?_
          refine v_aload_n (i := 0) dX3_cross_106 rfl rfl ?_
          refine go_get0 hMo KX3 10 (by decide) rfl (xe X) x2 q292 dX3_cross_107 ?_
          refine v_aload_n (i := 0) dX3_cross_110 rfl rfl ?_
          refine go_get3 hMo KX3 0 (by decide) rfl (w) m0 q278 dX3_cross_111 ?_
          refine v_iload (i := 5) dX3_cross_114 rfl ?_
          refine v_callVe (cW_slowest hW (s := s) (by omega)) (lw_V q760 q761 q762 q120 q763) iX2_slowest rfl KX2 hW.rcv rfl rfl (by decide) (by decide) (Nat.le_of_ble_eq_true rfl) (Nat.le_refl _) (Nat.le_refl _) dX3_cross_116 (kr_ei ?_) kx_e
          refine go_st10 hMo 8 (by decide) rfl (show _ < 40000 from (by omega)) (by decide) dX3_cross_119 (fun η hMo hk => ?_)
          have h0 := h0.th hk (by omega) (by omega)
          have hW := hW.kp hk
          have hP := hP.kp hk (by omega)
          have hJ := hJ.kp hk (by omega)
          have hQ := hQ.kp hk (by omega)
          have hPq := hPq.kp hk (by omega)
          refine v_aload_n (i := 0) dX3_cross_120 rfl rfl ?_
          refine v_dup dX3_cross_121 rfl ?_
          refine go_get0 hMo KX3 10 (by decide) rfl (xe X) x2 q292 dX3_cross_122 ?_
          refine v_iconst (v := nI 1) dX3_cross_125 k_iconst_1 ?_
          refine vn_iadd dX3_cross_126 ?_
          refine go_put0 hMo KX3 10 (by decide) rfl q292 rfl rfl rfl dX3_cross_127 (fun η hMo hk => ?_)
          have h0 := h0.th hk (by omega) (by omega)
          have hW := hW.kp hk
          have hP := hP.kp hk (by omega)
          have hJ := hJ.kp hk (by omega)
          have hQ := hQ.kp hk (by omega)
          have hPq := hPq.kp hk (by omega)
          exact v_vret rfl dX3_cross_130 (by
            refine ⟨rfl, _, ⟨hMo, m0, m1, ⟨_, hJ⟩, hQ⟩, ⟨fun i a b c => (by show gN (sN _ 10 _) i = _; rw [gN_sN, if_neg b]; show gN (sN _ 9 _) i = _; rw [gN_sN, if_neg a]; rfl), fun i a b c d e f => (by show gA (sA (sA (sA (sA (sA (sA μ 2 _ _) 4 _ _) 3 _ _) 6 _ _) 7 _ _) 8 _ _) i = _; rw [gA_sA, if_neg f, gA_sA, if_neg e, gA_sA, if_neg d, gA_sA, if_neg b, gA_sA, if_neg c, gA_sA, if_neg a])⟩, h0, ?_⟩
            rw [if_pos c19, xStep_new hc c60 (by omega)]
            have := hX2.edge (b := b) (to := to) (s := s) (J := xn X) (by show xe X < 40000; omega) (Nat.lt_succ_self _) (by omega) (by omega) hs
            rw [show gN (sN (sA (sA (sA μ 2 (xn X) (cdT τ y)) 4 (xn X) (xfar X k + 1)) 3 r8 (xn X + 1)) 9 (xn X + 1)) 10 = xe X from x2] at this
            exact ⟨this, hsp⟩)
        · refine v_aload_n (i := 0) dX3_cross_63 rfl rfl ?_
          refine v_iconst (v := nI 1) dX3_cross_64 k_iconst_1 ?_
          refine go_put0 hMo KX3 11 (by decide) rfl q294 rfl (zb (by decide)).1 (zb (by decide)).2 dX3_cross_65 (fun η hMo hk => ?_)
          have h0 := h0.th hk (by omega) (by omega)
          have hW := hW.kp hk
          have hP := hP.kp hk (by omega)
          have hJ := hJ.kp hk (by omega)
          have hQ := hQ.kp hk (by omega)
          have hPq := hPq.kp hk (by omega)
          exact v_vret rfl dX3_cross_68 (by
            refine ⟨rfl, _, ⟨hMo, m0, m1, ⟨_, hJ⟩, hQ⟩, ⟨fun i a b c => (by rw [gN_sN, if_neg c, gN_sN, if_neg a]; rfl), fun i a b c d e f => (by show gA (sA (sA (sA μ 2 (xn X) _) 4 _ _) 3 _ _) i = _; rw [gA_sA, if_neg b, gA_sA, if_neg c, gA_sA, if_neg a])⟩, h0, ?_⟩
            rw [if_pos c19, xStep_none2 c60]
            exact ⟨rfl, by show xn X + 1 ≤ 2000; omega, by show gN μ 10 ≤ 40000; omega⟩)
      · exact absurd c50 (nI_m1 (by omega))
  · exact v_vret rfl dX3_cross_22 (by
      refine ⟨rfl, _, ⟨hMo, m0, m1, ⟨_, hJ⟩, hQ⟩, MK.rf _, h0, ?_⟩
      rw [if_neg c19]
      exact ⟨hX, hsp⟩)
