set_option maxRecDepth 100000
theorem bq_up {τ : Td} (hlm : tN τ 33 = 0) (hbs : bsT τ 0 (stT τ) 0 0 0 = 0) {x s q : Nat} (hx : VL τ x) (h : BQ τ x s q) : rdS τ x (Y2 τ x s q) ∧ VL τ (Y2 τ x s q) := by
  have h1 : rdS τ x (Y2 τ x s q) := ⟨hbs, h.2.2, Or.inr (h.2.1.rd2 h.1)⟩
  exact ⟨h1, h1.vl hlm hx⟩
theorem RQ_nd {τ : Td} (hT : tN τ 30 ≤ 8) {x s q to : Nat} (hto : to < 2) (h : ndf q (setN x (bo x 1) (tN τ 30)) = 0) (hd : q &&& s = 0) : ndf q (setN (bhT τ x 0 to s) (bo (bhT τ x 0 to s) 1) (tN τ 30)) = 0 := by
  have e1 : bo (bhT τ x 0 to s) 1 = bo x 1 := (bo_bh (by omega) (by decide) (by decide) hT).trans (if_neg (by decide))
  rw [e1]
  refine Nat.eq_of_testBit_eq fun i => ?_
  have h1 : (ndf q (setN x (bo x 1) (tN τ 30))).testBit i = false := by rw [h, Nat.zero_testBit]
  have h2 : (q &&& s).testBit i = false := by rw [hd, Nat.zero_testBit]
  rw [Nat.zero_testBit, ndf_tb]
  rw [ndf_tb] at h1
  rw [Nat.testBit_and] at h2
  cases cq : q.testBit i with
  | false => rfl
  | true =>
    rw [cq] at h1 h2
    have h3 : (setN x (bo x 1) (tN τ 30)).testBit i = true := by simpa using h1
    obtain ⟨h4, h5⟩ := (setN_tb x (bo x 1) i (tN τ 30)).mp h3
    have h6 : ¬ bt s i = 1 := fun z => by
      have := (tb_m s i).mp z
      rw [this] at h2
      exact absurd h2 (by decide)
    have h7 : th (bhT τ x 0 to s) i = bo x 1 := ((th_bh (by omega) (by decide) (by omega)).trans (if_neg (fun z => h6 z.2))).trans h5
    rw [(setN_tb (bhT τ x 0 to s) (bo x 1) i (tN τ 30)).mpr ⟨h4, h7⟩]
    rfl
theorem cR_both {G : Gl} {η0 : AH} {w : Nat} {τ : Td} (hW : Wd G η0 w τ) {t o : Nat} {adr : Nat → Nat} {jj qq pp tt ta tb na nb c v md : Nat} {gn ra : Nat → Nat} (hR : RSt η0 t o adr w τ jj qq pp tt ta tb na nb c v gn md ra) (hS2 : tN τ 29 = 2) (hB2 : tN τ 31 = 2) (hlm : tN τ 33 = 0) {x s q : Nat} (hP : Pl η0 (t + 3) pp w τ x) (hT : P0 η0 (t + 4) tt w) (hx : VL τ x) (hs1 : 0 < s) (hs2 : s < 256) (hq1 : 0 < q) (hq2 : q < 256) : Ct G yX18_both cX18_both 4 (some .boolean) 5 (0) (0) [.ref o, .int (nI (cdT τ x)), .int (nI s), .int (nI q)] η0 (ri fun r η => RSt η t o adr w τ jj qq pp tt ta tb na nb c v gn md ra ∧ Kp t (t + 7) η0 η ∧ Pl η (t + 3) pp w τ x ∧ ((r = nI 1 ∧ BQ τ x s q ∧ Pl η (t + 4) tt w τ (Y2 τ x s q)) ∨ (r = nI 0 ∧ ¬ BQ τ x s q ∧ P0 η (t + 4) tt w))) := by
  refine Ct.start rfl rfl (Nat.le_of_ble_eq_true rfl) (fun Γ => ?_)
  have hTB := hW.tb
  obtain ⟨⟨wb1, wb2, wb3, wb4, wb5, wb6, wb7⟩, -⟩ := id hTB
  have h0 : Kp t (t + 7) η0 η0 := Kp.rf
  have hb0 := (hx.b2 0).1
  have hb1 := (hx.b2 1).1
  obtain ⟨ρ, gx, ⟨hRo, r0, r1, r2, r4, r5, hJ, hQ, hN, hX, hab⟩, rm, hI⟩ := id hR
  obtain ⟨lw, hJd⟩ := id hJ
  obtain ⟨adp, π, hPo, p0, p3, p1, p2⟩ := id hP
  have hp0 := plN_R0 hS2 hB2 hlm hx (b := 0) (by decide) hs1
  have hp1 := plN_R0 hS2 hB2 hlm hx (b := 1) (by decide) hq1
  have hl0 := plN_le τ (tA τ 41) (tA τ 42) x (nI 0) (nI (1 - bo x 0)) s
  have hl1 := plN_le τ (tA τ 41) (tA τ 42) x (nI 1) (nI (1 - bo x 1)) q
  have hsq : s &&& q < 256 := Nat.lt_of_le_of_lt Nat.and_le_left hs2
  refine v_iload_n (i := 2) dX18_both_0 rfl rfl ?_
  refine v_iload_n (i := 3) dX18_both_1 rfl rfl ?_
  refine vn_iand dX18_both_2 ?_
  refine vn_if_ne (tgt := 60) dX18_both_3 rfl (by omega) (fun c3 => ?_) (fun c3 => ?_)
  · refine v_iconst (v := nI 0) dX18_both_60 k_iconst_0 ?_
    exact v_zret rfl rfl dX18_both_61 ⟨_, rfl, ⟨ρ, gx, ⟨hRo, r0, r1, r2, r4, r5, ⟨_, hJd⟩, hQ, hN, hX, hab⟩, rm, hI⟩, h0, hP, Or.inr ⟨rfl, fun z => c3 (by rw [Nat.and_comm]; exact z.2.1.2.1), hT⟩⟩
  · refine v_aload_n (i := 0) dX18_both_6 rfl rfl ?_
    refine go_get3 hRo KX18 0 (by decide) rfl (jj) r0 q931 dX18_both_7 ?_
    refine v_aload_n (i := 0) dX18_both_10 rfl rfl ?_
    refine go_get3 hRo KX18 1 (by decide) rfl (pp) r1 q932 dX18_both_11 ?_
    refine v_iconst (v := nI 0) dX18_both_14 k_iconst_0 ?_
    refine v_iconst (v := nI 1) dX18_both_15 k_iconst_1 ?_
    refine v_aload_n (i := 0) dX18_both_16 rfl rfl ?_
    refine go_get3 hRo KX18 1 (by decide) rfl (pp) r1 q932 dX18_both_17 ?_
    refine go_getAN hPo KX7 1 (by decide) (by decide) q510 dX18_both_20 ?_
    refine v_iconst (v := nI 0) dX18_both_23 k_iconst_0 ?_
    refine go_ld10 hPo 1 (by decide) rfl (show _ < 2 from (by omega)) (by decide) _ (p1 _ (by omega)) dX18_both_24 ?_
    refine vn_isub (by omega) dX18_both_25 ?_
    refine v_iload_n (i := 2) dX18_both_26 rfl rfl ?_
    refine v_callVe (cG_plainly hW hJd hP (by omega) (nI 0) (nI (1 - bo x 0)) (show s < 4294967296 by omega)) (lw_V q986 q728 q729 q157 q730) iX17_plainly rfl KX17 hJd.rcv rfl rfl (by decide) (by decide) (Nat.le_of_ble_eq_true rfl) (Nat.le_refl _) (Nat.le_refl _) dX18_both_27 (kr_I (fun x_ η h => ?_)) kx_I
    obtain ⟨rfl, hJd, hk⟩ := h
    have h0 := h0.th hk (by omega) (by omega)
    have hW := hW.kp hk
    have hP := hP.kp hk (by omega)
    have hT := hT.kp hk (by omega)
    have hN := hN.kp hk (by omega)
    have hX := hX.kp hk (by omega)
    have hRo := hRo.kpS hk (by omega)
    have hQ := hQ.kp hk (by omega)
    refine vn_if_ne (tgt := 60) dX18_both_30 rfl (by omega) (fun c30 => ?_) (fun c30 => ?_)
    · refine v_iconst (v := nI 0) dX18_both_60 k_iconst_0 ?_
      exact v_zret rfl rfl dX18_both_61 ⟨_, rfl, ⟨ρ, gx, ⟨hRo, r0, r1, r2, r4, r5, ⟨_, hJd⟩, hQ, hN, hX, hab⟩, rm, hI⟩, h0, hP, Or.inr ⟨rfl, fun z => c30 (hp0.2.1 z.1), hT⟩⟩
    · obtain ⟨adp, π, hPo, p0, p3, p1, p2⟩ := id hP
      refine v_aload_n (i := 0) dX18_both_33 rfl rfl ?_
      refine go_get3 hRo KX18 0 (by decide) rfl (jj) r0 q931 dX18_both_34 ?_
      refine v_aload_n (i := 0) dX18_both_37 rfl rfl ?_
      refine go_get3 hRo KX18 1 (by decide) rfl (pp) r1 q932 dX18_both_38 ?_
      refine v_iconst (v := nI 1) dX18_both_41 k_iconst_1 ?_
      refine v_iconst (v := nI 1) dX18_both_42 k_iconst_1 ?_
      refine v_aload_n (i := 0) dX18_both_43 rfl rfl ?_
      refine go_get3 hRo KX18 1 (by decide) rfl (pp) r1 q932 dX18_both_44 ?_
      refine go_getAN hPo KX7 1 (by decide) (by decide) q510 dX18_both_47 ?_
      refine v_iconst (v := nI 1) dX18_both_50 k_iconst_1 ?_
      refine go_ld10 hPo 1 (by decide) rfl (show _ < 2 from (by omega)) (by decide) _ (p1 _ (by omega)) dX18_both_51 ?_
      refine vn_isub (by omega) dX18_both_52 ?_
      refine v_iload_n (i := 3) dX18_both_53 rfl rfl ?_
      refine v_callVe (cG_plainly hW hJd hP (by omega) (nI 1) (nI (1 - bo x 1)) (show q < 4294967296 by omega)) (lw_V q986 q728 q729 q157 q730) iX17_plainly rfl KX17 hJd.rcv rfl rfl (by decide) (by decide) (Nat.le_of_ble_eq_true rfl) (Nat.le_refl _) (Nat.le_refl _) dX18_both_54 (kr_I (fun x_ η h => ?_)) kx_I
      obtain ⟨rfl, hJd, hk⟩ := h
      have h0 := h0.th hk (by omega) (by omega)
      have hW := hW.kp hk
      have hP := hP.kp hk (by omega)
      have hT := hT.kp hk (by omega)
      have hN := hN.kp hk (by omega)
      have hX := hX.kp hk (by omega)
      have hRo := hRo.kpS hk (by omega)
      have hQ := hQ.kp hk (by omega)
      refine vn_if_eq (tgt := 62) dX18_both_57 rfl (by omega) (fun c57 => ?_) (fun c57 => ?_)
      · obtain ⟨adp, π, hPo, p0, p3, p1, p2⟩ := id hP
        have hn0 := hp0.2.2 c30
        have hn1 := hp1.2.2 c57
        refine v_aload_n (i := 0) dX18_both_62 rfl rfl ?_
        refine go_get3 hRo KX18 1 (by decide) rfl (pp) r1 q932 dX18_both_63 ?_
        refine v_iload_n (i := 2) dX18_both_66 rfl rfl ?_
        refine v_callVe (cP_aboard hW hP (ndf_0 (setN_lt _ _ _) hn0)) (lw_V q987 q752 q753 q135 q754) iX7_aboard rfl KX7 hP.rcv rfl rfl (by decide) (by decide) (Nat.le_of_ble_eq_true rfl) (Nat.le_refl _) (Nat.le_refl _) dX18_both_67 (kr_ei ?_) kx_e
        refine v_aload_n (i := 0) dX18_both_70 rfl rfl ?_
        refine go_get3 hRo KX18 1 (by decide) rfl (pp) r1 q932 dX18_both_71 ?_
        refine v_iload_n (i := 3) dX18_both_74 rfl rfl ?_
        refine v_callVe (cP_aboard hW hP (ndf_0 (setN_lt _ _ _) hn1)) (lw_V q987 q752 q753 q135 q754) iX7_aboard rfl KX7 hP.rcv rfl rfl (by decide) (by decide) (Nat.le_of_ble_eq_true rfl) (Nat.le_refl _) (Nat.le_refl _) dX18_both_75 (kr_ei ?_) kx_e
        refine vn_ior dX18_both_78 ?_
        refine v_aload_n (i := 0) dX18_both_79 rfl rfl ?_
        refine go_get3 hRo KX18 1 (by decide) rfl (pp) r1 q932 dX18_both_80 ?_
        refine v_iconst (v := nI 3) dX18_both_83 k_iconst_3 ?_
        refine v_iload_n (i := 2) dX18_both_84 rfl rfl ?_
        refine v_iload_n (i := 3) dX18_both_85 rfl rfl ?_
        refine vn_ior dX18_both_86 ?_
        refine v_callVe (cP_barred hW hP (gb := 3) (gone := s ||| q) (by decide)) (lw_V q988 q655 q656 q135 q657) iX7_barred rfl KX7 hP.rcv rfl rfl (by decide) (by decide) (Nat.le_of_ble_eq_true rfl) (Nat.le_refl _) (Nat.le_refl _) dX18_both_87 (kr_ei ?_) kx_e
        refine vn_ior dX18_both_90 ?_
        refine v_top (x' := nI (abT τ 0 s ||| abT τ 0 q ||| bsT τ 0 x (s ||| q) 3 1)) rfl ?_
        have hlw : abT τ 0 s ||| abT τ 0 q ||| bsT τ 0 x (s ||| q) 3 1 < 4096 := or4096 (or4096 (ab_lt (bfT_lt hTB) _ _ _ _) (ab_lt (bfT_lt hTB) _ _ _ _)) (bs_lt (bfT_lt hTB) _ _ _ _ _ _ _ _ _)
        refine vn_if_eq (tgt := 96) dX18_both_91 rfl (by omega) (fun c91 => ?_) (fun c91 => ?_)
        · obtain ⟨cab, c3s⟩ := Nat.or_eq_zero_iff.mp c91
          obtain ⟨ca, cb⟩ := Nat.or_eq_zero_iff.mp cab
          have hR0 := hp0.1 c30 ca
          have hR1 := hp1.1 c57 cb
          have hRQ : RQ τ x s q := ⟨hR1, by rw [Nat.and_comm]; exact c3, c3s⟩
          have hR2 : RSt _ t o adr w τ jj qq pp tt ta tb na nb c v gn md ra := ⟨ρ, gx, ⟨hRo, r0, r1, r2, r4, r5, ⟨_, hJd⟩, hQ, hN, hX, hab⟩, rm, hI⟩
          have hn1b := RQ_nd wb3 (to := 1 - bo x 0) (by omega) hn1 hRQ.2.1
          refine v_aload_n (i := 0) dX18_both_96 rfl rfl ?_
          refine go_get3 hRo KX18 2 (by decide) rfl (tt) r2 q933 dX18_both_97 ?_
          refine v_iload_n (i := 1) dX18_both_100 rfl rfl ?_
          refine v_callVe (cP_read hW hT x) (lw_V q965 q706 q707 q135 q708) iX7_read rfl KX7 hT.rcv rfl rfl (by decide) (by decide) (Nat.le_of_ble_eq_true rfl) (Nat.le_refl _) (Nat.le_refl _) dX18_both_101 (kr_W (fun η h => ?_)) kx_W
          obtain ⟨hTl, hk⟩ := h
          have h0 := h0.th hk (by omega) (by omega)
          have hW := hW.kp hk
          have hP := hP.kp hk (by omega)
          have hR2 := hR2.kp hk (by omega)
          have hRo := hRo.kpS hk (by omega)
          obtain ⟨adp, π, hPo, p0, p3, p1, p2⟩ := id hP
          refine v_aload_n (i := 0) dX18_both_104 rfl rfl ?_
          refine go_get3 hRo KX18 2 (by decide) rfl (tt) r2 q933 dX18_both_105 ?_
          refine v_iconst (v := nI 0) dX18_both_108 k_iconst_0 ?_
          refine v_iconst (v := nI 1) dX18_both_109 k_iconst_1 ?_
          refine v_aload_n (i := 0) dX18_both_110 rfl rfl ?_
          refine go_get3 hRo KX18 1 (by decide) rfl (pp) r1 q932 dX18_both_111 ?_
          refine go_getAN hPo KX7 1 (by decide) (by decide) q510 dX18_both_114 ?_
          refine v_iconst (v := nI 0) dX18_both_117 k_iconst_0 ?_
          refine go_ld10 hPo 1 (by decide) rfl (show _ < 2 from (by omega)) (by decide) _ (p1 _ (by omega)) dX18_both_118 ?_
          refine vn_isub (by omega) dX18_both_119 ?_
          refine v_iload_n (i := 2) dX18_both_120 rfl rfl ?_
          refine v_callVe (cP_move hW hTl (b := 0) (to := 1 - bo x 0) (s := s) (by omega) (by omega) hn0) (lw_V q972 q757 q758 q135 q759) iX7_move rfl KX7 hTl.rcv rfl rfl (by decide) (by decide) (Nat.le_of_ble_eq_true rfl) (Nat.le_refl _) (Nat.le_refl _) dX18_both_121 (kr_W (fun η h => ?_)) kx_W
          obtain ⟨hTl, hk⟩ := h
          have h0 := h0.th hk (by omega) (by omega)
          have hW := hW.kp hk
          have hP := hP.kp hk (by omega)
          have hR2 := hR2.kp hk (by omega)
          have hRo := hRo.kpS hk (by omega)
          obtain ⟨adp, π, hPo, p0, p3, p1, p2⟩ := id hP
          refine v_aload_n (i := 0) dX18_both_124 rfl rfl ?_
          refine go_get3 hRo KX18 2 (by decide) rfl (tt) r2 q933 dX18_both_125 ?_
          refine v_iconst (v := nI 1) dX18_both_128 k_iconst_1 ?_
          refine v_iconst (v := nI 1) dX18_both_129 k_iconst_1 ?_
          refine v_aload_n (i := 0) dX18_both_130 rfl rfl ?_
          refine go_get3 hRo KX18 1 (by decide) rfl (pp) r1 q932 dX18_both_131 ?_
          refine go_getAN hPo KX7 1 (by decide) (by decide) q510 dX18_both_134 ?_
          refine v_iconst (v := nI 1) dX18_both_137 k_iconst_1 ?_
          refine go_ld10 hPo 1 (by decide) rfl (show _ < 2 from (by omega)) (by decide) _ (p1 _ (by omega)) dX18_both_138 ?_
          refine vn_isub (by omega) dX18_both_139 ?_
          refine v_iload_n (i := 3) dX18_both_140 rfl rfl ?_
          refine v_callVe (cP_move hW hTl (b := 1) (to := 1 - bo x 1) (s := q) (by omega) (by omega) hn1b) (lw_V q972 q757 q758 q135 q759) iX7_move rfl KX7 hTl.rcv rfl rfl (by decide) (by decide) (Nat.le_of_ble_eq_true rfl) (Nat.le_refl _) (Nat.le_refl _) dX18_both_141 (kr_W (fun η h => ?_)) kx_W
          obtain ⟨hTl, hk⟩ := h
          have h0 := h0.th hk (by omega) (by omega)
          have hW := hW.kp hk
          have hP := hP.kp hk (by omega)
          have hR2 := hR2.kp hk (by omega)
          have hRo := hRo.kpS hk (by omega)
          refine v_aload_n (i := 0) dX18_both_144 rfl rfl ?_
          refine go_get3 hRo KX18 2 (by decide) rfl (tt) r2 q933 dX18_both_145 ?_
          refine v_iconst (v := nI 0) dX18_both_148 k_iconst_0 ?_
          refine v_iconst (v := nI 0) dX18_both_149 k_iconst_0 ?_
          refine v_callVe (cP_barred hW hTl (gb := 0) (gone := 0) (by decide)) (lw_V q988 q655 q656 q135 q657) iX7_barred rfl KX7 hTl.rcv rfl rfl (by decide) (by decide) (Nat.le_of_ble_eq_true rfl) (Nat.le_refl _) (Nat.le_refl _) dX18_both_150 (kr_ei ?_) kx_e
          refine v_top (x' := nI (bsT τ 0 (Y2 τ x s q) 0 0 0)) rfl ?_
          have hl8 : bsT τ 0 (Y2 τ x s q) 0 0 0 < 4096 := bs_lt (bfT_lt hTB) _ _ _ _ _ _ _ _ _
          refine vn_if_ne (tgt := 160) dX18_both_153 rfl (by omega) (fun c153 => ?_) (fun c153 => ?_)
          · refine v_iconst (v := nI 0) dX18_both_160 k_iconst_0 ?_
            exact v_zret rfl rfl dX18_both_161 ⟨_, rfl, hR2, h0, hP, Or.inr ⟨rfl, fun z => c153 z.2.2, hTl.p0⟩⟩
          · refine v_iconst (v := nI 1) dX18_both_156 k_iconst_1 ?_
            refine v_goto (tgt := 161) dX18_both_157 rfl ?_
            exact v_zret rfl rfl dX18_both_161 ⟨_, rfl, hR2, h0, hP, Or.inl ⟨rfl, ⟨hR0, hRQ, c153⟩, hTl⟩⟩
        · refine v_iconst (v := nI 0) dX18_both_94 k_iconst_0 ?_
          exact v_zret rfl rfl dX18_both_95 ⟨_, rfl, ⟨ρ, gx, ⟨hRo, r0, r1, r2, r4, r5, ⟨_, hJd⟩, hQ, hN, hX, hab⟩, rm, hI⟩, h0, hP, Or.inr ⟨rfl, fun z => c91 (by rw [z.1.2.2.2, z.2.1.1.2.2.2, z.2.1.2.2]; rfl), hT⟩⟩
      · refine v_iconst (v := nI 0) dX18_both_60 k_iconst_0 ?_
        exact v_zret rfl rfl dX18_both_61 ⟨_, rfl, ⟨ρ, gx, ⟨hRo, r0, r1, r2, r4, r5, ⟨_, hJd⟩, hQ, hN, hX, hab⟩, rm, hI⟩, h0, hP, Or.inr ⟨rfl, fun z => c57 (hp1.2.1 z.2.1.1), hT⟩⟩
theorem cR_pair {G : Gl} {η0 : AH} {w : Nat} {τ : Td} (hW : Wd G η0 w τ) {t o : Nat} {adr : Nat → Nat} {jj qq pp tt ta tb na nb c v md : Nat} {gn ra : Nat → Nat} (hR : RSt η0 t o adr w τ jj qq pp tt ta tb na nb c v gn md ra) (hS2 : tN τ 29 = 2) (hB2 : tN τ 31 = 2) (hlm : tN τ 33 = 0) (hbs : bsT τ 0 (stT τ) 0 0 0 = 0) {x : Nat} (hP : Pl η0 (t + 3) pp w τ x) (hT : P0 η0 (t + 4) tt w) (hx : VL τ x) (hv : v ≠ 0) (hh0 : tA τ 41 0 ≤ 3) : Ct G yX18_pair cX18_pair 6 none 9 (0) (0) [.ref o, .int (nI (cdT τ x))] η0 (rv fun η => ∃ ra2, RSt η t o adr w τ jj qq pp tt ta tb na nb c v gn md ra2 ∧ Kp t (t + 7) η0 η ∧ Pl η (t + 3) pp w τ x ∧ P0 η (t + 4) tt w ∧ UpR τ v (fun y => rdS τ x y) ra ra2 ∧ ∀ s q, (BQ τ x s q → ra2 (smT τ (Y2 τ x s q)) ≠ 0)) := by
  refine Ct.start rfl rfl (Nat.le_of_ble_eq_true rfl) (fun Γ => ?_)
  have hTB := hW.tb
  obtain ⟨⟨wb1, wb2, wb3, wb4, wb5, wb6, wb7⟩, -⟩ := id hTB
  have hb0 := (hx.b2 0).1
  have hb1 := (hx.b2 1).1
  have hT0 := setN_256 x (bo x 0) wb3
  have hT1 := setN_256 x (bo x 1) wb3
  have L65 : ∀ (s : Nat), 0 < s → s < 256 → ∀ (l : List Nat) (a : Nat) (η : AH) (rb : Nat → Nat), sbC (setN x (bo x 1) (tN τ 30)) a l = true → (∀ s ∈ l, 0 < s ∧ s < 256) → Wd G η w τ → RSt η t o adr w τ jj qq pp tt ta tb na nb c v gn md rb → Kp t (t + 7) η0 η → Pl η (t + 3) pp w τ x → P0 η (t + 4) tt w → (∀ (η : AH) (rc : Nat → Nat) (z : Option Value), Wd G η w τ → RSt η t o adr w τ jj qq pp tt ta tb na nb c v gn md rc → Kp t (t + 7) η0 η → Pl η (t + 3) pp w τ x → P0 η (t + 4) tt w → UpR τ v (fun y => rdS τ x y) rb rc → (∀ q ∈ l, (BQ τ x s q → rc (smT τ (Y2 τ x s q)) ≠ 0)) → V G Γ yX18_pair cX18_pair 6 none [] 9 (rv fun η => ∃ ra2, RSt η t o adr w τ jj qq pp tt ta tb na nb c v gn md ra2 ∧ Kp t (t + 7) η0 η ∧ Pl η (t + 3) pp w τ x ∧ P0 η (t + 4) tt w ∧ UpR τ v (fun y => rdS τ x y) ra ra2 ∧ ∀ s q, (BQ τ x s q → ra2 (smT τ (Y2 τ x s q)) ≠ 0)) (0) (0) (η) 97 [some (.ref o), some (.int (nI (cdT τ x))), some (.int (nI (setN x (bo x 0) (tN τ 30)))), some (.int (nI (setN x (bo x 1) (tN τ 30)))), some (.int (nI s)), z] []) → V G Γ yX18_pair cX18_pair 6 none [] 9 (rv fun η => ∃ ra2, RSt η t o adr w τ jj qq pp tt ta tb na nb c v gn md ra2 ∧ Kp t (t + 7) η0 η ∧ Pl η (t + 3) pp w τ x ∧ P0 η (t + 4) tt w ∧ UpR τ v (fun y => rdS τ x y) ra ra2 ∧ ∀ s q, (BQ τ x s q → ra2 (smT τ (Y2 τ x s q)) ≠ 0)) (0) (0) (η) 65 [some (.ref o), some (.int (nI (cdT τ x))), some (.int (nI (setN x (bo x 0) (tN τ 30)))), some (.int (nI (setN x (bo x 1) (tN τ 30)))), some (.int (nI s)), some (.int (nI a))] [] := by
    intro s hs1 hs2 l
    induction l with
    | nil =>
      intro a η rb hC hl hW hR h0 hP hT K
      have e : a = 0 := by simpa [sbC] using hC
      subst e
      refine v_iload (i := 5) dX18_pair_65 rfl ?_
      refine vn_if_eq (tgt := 97) dX18_pair_67 rfl (by decide) (fun c67 => ?_) (fun c67 => ?_)
      · exact K η rb _ hW hR h0 hP hT UpR.rf (fun s hs => absurd hs (List.not_mem_nil))
      · exact absurd rfl c67
    | cons q l ih =>
      intro a η rb hC hl hW hR h0 hP hT K
      obtain ⟨e, hC2⟩ : a = q ∧ sbC (setN x (bo x 1) (tN τ 30)) (sbN (setN x (bo x 1) (tN τ 30)) q) l = true := by simpa [sbC] using hC
      subst e
      obtain ⟨hq1, hq2⟩ := hl a List.mem_cons_self
      have hl2 : ∀ s ∈ l, 0 < s ∧ s < 256 := fun s h => hl s (List.mem_cons_of_mem _ h)
      obtain ⟨ρ, gx, ⟨hRo, -⟩, -⟩ := id hR
      refine v_iload (i := 5) dX18_pair_65 rfl ?_
      refine vn_if_eq (tgt := 97) dX18_pair_67 rfl (by omega) (fun c67 => ?_) (fun c67 => ?_)
      · exact absurd c67 (by omega)
      · refine v_aload_n (i := 0) dX18_pair_70 rfl rfl ?_
        refine v_iload_n (i := 1) dX18_pair_71 rfl rfl ?_
        refine v_iload (i := 4) dX18_pair_72 rfl ?_
        refine v_iload (i := 5) dX18_pair_74 rfl ?_
        refine v_callVe (cR_both hW hR hS2 hB2 hlm hP hT hx hs1 hs2 hq1 hq2) (lw_V q982 q984 qs18 q159 q985) iX18_both rfl KX18 hR.rcv rfl rfl (by decide) (by decide) (Nat.le_of_ble_eq_true rfl) (Nat.le_refl _) (Nat.le_refl _) dX18_pair_76 (kr_I (fun x_ η h => ?_)) kx_I
        obtain ⟨hR, hk, hP, hr⟩ := h
        have hW := hW.kp hk
        have h0 := h0.tr hk
        rcases hr with ⟨rfl, hBQ, hTl⟩ | ⟨rfl, hnB, hT⟩
        · refine vn_if_eq (tgt := 86) dX18_pair_79 rfl (by decide) (fun c79 => ?_) (fun c79 => ?_)
          · exact absurd c79 (by decide)
          · refine v_aload_n (i := 0) dX18_pair_82 rfl rfl ?_
            refine v_callVe (cR_come hW hR hB2 hTl (bq_up hlm hbs hx hBQ).2 hv) (lw_V q973 q975 qs16 q159 q976) iX18_come rfl KX18 hR.rcv rfl rfl (by decide) (by decide) (Nat.le_of_ble_eq_true rfl) (Nat.le_refl _) (Nat.le_refl _) dX18_pair_83 (kr_W (fun η h => ?_)) kx_W
            obtain ⟨rc, hR, hk, hTl, hPk, hCM⟩ := h
            have hP := hPk x hP
            have hT := hTl.p0
            have hW := hW.kp hk
            have h0 := h0.tr hk
            refine v_iload (i := 5) dX18_pair_86 rfl ?_
            refine v_iload_n (i := 3) dX18_pair_88 rfl rfl ?_
            refine v_isub dX18_pair_89 ?_
            refine v_iload_n (i := 3) dX18_pair_90 rfl rfl ?_
            refine v_iand dX18_pair_91 ?_
            refine v_top (x' := nI (sbN (setN x (bo x 1) (tN τ 30)) a)) (nI_sbN hT1 hq2) ?_
            refine v_istore (i := 5) dX18_pair_92 (by decide) rfl ?_
            refine v_goto (tgt := 65) dX18_pair_94 rfl ?_
            have hU := hCM.up (Q := fun y => rdS τ x y) (bq_up hlm hbs hx hBQ).1 (bq_up hlm hbs hx hBQ).2
            exact ih (sbN (setN x (bo x 1) (tN τ 30)) a) η rc hC2 hl2 hW hR h0 hP hT (fun η rd z hW hR h0 hP hT hU2 hd => K η rd z hW hR h0 hP hT (hU.trans hv hU2) (fun q hq => by
              rcases List.mem_cons.mp hq with e | e
              · subst e
                exact fun _ => hU2.keep (hCM.in_ hv)
              · exact hd q e))
        · refine vn_if_eq (tgt := 86) dX18_pair_79 rfl (by decide) (fun c79 => ?_) (fun c79 => ?_)
          · refine v_iload (i := 5) dX18_pair_86 rfl ?_
            refine v_iload_n (i := 3) dX18_pair_88 rfl rfl ?_
            refine v_isub dX18_pair_89 ?_
            refine v_iload_n (i := 3) dX18_pair_90 rfl rfl ?_
            refine v_iand dX18_pair_91 ?_
            refine v_top (x' := nI (sbN (setN x (bo x 1) (tN τ 30)) a)) (nI_sbN hT1 hq2) ?_
            refine v_istore (i := 5) dX18_pair_92 (by decide) rfl ?_
            refine v_goto (tgt := 65) dX18_pair_94 rfl ?_
            exact ih (sbN (setN x (bo x 1) (tN τ 30)) a) η rb hC2 hl2 hW hR h0 hP hT (fun η rd z hW hR h0 hP hT hU2 hd => K η rd z hW hR h0 hP hT hU2 (fun q hq => by
              rcases List.mem_cons.mp hq with e | e
              · subst e
                exact fun g => absurd g hnB
              · exact hd q e))
          · exact absurd rfl c79
  have L42 : ∀ (l : List Nat) (a : Nat) (η : AH) (rb : Nat → Nat) (z5 : Option Value), sbC (setN x (bo x 0) (tN τ 30)) a l = true → (∀ s ∈ l, 0 < s ∧ s < 256) → Wd G η w τ → RSt η t o adr w τ jj qq pp tt ta tb na nb c v gn md rb → Kp t (t + 7) η0 η → Pl η (t + 3) pp w τ x → P0 η (t + 4) tt w → (∀ (η : AH) (rc : Nat → Nat) (z z5 : Option Value), Wd G η w τ → RSt η t o adr w τ jj qq pp tt ta tb na nb c v gn md rc → Kp t (t + 7) η0 η → Pl η (t + 3) pp w τ x → P0 η (t + 4) tt w → UpR τ v (fun y => rdS τ x y) rb rc → (∀ s ∈ l, ∀ q, (BQ τ x s q → rc (smT τ (Y2 τ x s q)) ≠ 0)) → V G Γ yX18_pair cX18_pair 6 none [] 9 (rv fun η => ∃ ra2, RSt η t o adr w τ jj qq pp tt ta tb na nb c v gn md ra2 ∧ Kp t (t + 7) η0 η ∧ Pl η (t + 3) pp w τ x ∧ P0 η (t + 4) tt w ∧ UpR τ v (fun y => rdS τ x y) ra ra2 ∧ ∀ s q, (BQ τ x s q → ra2 (smT τ (Y2 τ x s q)) ≠ 0)) (0) (0) (η) 108 [some (.ref o), some (.int (nI (cdT τ x))), some (.int (nI (setN x (bo x 0) (tN τ 30)))), some (.int (nI (setN x (bo x 1) (tN τ 30)))), z, z5] []) → V G Γ yX18_pair cX18_pair 6 none [] 9 (rv fun η => ∃ ra2, RSt η t o adr w τ jj qq pp tt ta tb na nb c v gn md ra2 ∧ Kp t (t + 7) η0 η ∧ Pl η (t + 3) pp w τ x ∧ P0 η (t + 4) tt w ∧ UpR τ v (fun y => rdS τ x y) ra ra2 ∧ ∀ s q, (BQ τ x s q → ra2 (smT τ (Y2 τ x s q)) ≠ 0)) (0) (0) (η) 42 [some (.ref o), some (.int (nI (cdT τ x))), some (.int (nI (setN x (bo x 0) (tN τ 30)))), some (.int (nI (setN x (bo x 1) (tN τ 30)))), some (.int (nI a)), z5] [] := by
    intro l
    induction l with
    | nil =>
      intro a η rb z5 hC hl hW hR h0 hP hT K
      have e : a = 0 := by simpa [sbC] using hC
      subst e
      refine v_iload (i := 4) dX18_pair_42 rfl ?_
      refine vn_if_eq (tgt := 108) dX18_pair_44 rfl (by decide) (fun c44 => ?_) (fun c44 => ?_)
      · exact K η rb _ _ hW hR h0 hP hT UpR.rf (fun s hs => absurd hs (List.not_mem_nil))
      · exact absurd rfl c44
    | cons s l ih =>
      intro a η rb z5 hC hl hW hR h0 hP hT K
      obtain ⟨e, hC2⟩ : a = s ∧ sbC (setN x (bo x 0) (tN τ 30)) (sbN (setN x (bo x 0) (tN τ 30)) s) l = true := by simpa [sbC] using hC
      subst e
      obtain ⟨hs1, hs2⟩ := hl a List.mem_cons_self
      have hl2 : ∀ s ∈ l, 0 < s ∧ s < 256 := fun s h => hl s (List.mem_cons_of_mem _ h)
      have hpc := popc_le a
      have K97 : ∀ (η : AH) (rc : Nat → Nat) (z5 : Option Value), Wd G η w τ → RSt η t o adr w τ jj qq pp tt ta tb na nb c v gn md rc → Kp t (t + 7) η0 η → Pl η (t + 3) pp w τ x → P0 η (t + 4) tt w → UpR τ v (fun y => rdS τ x y) rb rc → (∀ q, BQ τ x a q → rc (smT τ (Y2 τ x a q)) ≠ 0) → V G Γ yX18_pair cX18_pair 6 none [] 9 (rv fun η => ∃ ra2, RSt η t o adr w τ jj qq pp tt ta tb na nb c v gn md ra2 ∧ Kp t (t + 7) η0 η ∧ Pl η (t + 3) pp w τ x ∧ P0 η (t + 4) tt w ∧ UpR τ v (fun y => rdS τ x y) ra ra2 ∧ ∀ s q, (BQ τ x s q → ra2 (smT τ (Y2 τ x s q)) ≠ 0)) (0) (0) (η) 97 [some (.ref o), some (.int (nI (cdT τ x))), some (.int (nI (setN x (bo x 0) (tN τ 30)))), some (.int (nI (setN x (bo x 1) (tN τ 30)))), some (.int (nI a)), z5] [] := by
        intro η rc z5 hW hR h0 hP hT hU hd
        refine v_iload (i := 4) dX18_pair_97 rfl ?_
        refine v_iload_n (i := 2) dX18_pair_99 rfl rfl ?_
        refine v_isub dX18_pair_100 ?_
        refine v_iload_n (i := 2) dX18_pair_101 rfl rfl ?_
        refine v_iand dX18_pair_102 ?_
        refine v_top (x' := nI (sbN (setN x (bo x 0) (tN τ 30)) a)) (nI_sbN hT0 hs2) ?_
        refine v_istore (i := 4) dX18_pair_103 (by decide) rfl ?_
        refine v_goto (tgt := 42) dX18_pair_105 rfl ?_
        exact ih (sbN (setN x (bo x 0) (tN τ 30)) a) η rc _ hC2 hl2 hW hR h0 hP hT (fun η rd z z5 hW hR h0 hP hT hU2 hd2 => K η rd z z5 hW hR h0 hP hT (hU.trans hv hU2) (fun s hs q => by
          rcases List.mem_cons.mp hs with e | e
          · subst e
            exact fun g => hU2.keep (hd q g)
          · exact hd2 s e q))
      refine v_iload (i := 4) dX18_pair_42 rfl ?_
      refine vn_if_eq (tgt := 108) dX18_pair_44 rfl (by omega) (fun c44 => ?_) (fun c44 => ?_)
      · exact absurd c44 (by omega)
      · refine v_iload (i := 4) dX18_pair_47 rfl ?_
        refine v_callS (cJ_bitCount hs2) (lw_S q981 q447 q129 q448) iJ6_bitCount rfl rfl (by decide) (by decide) (Nat.le_of_ble_eq_true rfl) (Nat.le_refl _) (Nat.le_refl _) dX18_pair_49 (kr_ei ?_) kx_e
        refine v_iconst (v := nI 3) dX18_pair_52 k_iconst_3 ?_
        refine vn_icmp_le (tgt := 59) dX18_pair_53 rfl (by omega) (by decide) (fun c53 => ?_) (fun c53 => ?_)
        · refine v_iload_n (i := 3) dX18_pair_59 rfl rfl ?_
          refine v_iload_n (i := 3) dX18_pair_60 rfl rfl ?_
          refine v_ineg dX18_pair_61 ?_
          refine v_iand dX18_pair_62 ?_
          refine v_top (x' := nI (sbF (setN x (bo x 1) (tN τ 30)))) (nI_sbF hT1) ?_
          refine v_istore (i := 5) dX18_pair_63 (by decide) rfl ?_
          refine L65 a hs1 hs2 (sbL (setN x (bo x 1) (tN τ 30))) (sbF (setN x (bo x 1) (tN τ 30))) η rb (sb_ok _ hT1) (fun s hs => ⟨(sbL_pos hs).1, (sbL_pos hs).2.1⟩) hW hR h0 hP hT (fun η rc z hW hR h0 hP hT hU hd => K97 η rc _ hW hR h0 hP hT hU (fun q g => hd q (sbL_in wb3 g.2.1.1) g))
        · refine v_goto (tgt := 97) dX18_pair_56 rfl ?_
          exact K97 η rb _ hW hR h0 hP hT UpR.rf (fun q g => absurd g.1.len (by omega))
  have h0 : Kp t (t + 7) η0 η0 := Kp.rf
  obtain ⟨ρ, gx, ⟨hRo, r0, r1, r2, r4, r5, hJ, hQ, hN, hX, hab⟩, rm, hI⟩ := id hR
  obtain ⟨adp, π, hPo, p0, p3, p1, p2⟩ := id hP
  refine v_aload_n (i := 0) dX18_pair_0 rfl rfl ?_
  refine go_get3 hRo KX18 1 (by decide) rfl (pp) r1 q932 dX18_pair_1 ?_
  refine go_getAN hPo KX7 2 (by decide) (by decide) q515 dX18_pair_4 ?_
  refine v_aload_n (i := 0) dX18_pair_7 rfl rfl ?_
  refine go_get3 hRo KX18 1 (by decide) rfl (pp) r1 q932 dX18_pair_8 ?_
  refine go_getAN hPo KX7 1 (by decide) (by decide) q510 dX18_pair_11 ?_
  refine v_iconst (v := nI 0) dX18_pair_14 k_iconst_0 ?_
  refine go_ld10 hPo 1 (by decide) rfl (show _ < 2 from (by omega)) (by decide) _ (p1 _ (by omega)) dX18_pair_15 ?_
  refine go_ld10 hPo 2 (by decide) rfl (show _ < 4 from (by omega)) (by decide) _ (p2 _ (by omega)) dX18_pair_16 ?_
  refine v_istore_n (i := 2) dX18_pair_17 rfl (by decide) rfl ?_
  refine v_aload_n (i := 0) dX18_pair_18 rfl rfl ?_
  refine go_get3 hRo KX18 1 (by decide) rfl (pp) r1 q932 dX18_pair_19 ?_
  refine go_getAN hPo KX7 2 (by decide) (by decide) q515 dX18_pair_22 ?_
  refine v_aload_n (i := 0) dX18_pair_25 rfl rfl ?_
  refine go_get3 hRo KX18 1 (by decide) rfl (pp) r1 q932 dX18_pair_26 ?_
  refine go_getAN hPo KX7 1 (by decide) (by decide) q510 dX18_pair_29 ?_
  refine v_iconst (v := nI 1) dX18_pair_32 k_iconst_1 ?_
  refine go_ld10 hPo 1 (by decide) rfl (show _ < 2 from (by omega)) (by decide) _ (p1 _ (by omega)) dX18_pair_33 ?_
  refine go_ld10 hPo 2 (by decide) rfl (show _ < 4 from (by omega)) (by decide) _ (p2 _ (by omega)) dX18_pair_34 ?_
  refine v_istore_n (i := 3) dX18_pair_35 rfl (by decide) rfl ?_
  refine v_iload_n (i := 2) dX18_pair_36 rfl rfl ?_
  refine v_iload_n (i := 2) dX18_pair_37 rfl rfl ?_
  refine v_ineg dX18_pair_38 ?_
  refine v_iand dX18_pair_39 ?_
  refine v_top (x' := nI (sbF (setN x (bo x 0) (tN τ 30)))) (nI_sbF hT0) ?_
  refine v_istore (i := 4) dX18_pair_40 (by decide) rfl ?_
  refine L42 (sbL (setN x (bo x 0) (tN τ 30))) (sbF (setN x (bo x 0) (tN τ 30))) η0 ra none (sb_ok _ hT0) (fun s hs => ⟨(sbL_pos hs).1, (sbL_pos hs).2.1⟩) hW hR h0 hP hT (fun η rc z z5 hW hR h0 hP hT hU hd => ?_)
  exact v_vret rfl dX18_pair_108 ⟨rfl, rc, hR, h0, hP, hT, hU, fun s q g => hd s (sbL_in wb3 g.1) q g⟩
