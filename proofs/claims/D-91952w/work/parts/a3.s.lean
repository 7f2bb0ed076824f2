set_option maxRecDepth 100000
theorem cJ_ensure {G : Gl} {η0 : AH} {t q e cap : Nat} {ad : Nat → Nat} {σ : MS} {f : Nat → Int32} {cs : List Nat} (hB : SBi η0 t q ad σ e f cs cap) (hc2 : cap ≤ 9000) : Ct G yJ18_ensureCapacityInternal cJ18_ensureCapacityInternal 3 none 3 (cbC cs.length cap) (cbS cs.length cap) [.ref q, .int (nI (cs.length + 1))] η0 (rv fun η => ∃ σ2 e2 f2, SBi η t q ad σ2 e2 f2 cs (cpB cs.length cap) ∧ Kp t (t + 1) η0 η) := by
  refine Ct.start rfl rfl (Nat.le_of_ble_eq_true rfl) (fun Γ => ?_)
  obtain ⟨h, s0, s1, s3, hl, hc, he, hf, hcs, hfb⟩ := hB
  have hd1 : cap / 2 ^ 0 = cap := Nat.div_one _
  by_cases cl : cs.length < cap
  · refine v_aload_n (i := 0) dJ18_ensureCapacityInternal_0 rfl rfl ?_
    refine go_get3 h KJ19 0 (by decide) rfl (e) s0 q1474 dJ18_ensureCapacityInternal_1 ?_
    refine v_alen he (by decide) dJ18_ensureCapacityInternal_4 ?_
    refine v_aload_n (i := 0) dJ18_ensureCapacityInternal_5 rfl rfl ?_
    refine go_get0 h KJ19 1 (by decide) rfl (0) s1 q1475 dJ18_ensureCapacityInternal_6 ?_
    refine vn_ishr (by omega) (by decide) dJ18_ensureCapacityInternal_9 ?_
    refine v_istore_n (i := 2) dJ18_ensureCapacityInternal_10 rfl (by decide) rfl ?_
    refine v_iload_n (i := 1) dJ18_ensureCapacityInternal_11 rfl rfl ?_
    refine v_iload_n (i := 2) dJ18_ensureCapacityInternal_12 rfl rfl ?_
    refine v_isub dJ18_ensureCapacityInternal_13 ?_
    refine v_if_le (tgt := 38) dJ18_ensureCapacityInternal_14 rfl (fun c14 => ?_) (fun c14 => ?_)
    · exact v_vret rfl dJ18_ensureCapacityInternal_38 ⟨rfl, σ, e, f, (by have e1 : cpB cs.length cap = cap := if_pos cl; rw [e1]; exact ⟨h, s0, s1, s3, hl, hc, he, hf, hcs, hfb⟩), Kp.rf⟩
    · exact absurd (nI_sub_le (by omega) (by omega)) c14
  · have ecl : cs.length = cap := by omega
    refine v_aload_n (i := 0) dJ18_ensureCapacityInternal_0 rfl rfl ?_
    refine go_get3 h KJ19 0 (by decide) rfl (e) s0 q1474 dJ18_ensureCapacityInternal_1 ?_
    refine v_alen he (by decide) dJ18_ensureCapacityInternal_4 ?_
    refine v_aload_n (i := 0) dJ18_ensureCapacityInternal_5 rfl rfl ?_
    refine go_get0 h KJ19 1 (by decide) rfl (0) s1 q1475 dJ18_ensureCapacityInternal_6 ?_
    refine vn_ishr (by omega) (by decide) dJ18_ensureCapacityInternal_9 ?_
    refine v_istore_n (i := 2) dJ18_ensureCapacityInternal_10 rfl (by decide) rfl ?_
    refine v_iload_n (i := 1) dJ18_ensureCapacityInternal_11 rfl rfl ?_
    refine v_iload_n (i := 2) dJ18_ensureCapacityInternal_12 rfl rfl ?_
    refine vn_isub (by omega) dJ18_ensureCapacityInternal_13 ?_
    refine vn_if_le (tgt := 38) dJ18_ensureCapacityInternal_14 rfl (by omega) (fun c14 => ?_) (fun c14 => ?_)
    · omega
    · refine v_aload_n (i := 0) dJ18_ensureCapacityInternal_17 rfl rfl ?_
      refine v_aload_n (i := 0) dJ18_ensureCapacityInternal_18 rfl rfl ?_
      refine go_get3 h KJ19 0 (by decide) rfl (e) s0 q1474 dJ18_ensureCapacityInternal_19 ?_
      refine v_aload_n (i := 0) dJ18_ensureCapacityInternal_22 rfl rfl ?_
      refine v_iload_n (i := 1) dJ18_ensureCapacityInternal_23 rfl rfl ?_
      refine v_top (x' := nI (cap + 1)) (by rw [ecl]) ?_
      refine v_callP (n := 1) (cJ_newCap h s0 s1 he (by omega)) (lw_meth q1503) q1500 q2573 q1501 q1502 q152 ⟨by decide, by decide, by decide +kernel⟩ KJ19 h.rcv rfl rfl (by decide) (by decide) (Nat.le_of_ble_eq_true rfl) (Nat.le_refl _) (Nat.le_refl _) dJ18_ensureCapacityInternal_24 (kr_ei ?_) kx_e
      refine v_aload_n (i := 0) dJ18_ensureCapacityInternal_27 rfl rfl ?_
      refine go_get0 h KJ19 1 (by decide) rfl (0) s1 q1475 dJ18_ensureCapacityInternal_28 ?_
      refine vn_ishl (by decide) dJ18_ensureCapacityInternal_31 ?_
      refine v_callS (kc' := 0) (ks' := 0) (cJ_copyOfB (t := t) he (n := (2 * cap + 2) * 2 ^ 0) (by omega) (by omega) hfb) (lw_S q1506 q1507 q147 q1508) iJ17_copyOf_3 rfl rfl (by decide) (by decide) (Nat.le_of_ble_eq_true rfl) (by show 0 + 1 ≤ cbC cs.length cap; unfold cbC; rw [if_neg cl]; exact Nat.le_refl _) (by show 0 + _ ≤ cbS cs.length cap; unfold cbS; rw [if_neg cl]; omega) dJ18_ensureCapacityInternal_32 (kr_R (fun qn η h_ => ?_)) kx_R
      obtain ⟨hq, ⟨f2, hq1, hf2⟩, hXt⟩ := h_
      rw [show (2 * cap + 2) * 2 ^ 0 = 2 * cap + 2 from Nat.mul_one _] at hq1
      have h := h.xt hXt
      have hne := h.nea hq1
      refine go_put3e h KJ19 0 (by decide) rfl q1474 rfl rfl rfl dJ18_ensureCapacityInternal_35 (fun η h hk hx => ?_)
      exact v_vret rfl dJ18_ensureCapacityInternal_38 (by
        have e1 : cpB cs.length cap = 2 * cap + 2 := if_neg cl
        rw [e1]
        refine ⟨rfl, _, qn, f2, ⟨h, rfl, s1, s3, by omega, by omega, (hx _ hne).trans hq1, fun i hi => ?_, hcs, fun i => ?_⟩, (Xt.k_ hXt).tr hk⟩
        · rw [hf2, if_pos (by omega)]; exact hf i hi
        · rw [hf2]
          split
          · exact hfb i
          · rfl)
theorem cpB_gt (n cap : Nat) (h : n ≤ cap) : n < cpB n cap ∧ (cap ≤ 9000 → cpB n cap ≤ 20000) := by
  unfold cpB
  split <;> omega
theorem i2b_e {c : Nat} (h : c < 128) : (nI c).toInt8.toInt32 = nI c := (by decide +kernel : ∀ c, c < 128 → (nI c).toInt8.toInt32 = nI c) c h
theorem nwB {c : Nat} (h : c < 128) : narrow .byte (.int (nI c)) = .int (nI c) ∧ fits .byte (.int (nI c)) = true := (by decide +kernel : ∀ c, c < 128 → narrow .byte (.int (nI c)) = .int (nI c) ∧ fits .byte (.int (nI c)) = true) c h
theorem cJ_canE {G : Gl} {η0 : AH} {c : Nat} (hc : c < 128) : Ct G yJ14_canEncode_2 cJ14_canEncode_2 1 (some .boolean) 0 (0) (0) [.int (nI c)] η0 (re (some (.int (nI 1))) η0) := by
  refine Ct.start rfl rfl (Nat.le_of_ble_eq_true rfl) (fun Γ => ?_)
  refine v_iload_n (i := 0) dJ14_canEncode_2_0 rfl rfl ?_
  refine v_sipush (v := nI 255) dJ14_canEncode_2_1 k_sipush_255 ?_
  refine vn_icmp_gt (tgt := 11) dJ14_canEncode_2_4 rfl (by omega) (by decide) (fun c4 => ?_) (fun c4 => ?_)
  · omega
  · refine v_iconst (v := nI 1) dJ14_canEncode_2_7 k_iconst_1 ?_
    refine v_goto (tgt := 12) dJ14_canEncode_2_8 rfl ?_
    exact v_zret rfl rfl dJ14_canEncode_2_12 ⟨rfl, rfl⟩
theorem cJ_sbApp {G : Gl} {η0 : AH} {t q cap : Nat} {cs : List Nat} (hS : SBq η0 (some t) q cs cap) (hc2 : cap ≤ 9000) {c : Nat} (hcc : c < 128) : Ct G yJ18_append_3 cJ18_append_3 2 (some (.object "java/lang/AbstractStringBuilder")) 4 (cbC cs.length cap) (cbS cs.length cap) [.ref q, .int (nI c)] η0 (rr fun r η => r = q ∧ SBq η (some t) q (cs ++ [c]) (cpB cs.length cap) ∧ Kp t (t + 1) η0 η) := by
  refine Ct.start rfl rfl (Nat.le_of_ble_eq_true rfl) (fun Γ => ?_)
  obtain ⟨ad, σ, e, f, hB⟩ := hS
  obtain ⟨h, -, -, s3, hl0, -⟩ := id hB
  refine v_aload_n (i := 0) dJ18_append_3_0 rfl rfl ?_
  refine v_aload_n (i := 0) dJ18_append_3_1 rfl rfl ?_
  refine go_get0 h KJ19 3 (by decide) rfl (cs.length) s3 q1477 dJ18_append_3_2 ?_
  refine v_iconst (v := nI 1) dJ18_append_3_5 k_iconst_1 ?_
  refine vn_iadd dJ18_append_3_6 ?_
  refine v_callP (n := 1) (kc' := 0) (ks' := 0) (cJ_ensure hB hc2) (lw_meth q1499) q1496 q2572 q1497 q1498 q152 ⟨by decide, by decide, by decide +kernel⟩ KJ19 h.rcv rfl rfl (by decide) (by decide) (Nat.le_of_ble_eq_true rfl) (by omega) (by omega) dJ18_append_3_7 (kr_W (fun η h_ => ?_)) kx_W
  obtain ⟨σ, e, f, hB, h0⟩ := h_
  obtain ⟨h, s0, s1, s3, hl, hc, he, hf, hcs, hfb⟩ := hB
  have hgt := (cpB_gt cs.length cap hl0).1
  have hne := h.nea he
  refine v_aload_n (i := 0) dJ18_append_3_10 rfl rfl ?_
  refine v_callUe (n := 0) (owner := "java/lang/AbstractStringBuilder") (x := ⟨"java/lang/AbstractStringBuilder", "isLatin1", "()Z"⟩) (cJ_isL1 h s1) (lw_U q1516 q1518 q1519 q1517 q152 q1520) rfl ⟨by decide, by decide, by decide +kernel⟩ KJ19 h.rcv rfl rfl (by decide) (by decide) (Nat.le_of_ble_eq_true rfl) (Nat.le_refl _) (Nat.le_refl _) dJ18_append_3_11 (kr_ei ?_) kx_e
  refine vn_if_eq (tgt := 45) dJ18_append_3_14 rfl (by decide) (fun c14 => ?_) (fun c14 => ?_)
  · exact absurd c14 (by decide)
  · refine v_iload_n (i := 1) dJ18_append_3_17 rfl rfl ?_
    refine v_callS (cJ_canE hcc) (lw_S q1703 q1704 q142 q1705) iJ14_canEncode_2 rfl rfl (by decide) (by decide) (Nat.le_of_ble_eq_true rfl) (Nat.le_refl _) (Nat.le_refl _) dJ18_append_3_18 (kr_ei ?_) kx_e
    refine vn_if_eq (tgt := 45) dJ18_append_3_21 rfl (by decide) (fun c21 => ?_) (fun c21 => ?_)
    · exact absurd c21 (by decide)
    · refine v_aload_n (i := 0) dJ18_append_3_24 rfl rfl ?_
      refine go_get3 h KJ19 0 (by decide) rfl (e) s0 q1474 dJ18_append_3_25 ?_
      refine v_aload_n (i := 0) dJ18_append_3_28 rfl rfl ?_
      refine v_dup dJ18_append_3_29 rfl ?_
      refine go_get0 h KJ19 3 (by decide) rfl (cs.length) s3 q1477 dJ18_append_3_30 ?_
      refine v_dup_x1 dJ18_append_3_33 rfl rfl ?_
      refine v_iconst (v := nI 1) dJ18_append_3_34 k_iconst_1 ?_
      refine vn_iadd dJ18_append_3_35 ?_
      refine go_put0e h KJ19 3 (by decide) rfl q1477 rfl rfl rfl dJ18_append_3_36 (fun η h hk hx => ?_)
      refine v_iload_n (i := 1) dJ18_append_3_39 rfl rfl ?_
      refine v_i2b dJ18_append_3_40 rfl ?_
      refine v_top (x' := nI c) (i2b_e hcc) ?_
      have he := (hx e hne).trans he
      refine v_bast he (vp_in_nI (by omega) (by omega)) (nwB hcc).1 dJ18_append_3_41 ?_
      rw [nI_clamp (by omega)]
      refine v_goto (tgt := 75) dJ18_append_3_42 rfl ?_
      refine v_aload_n (i := 0) dJ18_append_3_75 rfl rfl ?_
      exact v_aret rfl (Or.inl ⟨_, rfl⟩) dJ18_append_3_76 (by
        refine ⟨_, rfl, rfl, ⟨ad, _, e, _, h.ua he (by decide), s0, s1, (by rw [List.length_append]; rfl), (by rw [List.length_append]; show cs.length + 1 ≤ _; omega), hc, up_s, fun i hi => ?_, fun x hx => ?_, fun i => ?_⟩, (h0.tr hk).tr (Kp.pt he ⟨Nat.le_refl _, Nat.lt_succ_self _⟩)⟩
        · rw [List.length_append] at hi
          have hi : i < cs.length + 1 := hi
          unfold upd
          by_cases z : i = cs.length
          · rw [if_pos z, z]; simp
          · rw [if_neg z, hf i (by omega), List.getD_eq_getElem?_getD, List.getD_eq_getElem?_getD, List.getElem?_append_left (by omega)]
        · rcases List.mem_append.mp hx with z | z
          · exact hcs x z
          · rw [List.mem_singleton.mp z]; exact hcc
        · unfold upd
          split
          · exact (nwB hcc).2
          · exact hfb i)
