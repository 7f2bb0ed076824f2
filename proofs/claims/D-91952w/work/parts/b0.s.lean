set_option maxRecDepth 100000
/-- a text of chars below 128, by its bytes -/
def STx (η : AH) (q n : Nat) (f : Nat → Nat) : Prop := ∃ (o : Option Nat) (F : Nat → Value) (e : Nat) (o2 : Option Nat) (g : Nat → Int32), η q = some (o, ob 6 F) ∧ F 0 = .ref e ∧ F 1 = .int 0 ∧ η e = some (o2, aB n g) ∧ n < 1000 ∧ ∀ i, i < n → g i = nI (f i) ∧ f i < 128
theorem STx.rcv {η : AH} {q n : Nat} {f : Nat → Nat} (h : STx η q n f) : ∃ z : Option Nat × (Nat → Value), η q = some (z.1, ob 6 z.2) := by
  obtain ⟨o, F, e, o2, g, h1, -⟩ := h
  exact ⟨(o, F), h1⟩
theorem cJ_stL1 {G : Gl} {η0 : AH} {q n : Nat} {f : Nat → Nat} (h : STx η0 q n f) : Ct G yJ8_isLatin1 cJ8_isLatin1 1 (some .boolean) 0 (0) (0) [.ref q] η0 (re (some (.int (nI 1))) η0) := by
  refine Ct.start rfl rfl (Nat.le_of_ble_eq_true rfl) (fun Γ => ?_)
  obtain ⟨os, F, e, o2, g, hq, hf0, hf1, he, hn, hg⟩ := h
  refine v_gets 0 rfl q1187 rfl dJ8_isLatin1_0 ?_
  refine v_top (x' := nI 1) rfl ?_
  refine vn_if_eq (tgt := 17) dJ8_isLatin1_3 rfl (by decide) (fun c3 => ?_) (fun c3 => ?_)
  · exact absurd c3 (by decide)
  · refine v_aload_n (i := 0) dJ8_isLatin1_6 rfl rfl ?_
    refine v_getW (v := .int (nI 0)) hq KJ8 1 (by decide) q1627 hf1 rfl dJ8_isLatin1_7 ?_
    refine vn_if_ne (tgt := 17) dJ8_isLatin1_10 rfl (by decide) (fun c10 => ?_) (fun c10 => ?_)
    · exact absurd rfl c10
    · refine v_iconst (v := nI 1) dJ8_isLatin1_13 k_iconst_1 ?_
      refine v_goto (tgt := 18) dJ8_isLatin1_14 rfl ?_
      exact v_zret rfl rfl dJ8_isLatin1_18 ⟨rfl, rfl⟩
theorem cJ_stCo {G : Gl} {η0 : AH} {q n : Nat} {f : Nat → Nat} (h : STx η0 q n f) : Ct G yJ8_coder cJ8_coder 1 (some .byte) 0 (0) (0) [.ref q] η0 (re (some (.int (nI 0))) η0) := by
  refine Ct.start rfl rfl (Nat.le_of_ble_eq_true rfl) (fun Γ => ?_)
  obtain ⟨os, F, e, o2, g, hq, hf0, hf1, he, hn, hg⟩ := h
  refine v_gets 0 rfl q1187 rfl dJ8_coder_0 ?_
  refine v_top (x' := nI 1) rfl ?_
  refine vn_if_eq (tgt := 13) dJ8_coder_3 rfl (by decide) (fun c3 => ?_) (fun c3 => ?_)
  · exact absurd c3 (by decide)
  · refine v_aload_n (i := 0) dJ8_coder_6 rfl rfl ?_
    refine v_getW (v := .int (nI 0)) hq KJ8 1 (by decide) q1627 hf1 rfl dJ8_coder_7 ?_
    refine v_goto (tgt := 14) dJ8_coder_10 rfl ?_
    exact v_zret rfl rfl dJ8_coder_14 ⟨rfl, rfl⟩
theorem cJ_stLen {G : Gl} {η0 : AH} {q n : Nat} {f : Nat → Nat} (h : STx η0 q n f) : Ct G yJ8_length cJ8_length 1 (some .int) 1 (0) (0) [.ref q] η0 (re (some (.int (nI n))) η0) := by
  refine Ct.start rfl rfl (Nat.le_of_ble_eq_true rfl) (fun Γ => ?_)
  have h_ := h
  obtain ⟨os, F, e, o2, g, hq, hf0, hf1, he, hn, hg⟩ := h
  refine v_aload_n (i := 0) dJ8_length_0 rfl rfl ?_
  refine v_getW (v := .ref e) hq KJ8 0 (by decide) q1626 hf0 rfl dJ8_length_1 ?_
  refine v_alen he (by decide) dJ8_length_4 ?_
  refine v_aload_n (i := 0) dJ8_length_5 rfl rfl ?_
  refine v_callVe (cJ_stCo h_) (lw_V q1193 q1194 q1195 q131 q1196) iJ8_coder rfl KJ8 h_.rcv rfl rfl (by decide) (by decide) (Nat.le_of_ble_eq_true rfl) (Nat.le_refl _) (Nat.le_refl _) dJ8_length_6 (kr_ei ?_) kx_e
  refine vn_ishr (by omega) (by decide) dJ8_length_9 ?_
  exact v_iret rfl dJ8_length_10 ⟨by rw [show n / 2 ^ 0 = n from Nat.div_one _], rfl⟩
theorem cJ_l1At {G : Gl} {η0 : AH} {e n : Nat} {o2 : Option Nat} {g : Nat → Int32} {f : Nat → Nat} (he : η0 e = some (o2, aB n g)) (hn : n < 1000) (hg : ∀ i, i < n → g i = nI (f i) ∧ f i < 128) {i : Nat} (hi : i < n) : Ct G yJ14_charAt cJ14_charAt 2 (some .char) 2 (0) (0) [.ref e, .int (nI i)] η0 (re (some (.int (nI (f i)))) η0) := by
  refine Ct.start rfl rfl (Nat.le_of_ble_eq_true rfl) (fun Γ => ?_)
  refine v_iload_n (i := 1) dJ14_charAt_0 rfl rfl ?_
  refine v_aload_n (i := 0) dJ14_charAt_1 rfl rfl ?_
  refine v_alen he (by decide) dJ14_charAt_2 ?_
  refine v_callS (cJ_chkS hi (by omega)) (lw_S q1257 q474 q131 q475) iJ8_checkIndex rfl rfl (by decide) (by decide) (Nat.le_of_ble_eq_true rfl) (Nat.le_refl _) (Nat.le_refl _) dJ14_charAt_3 (kr_ev ?_) kx_e
  refine v_aload_n (i := 0) dJ14_charAt_6 rfl rfl ?_
  refine v_iload_n (i := 1) dJ14_charAt_7 rfl rfl ?_
  refine v_bald he (vp_in_nI (by omega) (by omega)) dJ14_charAt_8 ?_
  rw [nI_clamp (by omega), (hg i hi).1]
  refine v_sipush (v := nI 255) dJ14_charAt_9 k_sipush_255 ?_
  refine v_iand dJ14_charAt_12 ?_
  refine v_top (x' := nI (f i)) (c128 (hg i hi).2) ?_
  refine v_i2c dJ14_charAt_13 rfl ?_
  refine v_top (x' := nI (f i)) (i2c_128 (hg i hi).2) ?_
  exact v_zret rfl (nwC (hg i hi).2) dJ14_charAt_14 ⟨rfl, rfl⟩
theorem cJ_stAt {G : Gl} {η0 : AH} {q n : Nat} {f : Nat → Nat} (h : STx η0 q n f) {i : Nat} (hi : i < n) : Ct G yJ8_charAt cJ8_charAt 2 (some .char) 3 (0) (0) [.ref q, .int (nI i)] η0 (re (some (.int (nI (f i)))) η0) := by
  refine Ct.start rfl rfl (Nat.le_of_ble_eq_true rfl) (fun Γ => ?_)
  have h_ := h
  obtain ⟨os, F, e, o2, g, hq, hf0, hf1, he, hn, hg⟩ := h
  refine v_aload_n (i := 0) dJ8_charAt_0 rfl rfl ?_
  refine v_callVe (cJ_stL1 h_) (lw_V q1183 q1184 q1185 q131 q1186) iJ8_isLatin1 rfl KJ8 h_.rcv rfl rfl (by decide) (by decide) (Nat.le_of_ble_eq_true rfl) (Nat.le_refl _) (Nat.le_refl _) dJ8_charAt_1 (kr_ei ?_) kx_e
  refine vn_if_eq (tgt := 16) dJ8_charAt_4 rfl (by decide) (fun c4 => ?_) (fun c4 => ?_)
  · exact absurd c4 (by decide)
  · refine v_aload_n (i := 0) dJ8_charAt_7 rfl rfl ?_
    refine v_getW (v := .ref e) hq KJ8 0 (by decide) q1626 hf0 rfl dJ8_charAt_8 ?_
    refine v_iload_n (i := 1) dJ8_charAt_11 rfl rfl ?_
    refine v_callS (cJ_l1At he hn hg hi) (lw_S q1254 q1255 q142 q1256) iJ14_charAt rfl rfl (by decide) (by decide) (Nat.le_of_ble_eq_true rfl) (Nat.le_refl _) (Nat.le_refl _) dJ8_charAt_12 (kr_ei ?_) kx_e
    exact v_zret rfl (nwC (hg i hi).2) dJ8_charAt_15 ⟨rfl, rfl⟩
