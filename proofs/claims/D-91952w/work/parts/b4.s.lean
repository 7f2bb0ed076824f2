set_option maxRecDepth 100000
theorem cJ_stIx2 {G : Gl} {η0 : AH} {q n : Nat} {f : Nat → Nat} (h : STx η0 q n f) {c k : Nat} (hc : c < 256) (hk : k < n) : Ct G yJ8_indexOf_2 cJ8_indexOf_2 3 (some .int) 2 (0) (0) [.ref q, .int (nI c), .int (nI k)] η0 (re (some (.int (oI (nmF f c (n - k) k)))) η0) := by
  refine Ct.start rfl rfl (Nat.le_of_ble_eq_true rfl) (fun Γ => ?_)
  have h_ := h
  obtain ⟨os, F, e, o2, g, hq, hf0, hf1, he, hn, hg⟩ := h
  refine v_aload_n (i := 0) dJ8_indexOf_2_0 rfl rfl ?_
  refine v_callVe (cJ_stL1 h_) (lw_V q1183 q1184 q1185 q131 q1186) iJ8_isLatin1 rfl KJ8 h_.rcv rfl rfl (by decide) (by decide) (Nat.le_of_ble_eq_true rfl) (Nat.le_refl _) (Nat.le_refl _) dJ8_indexOf_2_1 (kr_ei ?_) kx_e
  refine vn_if_eq (tgt := 23) dJ8_indexOf_2_4 rfl (by decide) (fun c4 => ?_) (fun c4 => ?_)
  · exact absurd c4 (by decide)
  · refine v_aload_n (i := 0) dJ8_indexOf_2_7 rfl rfl ?_
    refine v_getW (v := .ref e) hq KJ8 0 (by decide) q1626 hf0 rfl dJ8_indexOf_2_8 ?_
    refine v_iload_n (i := 1) dJ8_indexOf_2_11 rfl rfl ?_
    refine v_iload_n (i := 2) dJ8_indexOf_2_12 rfl rfl ?_
    refine v_aload_n (i := 0) dJ8_indexOf_2_13 rfl rfl ?_
    refine v_callVe (cJ_stLen h_) (lw_V q1189 q1190 q1191 q131 q1192) iJ8_length rfl KJ8 h_.rcv rfl rfl (by decide) (by decide) (Nat.le_of_ble_eq_true rfl) (Nat.le_refl _) (Nat.le_refl _) dJ8_indexOf_2_14 (kr_ei ?_) kx_e
    refine v_callS (cJ_l1Ix he hn hg hc (by omega) hk) (lw_S q1197 q1198 q142 q1199) iJ14_indexOf rfl rfl (by decide) (by decide) (Nat.le_of_ble_eq_true rfl) (Nat.le_refl _) (Nat.le_refl _) dJ8_indexOf_2_17 (kr_ei ?_) kx_e
    refine v_goto (tgt := 36) dJ8_indexOf_2_20 rfl ?_
    exact v_iret rfl dJ8_indexOf_2_36 ⟨rfl, rfl⟩
theorem cJ_stIx {G : Gl} {η0 : AH} {q n : Nat} {f : Nat → Nat} (h : STx η0 q n f) {c : Nat} (hc : c < 256) (hn0 : 0 < n) : Ct G yJ8_indexOf cJ8_indexOf 2 (some .int) 3 (0) (0) [.ref q, .int (nI c)] η0 (re (some (.int (oI (nmF f c n 0)))) η0) := by
  refine Ct.start rfl rfl (Nat.le_of_ble_eq_true rfl) (fun Γ => ?_)
  refine v_aload_n (i := 0) dJ8_indexOf_0 rfl rfl ?_
  refine v_iload_n (i := 1) dJ8_indexOf_1 rfl rfl ?_
  refine v_iconst (v := nI 0) dJ8_indexOf_2 k_iconst_0 ?_
  refine v_callVe (cJ_stIx2 h hc hn0) (lw_V q1179 q1180 q1181 q131 q1182) iJ8_indexOf_2 rfl KJ8 h.rcv rfl rfl (by decide) (by decide) (Nat.le_of_ble_eq_true rfl) (Nat.le_refl _) (Nat.le_refl _) dJ8_indexOf_3 (kr_ei ?_) kx_e
  exact v_iret rfl dJ8_indexOf_6 ⟨rfl, rfl⟩
