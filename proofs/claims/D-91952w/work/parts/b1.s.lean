set_option maxRecDepth 100000
/-- the word ahead is this text -/
def isW (tp : Nat → Nat) (ρ : MS) (n : Nat) (g : Nat → Nat) : Prop := gN ρ 3 = 1 ∧ gN ρ 5 - gN ρ 4 = n ∧ ∀ k, k < n → g k = tp (gN ρ 4 + k)
theorem cR9_is {G : Gl} {η0 : AH} {tr r f tf : Nat} {adr adf : Nat → Nat} {ρ φ : MS} {tp : Nat → Nat} (h : RDr η0 tr r f tf adr adf ρ φ tp) (ht : gN ρ 3 < 5) (hb : gN ρ 4 ≤ gN ρ 5 ∧ gN ρ 5 ≤ 700) {s n : Nat} {g : Nat → Nat} (hs : STx η0 s n g) : Ct G yX9_is cX9_is 3 (some .boolean) 4 (0) (0) [.ref r, .ref s] η0 (ri fun x η => η = η0 ∧ ((x = nI 1 ∧ isW tp ρ n g) ∨ (x = nI 0 ∧ ¬ isW tp ρ n g))) := by
  refine Ct.start rfl rfl (Nat.le_of_ble_eq_true rfl) (fun Γ => ?_)
  obtain ⟨hR, r7, hF, htp, hsz, hat⟩ := h
  obtain ⟨os, F, e, o2, gb, hq, hf0, hf1, he, hn, hg⟩ := id hs
  have L28 : ∀ (m i : Nat), i + m = n → gN ρ 3 = 1 → gN ρ 5 - gN ρ 4 = n → (∀ k, k < i → g k = tp (gN ρ 4 + k)) → V G Γ yX9_is cX9_is 3 (some .boolean) [] 4 (ri fun x η => η = η0 ∧ ((x = nI 1 ∧ isW tp ρ n g) ∨ (x = nI 0 ∧ ¬ isW tp ρ n g))) (0) (0) (η0) 28 [some (.ref r), some (.ref s), some (.int (nI i))] [] := by
    intro m
    induction m with
    | zero =>
      intro i hi h3 hl hk
      have ei : i = n := by omega
      subst ei
      refine v_iload_n (i := 2) dX9_is_28 rfl rfl ?_
      refine v_aload_n (i := 1) dX9_is_29 rfl rfl ?_
      refine v_callVe (cJ_stLen hs) (lw_V q1249 q1190 q1191 q131 q1192) iJ8_length rfl KJ8 hs.rcv rfl rfl (by decide) (by decide) (Nat.le_of_ble_eq_true rfl) (Nat.le_refl _) (Nat.le_refl _) dX9_is_30 (kr_ei ?_) kx_e
      refine vn_icmp_ge (tgt := 66) dX9_is_33 rfl (by omega) (by omega) (fun c33 => ?_) (fun c33 => ?_)
      · refine v_iconst (v := nI 1) dX9_is_66 k_iconst_1 ?_
        exact v_zret rfl rfl dX9_is_67 ⟨_, rfl, rfl, Or.inl ⟨rfl, h3, hl, hk⟩⟩
      · omega
    | succ m ih =>
      intro i hi h3 hl hk
      have hgi := (hg i (by omega)).2
      have hti := htp (gN ρ 4 + i) (by omega)
      refine v_iload_n (i := 2) dX9_is_28 rfl rfl ?_
      refine v_aload_n (i := 1) dX9_is_29 rfl rfl ?_
      refine v_callVe (cJ_stLen hs) (lw_V q1249 q1190 q1191 q131 q1192) iJ8_length rfl KJ8 hs.rcv rfl rfl (by decide) (by decide) (Nat.le_of_ble_eq_true rfl) (Nat.le_refl _) (Nat.le_refl _) dX9_is_30 (kr_ei ?_) kx_e
      refine vn_icmp_ge (tgt := 66) dX9_is_33 rfl (by omega) (by omega) (fun c33 => ?_) (fun c33 => ?_)
      · omega
      · refine v_aload_n (i := 1) dX9_is_36 rfl rfl ?_
        refine v_iload_n (i := 2) dX9_is_37 rfl rfl ?_
        refine v_callVe (cJ_stAt hs (i := i) (by omega)) (lw_V q1250 q1251 q1252 q131 q1253) iJ8_charAt rfl KJ8 hs.rcv rfl rfl (by decide) (by decide) (Nat.le_of_ble_eq_true rfl) (Nat.le_refl _) (Nat.le_refl _) dX9_is_38 (kr_ei ?_) kx_e
        refine v_aload_n (i := 0) dX9_is_41 rfl rfl ?_
        refine go_get3 hR KX9 7 (by decide) rfl (f) r7 q1134 dX9_is_42 ?_
        refine go_getAN hF KX1 1 (by decide) (by decide) q556 dX9_is_45 ?_
        refine v_aload_n (i := 0) dX9_is_48 rfl rfl ?_
        refine go_get0 hR KX9 4 (by decide) rfl (gN ρ 4) rfl q1130 dX9_is_49 ?_
        refine v_iload_n (i := 2) dX9_is_52 rfl rfl ?_
        refine vn_iadd dX9_is_53 ?_
        refine go_ld13 hF 1 (by decide) rfl (show _ < 700 from (by omega)) (by decide) _ hti.1 dX9_is_54 ?_
        refine v_icmp_eq (tgt := 60) dX9_is_55 rfl (fun c55 => ?_) (fun c55 => ?_)
        · refine vn_iinc 1 dX9_is_60 rfl k_iconst_1 (by decide) rfl ?_
          refine v_goto (tgt := 28) dX9_is_63 rfl ?_
          exact ih (i + 1) (by omega) h3 hl (fun k hk2 => by
            by_cases c : k = i
            · rw [c]; exact ((sxb_eq hti.2 hgi).mp c55.symm).symm
            · exact hk k (by omega))
        · refine v_iconst (v := nI 0) dX9_is_58 k_iconst_0 ?_
          exact v_zret rfl rfl dX9_is_59 ⟨_, rfl, rfl, Or.inr ⟨rfl, fun z => c55 ((sxb_eq hti.2 hgi).mpr (z.2.2 i (by omega)).symm).symm⟩⟩
  refine v_aload_n (i := 0) dX9_is_0 rfl rfl ?_
  refine go_get0 hR KX9 3 (by decide) rfl (gN ρ 3) rfl q1129 dX9_is_1 ?_
  refine v_iconst (v := nI 1) dX9_is_4 k_iconst_1 ?_
  refine vn_icmp_ne (tgt := 24) dX9_is_5 rfl (by omega) (by decide) (fun c5 => ?_) (fun c5 => ?_)
  · refine v_iconst (v := nI 0) dX9_is_24 k_iconst_0 ?_
    exact v_zret rfl rfl dX9_is_25 ⟨_, rfl, rfl, Or.inr ⟨rfl, fun z => c5 z.1⟩⟩
  · refine v_aload_n (i := 1) dX9_is_8 rfl rfl ?_
    refine v_callVe (cJ_stLen hs) (lw_V q1249 q1190 q1191 q131 q1192) iJ8_length rfl KJ8 hs.rcv rfl rfl (by decide) (by decide) (Nat.le_of_ble_eq_true rfl) (Nat.le_refl _) (Nat.le_refl _) dX9_is_9 (kr_ei ?_) kx_e
    refine v_aload_n (i := 0) dX9_is_12 rfl rfl ?_
    refine go_get0 hR KX9 5 (by decide) rfl (gN ρ 5) rfl q1132 dX9_is_13 ?_
    refine v_aload_n (i := 0) dX9_is_16 rfl rfl ?_
    refine go_get0 hR KX9 4 (by decide) rfl (gN ρ 4) rfl q1130 dX9_is_17 ?_
    refine vn_isub (by omega) dX9_is_20 ?_
    refine vn_icmp_eq (tgt := 26) dX9_is_21 rfl (by omega) (by omega) (fun c21 => ?_) (fun c21 => ?_)
    · refine v_iconst (v := nI 0) dX9_is_26 k_iconst_0 ?_
      refine v_istore_n (i := 2) dX9_is_27 rfl (by decide) rfl ?_
      exact L28 n 0 (by omega) c5 c21.symm (fun k hk => absurd hk (by omega))
    · refine v_iconst (v := nI 0) dX9_is_24 k_iconst_0 ?_
      exact v_zret rfl rfl dX9_is_25 ⟨_, rfl, rfl, Or.inr ⟨rfl, fun z => c21 z.2.1.symm⟩⟩
