set_option maxRecDepth 100000
/-- a byte with its sign -/
def sxb (c : Nat) : Int32 := (nI c).toInt8.toInt32
theorem sxb_and {c : Nat} (h : c < 256) : sxb c &&& 255 = nI c := (by decide +kernel : ∀ c, c < 256 → sxb c &&& 255 = nI c) c h
/-- a reader over a tape -/
def RDr (η : AH) (tr r f tf : Nat) (adr adf : Nat → Nat) (ρ φ : MS) (tp : Nat → Nat) : Prop := GO scX9 η (some tr) r adr ρ ∧ gN ρ 7 = f + 1 ∧ GO scX1 η (some tf) f adf φ ∧ (∀ i, i < 700 → gB φ 1 i = sxb (tp i) ∧ tp i < 256) ∧ gN ρ 0 ≤ 700 ∧ gN ρ 2 ≤ gN ρ 0
theorem RDr.rcv {η : AH} {tr r f tf : Nat} {adr adf : Nat → Nat} {ρ φ : MS} {tp : Nat → Nat} (h : RDr η tr r f tf adr adf ρ φ tp) : ∃ z : Option Nat × (Nat → Value), η r = some (z.1, ob 11 z.2) := h.1.rcv
/-- the byte ahead as a code: 0 none -/
def hrN (tp : Nat → Nat) (n i : Nat) : Nat := if i < n then tp i + 1 else 0
theorem cR9_here {G : Gl} {η0 : AH} {tr r f tf : Nat} {adr adf : Nat → Nat} {ρ φ : MS} {tp : Nat → Nat} (h : RDr η0 tr r f tf adr adf ρ φ tp) : Ct G yX9_here cX9_here 1 (some .int) 0 (0) (0) [.ref r] η0 (re (some (.int (oI (hrN tp (gN ρ 0) (gN ρ 2))))) η0) := by
  refine Ct.start rfl rfl (Nat.le_of_ble_eq_true rfl) (fun Γ => ?_)
  obtain ⟨hR, r7, hF, htp, hsz, hat⟩ := h
  refine v_aload_n (i := 0) dX9_here_0 rfl rfl ?_
  refine go_get0 hR KX9 2 (by decide) rfl (gN ρ 2) rfl q1128 dX9_here_1 ?_
  refine v_aload_n (i := 0) dX9_here_4 rfl rfl ?_
  refine go_get0 hR KX9 0 (by decide) rfl (gN ρ 0) rfl q1126 dX9_here_5 ?_
  refine vn_icmp_ge (tgt := 30) dX9_here_8 rfl (by omega) (by omega) (fun c8 => ?_) (fun c8 => ?_)
  · refine v_iconst (v := -1) dX9_here_30 k_iconst_m1 ?_
    exact v_iret rfl dX9_here_31 ⟨by unfold hrN; rw [if_neg (by omega)]; rfl, rfl⟩
  · refine v_aload_n (i := 0) dX9_here_11 rfl rfl ?_
    refine go_get3 hR KX9 7 (by decide) rfl (f) r7 q1134 dX9_here_12 ?_
    refine go_getAN hF KX1 1 (by decide) (by decide) q556 dX9_here_15 ?_
    refine v_aload_n (i := 0) dX9_here_18 rfl rfl ?_
    refine go_get0 hR KX9 2 (by decide) rfl (gN ρ 2) rfl q1128 dX9_here_19 ?_
    refine go_ld13 hF 1 (by decide) rfl (show _ < 700 from (by omega)) (by decide) _ ((htp _ (by omega)).1) dX9_here_22 ?_
    refine v_sipush (v := nI 255) dX9_here_23 k_sipush_255 ?_
    refine v_iand dX9_here_26 ?_
    refine v_top (x' := nI (tp (gN ρ 2))) (sxb_and (htp _ (by omega)).2) ?_
    refine v_goto (tgt := 31) dX9_here_27 rfl ?_
    exact v_iret rfl dX9_here_31 ⟨by unfold hrN; rw [if_pos (by omega)]; rfl, rfl⟩
theorem oI_in {c a b : Nat} (hc : c < 1000) (ha : a < 1000) (hb : b < 1000) : (if nI a ≤ oI c ∧ oI c ≤ nI b then nI 1 else nI 0) = nI (if a < c ∧ c ≤ b + 1 then 1 else 0) := by
  have h1 : nI a ≤ oI c ↔ a < c := by rw [i_le, nI_toInt (by omega), oI_toInt (by omega)]; omega
  have h2 : oI c ≤ nI b ↔ c ≤ b + 1 := by rw [i_le, nI_toInt (by omega), oI_toInt (by omega)]; omega
  by_cases q : a < c ∧ c ≤ b + 1
  · rw [if_pos q, if_pos ⟨h1.mpr q.1, h2.mpr q.2⟩]
  · rw [if_neg q, if_neg (fun z => q ⟨h1.mp z.1, h2.mp z.2⟩)]
theorem RDr.hr {η : AH} {tr r f tf : Nat} {adr adf : Nat → Nat} {ρ φ : MS} {tp : Nat → Nat} (h : RDr η tr r f tf adr adf ρ φ tp) (i : Nat) : hrN tp (gN ρ 0) i ≤ 256 := by
  obtain ⟨-, -, -, h4, h5, -⟩ := h
  unfold hrN
  split
  · have := (h4 i (by omega)).2; omega
  · omega
theorem cR9_isLetter {G : Gl} {η0 : AH} {tr r f tf : Nat} {adr adf : Nat → Nat} {ρ φ : MS} {tp : Nat → Nat} (h : RDr η0 tr r f tf adr adf ρ φ tp) : Ct G yX9_isLetter cX9_isLetter 1 (some .boolean) 1 (0) (0) [.ref r] η0 (re (some (.int (nI (if 97 < hrN tp (gN ρ 0) (gN ρ 2) ∧ hrN tp (gN ρ 0) (gN ρ 2) ≤ 123 then 1 else 0)))) η0) := by
  refine Ct.start rfl rfl (Nat.le_of_ble_eq_true rfl) (fun Γ => ?_)
  have hh := h.hr (gN ρ 2)
  refine v_aload_n (i := 0) dX9_isLetter_0 rfl rfl ?_
  refine v_callVe (cR9_here h) (lw_V q1160 q1162 qs22 q141 q1163) iX9_here rfl KX9 h.rcv rfl rfl (by decide) (by decide) (Nat.le_of_ble_eq_true rfl) (Nat.le_refl _) (Nat.le_refl _) dX9_isLetter_1 (kr_ei ?_) kx_e
  refine v_bipush (v := nI 97) dX9_isLetter_4 k_bipush_97 ?_
  refine v_bipush (v := nI 122) dX9_isLetter_6 k_bipush_122 ?_
  refine v_callSN (cX_in (oI (hrN tp (gN ρ 0) (gN ρ 2))) (nI 97) (nI 122)) (lw_meth q735) q119 q1168 q734 iX1_in rfl rfl (by decide) (by decide) (Nat.le_of_ble_eq_true rfl) (Nat.le_refl _) (Nat.le_refl _) dX9_isLetter_8 (kr_ei ?_) kx_e
  refine v_top (oI_in (by omega) (by decide) (by decide)) ?_
  exact v_zret rfl (by split <;> rfl) dX9_isLetter_11 ⟨rfl, rfl⟩
theorem cR9_isDigit {G : Gl} {η0 : AH} {tr r f tf : Nat} {adr adf : Nat → Nat} {ρ φ : MS} {tp : Nat → Nat} (h : RDr η0 tr r f tf adr adf ρ φ tp) : Ct G yX9_isDigit cX9_isDigit 1 (some .boolean) 1 (0) (0) [.ref r] η0 (re (some (.int (nI (if 48 < hrN tp (gN ρ 0) (gN ρ 2) ∧ hrN tp (gN ρ 0) (gN ρ 2) ≤ 58 then 1 else 0)))) η0) := by
  refine Ct.start rfl rfl (Nat.le_of_ble_eq_true rfl) (fun Γ => ?_)
  have hh := h.hr (gN ρ 2)
  refine v_aload_n (i := 0) dX9_isDigit_0 rfl rfl ?_
  refine v_callVe (cR9_here h) (lw_V q1160 q1162 qs22 q141 q1163) iX9_here rfl KX9 h.rcv rfl rfl (by decide) (by decide) (Nat.le_of_ble_eq_true rfl) (Nat.le_refl _) (Nat.le_refl _) dX9_isDigit_1 (kr_ei ?_) kx_e
  refine v_bipush (v := nI 48) dX9_isDigit_4 k_bipush_48 ?_
  refine v_bipush (v := nI 57) dX9_isDigit_6 k_bipush_57 ?_
  refine v_callSN (cX_in (oI (hrN tp (gN ρ 0) (gN ρ 2))) (nI 48) (nI 57)) (lw_meth q735) q119 q1168 q734 iX1_in rfl rfl (by decide) (by decide) (Nat.le_of_ble_eq_true rfl) (Nat.le_refl _) (Nat.le_refl _) dX9_isDigit_8 (kr_ei ?_) kx_e
  refine v_top (oI_in (by omega) (by decide) (by decide)) ?_
  exact v_zret rfl (by split <;> rfl) dX9_isDigit_11 ⟨rfl, rfl⟩
theorem sxb_i {x : Nat} (h : x < 256) : (sxb x).toInt = if x < 128 then (x : Int) else (x : Int) - 256 := (by decide +kernel : ∀ x, x < 256 → (sxb x).toInt = if x < 128 then (x : Int) else (x : Int) - 256) x h
theorem sxb_eq {x c : Nat} (h : x < 256) (hc : c < 128) : sxb x = nI c ↔ x = c := by
  rw [i_eq, sxb_i h, nI_toInt (by omega)]
  split <;> omega
theorem cR9_isSign {G : Gl} {η0 : AH} {tr r f tf : Nat} {adr adf : Nat → Nat} {ρ φ : MS} {tp : Nat → Nat} (h : RDr η0 tr r f tf adr adf ρ φ tp) (ht : gN ρ 3 < 5) (hb : gN ρ 3 = 3 → gN ρ 4 < 700) {c : Nat} (hc : c < 128) : Ct G yX9_isSign cX9_isSign 2 (some .boolean) 0 (0) (0) [.ref r, .int (nI c)] η0 (re (some (.int (nI (if gN ρ 3 = 3 ∧ tp (gN ρ 4) = c then 1 else 0)))) η0) := by
  refine Ct.start rfl rfl (Nat.le_of_ble_eq_true rfl) (fun Γ => ?_)
  obtain ⟨hR, r7, hF, htp, hsz, hat⟩ := h
  refine v_aload_n (i := 0) dX9_isSign_0 rfl rfl ?_
  refine go_get0 hR KX9 3 (by decide) rfl (gN ρ 3) rfl q1129 dX9_isSign_1 ?_
  refine v_iconst (v := nI 3) dX9_isSign_4 k_iconst_3 ?_
  refine vn_icmp_ne (tgt := 28) dX9_isSign_5 rfl (by omega) (by decide) (fun c5 => ?_) (fun c5 => ?_)
  · refine v_iconst (v := nI 0) dX9_isSign_28 k_iconst_0 ?_
    exact v_zret rfl rfl dX9_isSign_29 ⟨by rw [if_neg (fun z => c5 z.1)], rfl⟩
  · refine v_aload_n (i := 0) dX9_isSign_8 rfl rfl ?_
    refine go_get3 hR KX9 7 (by decide) rfl (f) r7 q1134 dX9_isSign_9 ?_
    refine go_getAN hF KX1 1 (by decide) (by decide) q556 dX9_isSign_12 ?_
    refine v_aload_n (i := 0) dX9_isSign_15 rfl rfl ?_
    refine go_get0 hR KX9 4 (by decide) rfl (gN ρ 4) rfl q1130 dX9_isSign_16 ?_
    refine go_ld13 hF 1 (by decide) rfl (show _ < 700 from (hb c5)) (by decide) _ ((htp _ (hb c5)).1) dX9_isSign_19 ?_
    refine v_iload_n (i := 1) dX9_isSign_20 rfl rfl ?_
    refine v_icmp_ne (tgt := 28) dX9_isSign_21 rfl (fun c21 => ?_) (fun c21 => ?_)
    · refine v_iconst (v := nI 0) dX9_isSign_28 k_iconst_0 ?_
      exact v_zret rfl rfl dX9_isSign_29 ⟨by rw [if_neg (fun z => c21 ((sxb_eq (htp _ (hb c5)).2 hc).mpr z.2))], rfl⟩
    · refine v_iconst (v := nI 1) dX9_isSign_24 k_iconst_1 ?_
      refine v_goto (tgt := 29) dX9_isSign_25 rfl ?_
      exact v_zret rfl rfl dX9_isSign_29 ⟨by rw [if_pos ⟨c5, (sxb_eq (htp _ (hb c5)).2 hc).mp c21⟩], rfl⟩
theorem cR9_isName {G : Gl} {η0 : AH} {tr r f tf : Nat} {adr adf : Nat → Nat} {ρ φ : MS} {tp : Nat → Nat} (h : RDr η0 tr r f tf adr adf ρ φ tp) (ht : gN ρ 3 < 5) (hb : gN ρ 4 ≤ gN ρ 5 ∧ gN ρ 5 ≤ 700) : Ct G yX9_isName cX9_isName 1 (some .boolean) 0 (0) (0) [.ref r] η0 (re (some (.int (nI (if gN ρ 3 = 1 ∧ gN ρ 5 - gN ρ 4 = 1 then 1 else 0)))) η0) := by
  refine Ct.start rfl rfl (Nat.le_of_ble_eq_true rfl) (fun Γ => ?_)
  obtain ⟨hR, r7, hF, htp, hsz, hat⟩ := h
  refine v_aload_n (i := 0) dX9_isName_0 rfl rfl ?_
  refine go_get0 hR KX9 3 (by decide) rfl (gN ρ 3) rfl q1129 dX9_isName_1 ?_
  refine v_iconst (v := nI 1) dX9_isName_4 k_iconst_1 ?_
  refine vn_icmp_ne (tgt := 25) dX9_isName_5 rfl (by omega) (by decide) (fun c5 => ?_) (fun c5 => ?_)
  · refine v_iconst (v := nI 0) dX9_isName_25 k_iconst_0 ?_
    exact v_zret rfl rfl dX9_isName_26 ⟨by rw [if_neg (fun z => c5 z.1)], rfl⟩
  · refine v_aload_n (i := 0) dX9_isName_8 rfl rfl ?_
    refine go_get0 hR KX9 5 (by decide) rfl (gN ρ 5) rfl q1132 dX9_isName_9 ?_
    refine v_aload_n (i := 0) dX9_isName_12 rfl rfl ?_
    refine go_get0 hR KX9 4 (by decide) rfl (gN ρ 4) rfl q1130 dX9_isName_13 ?_
    refine vn_isub (by omega) dX9_isName_16 ?_
    refine v_iconst (v := nI 1) dX9_isName_17 k_iconst_1 ?_
    refine vn_icmp_ne (tgt := 25) dX9_isName_18 rfl (by omega) (by decide) (fun c18 => ?_) (fun c18 => ?_)
    · refine v_iconst (v := nI 0) dX9_isName_25 k_iconst_0 ?_
      exact v_zret rfl rfl dX9_isName_26 ⟨by rw [if_neg (fun z => c18 z.2)], rfl⟩
    · refine v_iconst (v := nI 1) dX9_isName_21 k_iconst_1 ?_
      refine v_goto (tgt := 26) dX9_isName_22 rfl ?_
      exact v_zret rfl rfl dX9_isName_26 ⟨by rw [if_pos ⟨c5, c18⟩], rfl⟩
