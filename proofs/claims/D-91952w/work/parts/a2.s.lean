set_option maxRecDepth 100000
/-- a StringBuilder, opened -/
def SBi (η : AH) (t q : Nat) (ad : Nat → Nat) (σ : MS) (e : Nat) (f : Nat → Int32) (cs : List Nat) (cap : Nat) : Prop := GO scJ19 η (some t) q ad σ ∧ gN σ 0 = e + 1 ∧ gN σ 1 = 0 ∧ gN σ 3 = cs.length ∧ cs.length ≤ cap ∧ cap ≤ 20000 ∧ η e = some (some t, aB cap f) ∧ (∀ i, i < cs.length → f i = nI (cs.getD i 0)) ∧ (∀ c ∈ cs, c < 128) ∧ ∀ i, fits .byte (.int (f i)) = true
theorem nI_subI {a b : Nat} (ha : a < 2147483648) (hb : b < 2147483648) : (nI a - nI b).toInt = (a : Int) - b := by
  rw [Int32.toInt_sub, nI_toInt ha, nI_toInt hb]
  exact Int.bmod_eq_of_le (by omega) (by omega)
theorem nI_sub_le {a b : Nat} (h : a ≤ b) (hb : b < 2147483648) : nI a - nI b ≤ 0 := by
  rw [i_le, nI_subI (by omega) hb]
  show (a : Int) - b ≤ 0
  omega
def cpB (n cap : Nat) : Nat := if n < cap then cap else 2 * cap + 2
def cbC (n cap : Nat) : Nat := if n < cap then 0 else 1
def cbS (n cap : Nat) : Nat := if n < cap then 0 else 2 * cap + 2
theorem cJ_isL1 {G : Gl} {η0 : AH} {o : Option Nat} {q : Nat} {ad : Nat → Nat} {σ : MS} (h : GO scJ19 η0 o q ad σ) (s1 : gN σ 1 = 0) : Ct G yJ18_isLatin1 cJ18_isLatin1 1 (some .boolean) 0 (0) (0) [.ref q] η0 (re (some (.int (nI 1))) η0) := by
  refine Ct.start rfl rfl (Nat.le_of_ble_eq_true rfl) (fun Γ => ?_)
  refine v_gets 0 rfl q1466 rfl dJ18_isLatin1_0 ?_
  refine v_top (x' := nI 1) rfl ?_
  refine vn_if_eq (tgt := 17) dJ18_isLatin1_3 rfl (by decide) (fun c3 => ?_) (fun c3 => ?_)
  · exact absurd c3 (by decide)
  · refine v_aload_n (i := 0) dJ18_isLatin1_6 rfl rfl ?_
    refine go_get0 h KJ19 1 (by decide) rfl (0) s1 q1475 dJ18_isLatin1_7 ?_
    refine vn_if_ne (tgt := 17) dJ18_isLatin1_10 rfl (by decide) (fun c10 => ?_) (fun c10 => ?_)
    · exact absurd rfl c10
    · refine v_iconst (v := nI 1) dJ18_isLatin1_13 k_iconst_1 ?_
      refine v_goto (tgt := 18) dJ18_isLatin1_14 rfl ?_
      exact v_zret rfl rfl dJ18_isLatin1_18 ⟨rfl, rfl⟩
theorem cJ_newCap {G : Gl} {η0 : AH} {o oe : Option Nat} {q e cap : Nat} {f : Nat → Int32} {ad : Nat → Nat} {σ : MS} (h : GO scJ19 η0 o q ad σ) (s0 : gN σ 0 = e + 1) (s1 : gN σ 1 = 0) (he : η0 e = some (oe, aB cap f)) (hc : cap ≤ 9000) : Ct G yJ18_newCapacity cJ18_newCapacity 6 (some .int) 2 (0) (0) [.ref q, .int (nI (cap + 1))] η0 (re (some (.int (nI (2 * cap + 2)))) η0) := by
  refine Ct.start rfl rfl (Nat.le_of_ble_eq_true rfl) (fun Γ => ?_)
  have e0 : (cap + 1) * 2 ^ 0 = cap + 1 := Nat.mul_one _
  have hmx : mxL ((cap + 1) * 2 ^ 0 - cap) (cap + 2 * 2 ^ 0) = cap + 2 := by
    rw [e0, show cap + 1 - cap = 1 by omega, show cap + 2 * 2 ^ 0 = cap + 2 from rfl]
    unfold mxL
    rw [if_pos (by omega)]
  refine v_aload_n (i := 0) dJ18_newCapacity_0 rfl rfl ?_
  refine go_get3 h KJ19 0 (by decide) rfl (e) s0 q1474 dJ18_newCapacity_1 ?_
  refine v_alen he (by decide) dJ18_newCapacity_4 ?_
  refine v_istore_n (i := 2) dJ18_newCapacity_5 rfl (by decide) rfl ?_
  refine v_iload_n (i := 1) dJ18_newCapacity_6 rfl rfl ?_
  refine v_aload_n (i := 0) dJ18_newCapacity_7 rfl rfl ?_
  refine go_get0 h KJ19 1 (by decide) rfl (0) s1 q1475 dJ18_newCapacity_8 ?_
  refine vn_ishl (by decide) dJ18_newCapacity_11 ?_
  refine v_istore_n (i := 3) dJ18_newCapacity_12 rfl (by decide) rfl ?_
  refine v_iload_n (i := 3) dJ18_newCapacity_13 rfl rfl ?_
  refine v_iload_n (i := 2) dJ18_newCapacity_14 rfl rfl ?_
  refine vn_isub (by omega) dJ18_newCapacity_15 ?_
  refine v_istore (i := 4) dJ18_newCapacity_16 (by decide) rfl ?_
  refine v_iload_n (i := 2) dJ18_newCapacity_18 rfl rfl ?_
  refine v_iload (i := 4) dJ18_newCapacity_19 rfl ?_
  refine v_iload_n (i := 2) dJ18_newCapacity_21 rfl rfl ?_
  refine v_iconst (v := nI 2) dJ18_newCapacity_22 k_iconst_2 ?_
  refine v_aload_n (i := 0) dJ18_newCapacity_23 rfl rfl ?_
  refine go_get0 h KJ19 1 (by decide) rfl (0) s1 q1475 dJ18_newCapacity_24 ?_
  refine vn_ishl (by decide) dJ18_newCapacity_27 ?_
  refine vn_iadd dJ18_newCapacity_28 ?_
  refine v_callS (cJ_newLen (a := cap) (b := (cap + 1) * 2 ^ 0 - cap) (c := cap + 2 * 2 ^ 0) (by omega) (by omega) (by omega) (by rw [hmx]; omega)) (lw_S q1504 q841 q146 q842) iJ16_newLength rfl rfl (by decide) (by decide) (Nat.le_of_ble_eq_true rfl) (Nat.le_refl _) (Nat.le_refl _) dJ18_newCapacity_29 (kr_ei ?_) kx_e
  refine v_top (x' := nI (2 * cap + 2)) (by rw [hmx, show cap + (cap + 2) = 2 * cap + 2 by omega]) ?_
  refine v_istore (i := 5) dJ18_newCapacity_32 (by decide) rfl ?_
  refine v_iload (i := 5) dJ18_newCapacity_34 rfl ?_
  refine v_ldc (v := nI 2147483647) q1505 dJ18_newCapacity_36 ?_
  refine vn_icmp_ne (tgt := 51) dJ18_newCapacity_38 rfl (by omega) (by omega) (fun c38 => ?_) (fun c38 => ?_)
  · refine v_iload (i := 5) dJ18_newCapacity_51 rfl ?_
    refine v_aload_n (i := 0) dJ18_newCapacity_53 rfl rfl ?_
    refine go_get0 h KJ19 1 (by decide) rfl (0) s1 q1475 dJ18_newCapacity_54 ?_
    refine vn_ishr (by omega) (by decide) dJ18_newCapacity_57 ?_
    exact v_iret rfl dJ18_newCapacity_58 ⟨by rw [show (2 * cap + 2) / 2 ^ 0 = 2 * cap + 2 from Nat.div_one _], rfl⟩
  · omega
