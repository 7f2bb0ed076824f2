/-! ===== the map: what its object holds ===== -/
set_option maxRecDepth 100000
def hsC (c : Nat) : Nat := (c * 31 ^^^ c / 2 ^ 11) % 8192
/-- the map's rows stand for X -/
def MX (τ : Td) (μ : MS) (X : XT) : Prop := gN μ 9 = xn X ∧ gN μ 10 = xe X ∧ SLt hsC (gA μ 3) (gA μ 2) (xn X) ∧ xe X ≤ 40000 ∧ (∀ j, j < xn X → gA μ 2 j = cdT τ (xst X j) ∧ gA μ 4 j = xfar X j ∧ NR τ (xst X j) ∧ xfar X j ≤ j) ∧ ∀ e, e < xe X → gA μ 6 e = xej X e ∧ gA μ 7 e = (xeb X e * 4 + xet X e) * 256 + xes X e ∧ gA μ 8 e = minE τ X e ∧ xej X e < xn X ∧ xeb X e < 2 ∧ xet X e < 4 ∧ xes X e < 256
/-- all but the exploration's own fields stands -/
def MK (μ μ' : MS) : Prop := (∀ k, k ≠ 9 → k ≠ 10 → k ≠ 11 → gN μ' k = gN μ k) ∧ ∀ k, k ≠ 2 → k ≠ 3 → k ≠ 4 → k ≠ 6 → k ≠ 7 → k ≠ 8 → gA μ' k = gA μ k
theorem MK.rf (μ : MS) : MK μ μ := ⟨fun _ _ _ _ => rfl, fun _ _ _ _ _ _ _ => rfl⟩
theorem MK.tr {μ μ1 μ2 : MS} (h : MK μ μ1) (h2 : MK μ1 μ2) : MK μ μ2 := ⟨fun k a b c => (h2.1 k a b c).trans (h.1 k a b c), fun k a b c d e f => (h2.2 k a b c d e f).trans (h.2 k a b c d e f)⟩
theorem MX.ix {τ : Td} {μ : MS} {X : XT} (h : MX τ μ X) {x : Nat} (hx : NR τ x) : ixN (gA μ 2) (cdT τ x) (gN μ 9) = ixN (xst X) x (xn X) := by
  obtain ⟨h1, h2, h3, h4, h5, h6⟩ := h
  rw [h1]
  have hinj := h3.2.2.2.2
  by_cases c : ixN (xst X) x (xn X) < xn X
  · obtain ⟨q1, q2⟩ := ixN_lt c
    refine ixN_of c ?_ hinj
    rw [(h5 _ c).1, q1]
  · have hle := ixN_le (xst X) x (xn X)
    have e : ixN (xst X) x (xn X) = xn X := by omega
    rw [e]
    refine ixN_no fun j hj q => ?_
    rw [(h5 j hj).1] at q
    exact ixN_n e j hj (cdT_inj (h5 j hj).2.2.1 hx q)
theorem MX.spent {τ : Td} {μ : MS} {X : XT} (h : MX τ μ X) (v : Nat) : MX τ (sN μ 11 v) X := h
/-- a crossing more -/
theorem MX.edge {τ : Td} {μ : MS} {X : XT} (h : MX τ μ X) {b to s J : Nat} (he : xe X < 40000) (hJ : J < xn X) (hb : b < 2) (hto : to < 4) (hs : s < 256) : MX τ (sN (sA (sA (sA μ 6 (gN μ 10) J) 7 (gN μ 10) ((b * 4 + to) * 256 + s)) 8 (gN μ 10) (mxN (tA τ 39) s (tN τ 30))) 10 (gN μ 10 + 1)) (xEdge X b to s J) := by
  obtain ⟨h1, h2, h3, h4, h5, h6⟩ := h
  refine ⟨h1, congrArg (· + 1) h2, h3, by show xe X + 1 ≤ 40000; omega, h5, fun e hee => ?_⟩
  have hee : e < xe X + 1 := hee
  show va_up (gA μ 6) (gN μ 10) J e = va_up (xej X) (xe X) J e ∧ va_up (gA μ 7) (gN μ 10) _ e = (va_up (xeb X) (xe X) b e * 4 + va_up (xet X) (xe X) to e) * 256 + va_up (xes X) (xe X) s e ∧ va_up (gA μ 8) (gN μ 10) _ e = mxN (tA τ 39) (va_up (xes X) (xe X) s e) (tN τ 30) ∧ va_up (xej X) (xe X) J e < xn X ∧ va_up (xeb X) (xe X) b e < 2 ∧ va_up (xet X) (xe X) to e < 4 ∧ va_up (xes X) (xe X) s e < 256
  rw [h2]
  by_cases c : e = xe X
  · subst c
    simp only [va_up_e]
    exact ⟨trivial, trivial, trivial, hJ, hb, hto, hs⟩
  · simp only [va_up_n c]
    exact h6 e (by omega)
/-- a state more -/
theorem MX.add {τ : Td} {μ : MS} {X : XT} (h : MX τ μ X) {f y q : Nat} (hn : xn X < 2000) (hy : NR τ y) (hf : f ≤ xn X) (hS : SLt hsC (va_up (gA μ 3) q (gN μ 9 + 1)) (va_up (gA μ 2) (gN μ 9) (cdT τ y)) (gN μ 9 + 1)) : MX τ (sN (sA (sA (sA μ 2 (gN μ 9) (cdT τ y)) 4 (gN μ 9) f) 3 q (gN μ 9 + 1)) 9 (gN μ 9 + 1)) (xAdd X f y) := by
  obtain ⟨h1, h2, h3, h4, h5, h6⟩ := h
  refine ⟨congrArg (· + 1) h1, h2, by rw [h1] at hS ⊢; exact hS, h4, fun j hj => ?_, fun e he => ?_⟩
  · have hj : j < xn X + 1 := hj
    show va_up (gA μ 2) (gN μ 9) (cdT τ y) j = cdT τ (va_up (xst X) (xn X) y j) ∧ va_up (gA μ 4) (gN μ 9) f j = va_up (xfar X) (xn X) f j ∧ NR τ (va_up (xst X) (xn X) y j) ∧ va_up (xfar X) (xn X) f j ≤ j
    rw [h1]
    by_cases c : j = xn X
    · subst c
      simp only [va_up_e]
      exact ⟨trivial, trivial, hy, hf⟩
    · simp only [va_up_n c]
      exact h5 j (by omega)
  · have h6 := h6 e he
    refine ⟨h6.1, h6.2.1, h6.2.2.1, ?_, h6.2.2.2.2⟩
    show xej X e < xn X + 1
    exact Nat.lt_succ_of_lt h6.2.2.2.1
/-! subsets in a row -/
theorem xF_sub {q p : Nat → Bool} {stp : Nat → XT → Option XT} {l : List Nat} {X : XT} (h : ∀ s, q s = true → p s = true) : xF q stp l X = xF q stp (l.filter p) X := by
  rw [xF_filter]
  congr 1
  funext s
  cases hq : q s
  · simp
  · simp [h s hq]
theorem sbL_all {t n : Nat} (ht : t < 2 ^ n) (hn : n ≤ 8) : sbL t = (List.range' 1 (2 ^ n - 1)).filter (fun s => ndf s t == 0) := by
  have h2 : 2 ^ n ≤ 2 ^ 8 := p2_le hn
  have h1 : 0 < 2 ^ n := Nat.two_pow_pos n
  have e : List.range' 1 255 = List.range' 1 (2 ^ n - 1) ++ List.range' (2 ^ n) (256 - 2 ^ n) := by
    have := List.range'_append_1 (s := 1) (m := 2 ^ n - 1) (n := 256 - 2 ^ n)
    rw [show 1 + (2 ^ n - 1) = 2 ^ n by omega] at this
    rw [this]
    congr 1
    omega
  unfold sbL
  rw [e, List.filter_append]
  have e2 : (List.range' (2 ^ n) (256 - 2 ^ n)).filter (fun s => ndf s t == 0) = [] := by
    rw [List.filter_eq_nil_iff]
    intro s hs q
    obtain ⟨i, h3, h4⟩ := List.mem_range'.mp hs
    have := ndf_0 ht (by simpa using q)
    omega
  rw [e2, List.append_nil]
theorem sbL_pos {t s : Nat} (h : s ∈ sbL t) : 0 < s ∧ s < 256 ∧ ndf s t = 0 := by
  obtain ⟨h1, h2⟩ := List.mem_filter.mp h
  obtain ⟨i, h3, h4⟩ := List.mem_range'.mp h1
  exact ⟨by omega, by omega, by simpa using h2⟩
theorem nI_sbF {t : Nat} (ht : t < 256) : nI t &&& -(nI t) = nI (sbF t) := (by decide +kernel : ∀ t, t < 256 → nI t &&& -(nI t) = nI (sbF t)) t ht
theorem and_low {a t : Nat} (ht : t < 256) : a &&& t = a % 256 &&& t := by
  apply Nat.eq_of_testBit_eq
  intro i
  rw [Nat.testBit_and, Nat.testBit_and, show (256 : Nat) = 2 ^ 8 from rfl, Nat.testBit_mod_two_pow]
  by_cases c : i < 8
  · simp [c]
  · have h2 : t.testBit i = false := Nat.testBit_lt_two_pow (Nat.lt_of_lt_of_le ht (p2_le (a := 8) (by omega)))
    simp [h2]
theorem nI_sbN {t s : Nat} (ht : t < 256) (hs : s < 256) : (nI s - nI t) &&& nI t = nI (sbN t s) := by
  have e : nI s - nI t = nI (4294967296 + s - t) := by
    apply i_bv
    rw [Int32.toBitVec_sub, nI_bv, nI_bv, nI_bv]
    apply BitVec.eq_of_toNat_eq
    rw [BitVec.toNat_sub, BitVec.toNat_ofNat, BitVec.toNat_ofNat, BitVec.toNat_ofNat]
    omega
  rw [e, nI_and, and_low ht]
  unfold sbN
  rw [show (4294967296 + s - t) % 256 = (256 + s - t) % 256 by omega]
/-- what bars nothing -/
theorem jgN_0 {τ : Td} {hd ld : Nat → Nat} {wo x b to s : Nat} (hb : b < tN τ 31) (hto : to < tN τ 29) (hS : tN τ 29 ≤ 4) (hB : tN τ 31 ≤ 2) (hf : ¬ flT τ (bo x b) to = 0) : (jgN τ hd ld wo x (nI b) (nI to) s).1 = 0 ↔ bsT τ wo (stT τ) 0 0 0 = 0 ∧ (tN τ 33 = 0 ∨ la x = bo x b) ∧ mayT τ hd ld b s ∧ okE τ wo x b to s := by
  have e1 : (nI b).toInt.toNat = b := by rw [nI_toInt (by omega)]; rfl
  have e2 : (nI to).toInt.toNat = to := by rw [nI_toInt (by omega)]; rfl
  have ep : plN τ hd ld x (nI b) (nI to) s = brN (tN τ 29) (tN τ 30) (tN τ 33) (tA τ 38) (tA τ 39) hd ld (flT τ) x b to s := by
    unfold plN
    rw [inB_n hb (by omega), inB_n hto (by omega), if_neg (by decide), e1, e2]
  unfold jgN
  rw [ep, e1, e2]
  constructor
  · intro h
    unfold jd at h
    split at h
    · next c => exact absurd h c
    · next c =>
      split at h
      · exact absurd (show (7 : Nat) = 0 from h) (by decide)
      · next c2 =>
        split at h
        · exact absurd (show (7 : Nat) = 0 from h) (by decide)
        · next c3 =>
          split at h
          · exact absurd (show (8 : Nat) = 0 from h) (by decide)
          · next c4 =>
            have c := Decidable.not_not.mp c
            have c2 := Decidable.not_not.mp c2
            have c3 := Decidable.not_not.mp c3
            have c4 := Decidable.not_not.mp c4
            obtain ⟨q1, q2, q3, q4, q5, q6⟩ := brN_0 c
            obtain ⟨c5, c6⟩ := Nat.or_eq_zero_iff.mp c3
            exact ⟨c2, q6, ⟨q3, q4, q5⟩, q2, c5, c6, c4⟩
  · rintro ⟨g1, g2, ⟨g3, g4, g5⟩, g6, g7, g8, g9⟩
    have eb : brN (tN τ 29) (tN τ 30) (tN τ 33) (tA τ 38) (tA τ 39) hd ld (flT τ) x b to s = 0 := by
      unfold brN
      rw [if_neg hf, if_neg (fun z => z g6), if_neg g3, if_neg (by omega), if_neg (by omega), if_neg (fun z => g2.elim z.1 z.2)]
    have g1' : bs (bfT τ) (tN τ 29) (tN τ 30) (tN τ 31) (tN τ 33) wo (stT τ) 0 0 0 = 0 := g1
    have g7' : ab (bfT τ) (tN τ 29) (tN τ 33) wo s = 0 := g7
    have g8' : bs (bfT τ) (tN τ 29) (tN τ 30) (tN τ 31) (tN τ 33) wo x s (1 * 2 ^ b) 1 = 0 := g8
    have g9' : bs (bfT τ) (tN τ 29) (tN τ 30) (tN τ 31) (tN τ 33) wo (bh (tN τ 30) (tN τ 33) x b to s) 0 0 0 = 0 := g9
    unfold jd
    rw [eb, if_neg (fun z => z rfl), g1', if_neg (fun z => z rfl), g7', g8', if_neg (fun z => z rfl), g9', if_neg (fun z => z rfl)]
