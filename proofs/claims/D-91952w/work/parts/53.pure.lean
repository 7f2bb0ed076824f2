/-! ===== the model's table of states and crossings ===== -/
/-- only what exploring changes has changed -/
def EF (σ σ2 : MS) : Prop := (∀ k, k ≠ 54 → k ≠ 55 → k ≠ 66 → k ≠ 67 → gN σ2 k = gN σ k) ∧ (∀ k, (k < 56 ∧ k ≠ 50) ∨ k = 59 ∨ k = 65 ∨ 69 < k → gA σ2 k = gA σ k) ∧ (∀ k, k ≠ 51 → gB σ2 k = gB σ k) ∧ gC σ2 = gC σ
theorem EF.rf (σ : MS) : EF σ σ := ⟨fun _ _ _ _ _ => rfl, fun _ _ => rfl, fun _ _ => rfl, rfl⟩
theorem EF.n {σ σ2 : MS} (h : EF σ σ2) {k v : Nat} (hk : k = 54 ∨ k = 55 ∨ k = 66 ∨ k = 67) : EF σ (sN σ2 k v) := ⟨fun j h1 h2 h3 h4 => by rw [gN_sN, if_neg (by omega)]; exact h.1 j h1 h2 h3 h4, h.2.1, h.2.2.1, h.2.2.2⟩
theorem EF.a {σ σ2 : MS} (h : EF σ σ2) {k i v : Nat} (hk : (56 ≤ k ∧ k ≤ 58) ∨ (60 ≤ k ∧ k ≤ 64) ∨ k = 68 ∨ k = 69) : EF σ (sA σ2 k i v) := ⟨h.1, fun j hj => by rw [gA_sA, if_neg (by omega)]; exact h.2.1 j hj, h.2.2.1, h.2.2.2⟩
theorem EF.st {σ σ2 : MS} (h : EF σ σ2) {k : Nat} {f : Nat → Nat} (hk : (56 ≤ k ∧ k ≤ 58) ∨ (60 ≤ k ∧ k ≤ 64) ∨ k = 68 ∨ k = 69 ∨ k = 50) : EF σ (stA σ2 k f) := ⟨h.1, fun j hj => by rw [gA_stA, if_neg (by omega)]; exact h.2.1 j hj, h.2.2.1, h.2.2.2⟩
theorem EF.cp {σ σ2 : MS} (h : EF σ σ2) {c : Nat → Nat} {p : Nat → Int32} : EF σ (sCP σ2 c p) := ⟨h.1, fun j hj => by show gA (stA σ2 50 c) j = _; rw [gA_stA, if_neg (by omega)]; exact h.2.1 j hj, fun k hk => by show (if k = 51 then p else gB (stA σ2 50 c) k) = _; rw [if_neg hk]; exact h.2.2.1 k hk, h.2.2.2⟩
theorem EF.trans {σ σ1 σ2 : MS} (h : EF σ σ1) (h2 : EF σ1 σ2) : EF σ σ2 := ⟨fun k a b c d => (h2.1 k a b c d).trans (h.1 k a b c d), fun k a => (h2.2.1 k a).trans (h.2.1 k a), fun k a => (h2.2.2.1 k a).trans (h.2.2.1 k a), h2.2.2.2.trans h.2.2.2⟩
theorem WX.cp {σ : MS} {τ : Td} {hd ld : Nat → Nat} {w : Nat} (h : WX σ τ hd ld w) {c : Nat → Nat} {p : Nat → Int32} (hc : Cch (bfT τ) c) : WX (sCP σ c p) τ hd ld w := ⟨h.1, h.2.1, h.2.2.1, h.2.2.2.1, h.2.2.2.2.1, h.2.2.2.2.2.1, hc, h.2.2.2.2.2.2.2⟩
theorem EF.wx {σ σ2 : MS} (h : EF σ σ2) {τ : Td} {hd ld : Nat → Nat} {w : Nat} (hW : WX σ τ hd ld w) (hc : Cch (bfT τ) (gA σ2 50)) : WX σ2 τ hd ld w := by
  have n : ∀ k, k < 54 → gN σ2 k = gN σ k := fun k a => h.1 k (by omega) (by omega) (by omega) (by omega)
  have a : ∀ k, k < 50 → gA σ2 k = gA σ k := fun k a => h.2.1 k (by omega)
  obtain ⟨h1, h2, h3, h4, h5, h6, h7, h8, h9⟩ := hW
  refine ⟨h1, ?_, ?_, ?_, ?_, ?_, hc, ?_, h9⟩
  · rw [n 1 (by decide), n 2 (by decide), n 3 (by decide), n 4 (by decide), n 5 (by decide), n 13 (by decide)]
    exact h2
  · rw [a 6 (by decide), a 7 (by decide)]
    exact h3
  · rw [a 9 (by decide), a 10 (by decide), a 11 (by decide)]
    exact h4
  · rw [a 12 (by decide)]
    exact h5
  · unfold BarO
    rw [n 1 (by decide), n 2 (by decide), n 4 (by decide), a 6 (by decide), a 7 (by decide), a 15 (by decide), a 16 (by decide), h.2.2.1 14 (by decide)]
    exact h6
  · rw [n 52 (by decide)]
    exact h8
def XM (σ : MS) (X : XT) : Prop := gN σ 54 = xn X ∧ gN σ 55 = xe X ∧ SLt hsM (gA σ 60) (gA σ 56) (xn X) ∧ xe X ≤ 40000 ∧ (∀ j, j < xn X → gA σ 56 j = xst X j ∧ gA σ 58 j = xfar X j ∧ xst X j < 4194304 ∧ xfar X j ≤ j) ∧ ∀ e, e < xe X → gA σ 61 e = xeb X e ∧ gA σ 62 e = xet X e ∧ gA σ 63 e = xes X e ∧ gA σ 64 e = xej X e ∧ xej X e < xn X ∧ xeb X e < 2 ∧ xet X e < 4 ∧ xes X e < 256
theorem XM.edge {σ : MS} {X : XT} (h : XM σ X) {b to s J : Nat} (he : xe X < 40000) (hJ : J < xn X) (hb : b < 2) (hto : to < 4) (hs : s < 256) : XM (sN (sA (sA (sA (sA σ 61 (gN σ 55) b) 62 (gN σ 55) to) 63 (gN σ 55) s) 64 (gN σ 55) J) 55 (gN σ 55 + 1)) (xEdge X b to s J) := by
  obtain ⟨h1, h2, h3, h4, h5, h6⟩ := h
  refine ⟨h1, congrArg (· + 1) h2, h3, by show xe X + 1 ≤ 40000; omega, h5, fun e hx => ?_⟩
  have hx : e < xe X + 1 := hx
  show va_up (gA σ 61) (gN σ 55) b e = va_up (xeb X) (xe X) b e ∧ va_up (gA σ 62) (gN σ 55) to e = va_up (xet X) (xe X) to e ∧ va_up (gA σ 63) (gN σ 55) s e = va_up (xes X) (xe X) s e ∧ va_up (gA σ 64) (gN σ 55) J e = va_up (xej X) (xe X) J e ∧ va_up (xej X) (xe X) J e < xn X ∧ va_up (xeb X) (xe X) b e < 2 ∧ va_up (xet X) (xe X) to e < 4 ∧ va_up (xes X) (xe X) s e < 256
  rw [h2]
  by_cases c : e = xe X
  · subst c
    simp only [va_up_e]
    exact ⟨trivial, trivial, trivial, trivial, hJ, hb, hto, hs⟩
  · simp only [va_up_n c]
    exact h6 e (by omega)
theorem XM.add {σ : MS} {X : XT} (h : XM σ X) {y f q : Nat} (hy : y < 4194304) (hf : f ≤ xn X) (hS : SLt hsM (va_up (gA σ 60) q (gN σ 54 + 1)) (va_up (gA σ 56) (gN σ 54) y) (gN σ 54 + 1)) : XM (sA (sN (sA (sA σ 56 (gN σ 54) y) 60 q (gN σ 54 + 1)) 54 (gN σ 54 + 1)) 58 (gN σ 54) f) (xAdd X f y) := by
  obtain ⟨h1, h2, h3, h4, h5, h6⟩ := h
  refine ⟨congrArg (· + 1) h1, h2, by rw [← show gN σ 54 + 1 = xn (xAdd X f y) from congrArg (· + 1) h1]; exact hS, h4, fun j hj => ?_, fun e he => ?_⟩
  · have hj : j < xn X + 1 := hj
    show va_up (gA σ 56) (gN σ 54) y j = va_up (xst X) (xn X) y j ∧ va_up (gA σ 58) (gN σ 54) f j = va_up (xfar X) (xn X) f j ∧ va_up (xst X) (xn X) y j < 4194304 ∧ va_up (xfar X) (xn X) f j ≤ j
    rw [h1]
    by_cases c : j = xn X
    · subst c
      simp only [va_up_e]
      exact ⟨trivial, trivial, hy, hf⟩
    · simp only [va_up_n c]
      exact h5 j (by omega)
  · obtain ⟨a1, a2, a3, a4, a5, a6⟩ := h6 e he
    exact ⟨a1, a2, a3, a4, by show xej X e < xn X + 1; omega, a6⟩
theorem XM.ix {σ : MS} {X : XT} (h : XM σ X) (y : Nat) : ixN (gA σ 56) y (gN σ 54) = ixN (xst X) y (xn X) := by
  rw [h.1]
  exact ixN_congr (fun i hi => (h.2.2.2.2.1 i hi).1)
theorem nI_m1 {n : Nat} (h : n < 2147483648) : ¬ nI n = -1 := fun e => absurd ((oI_m1 (n := n + 1) (by omega)).mp e) (by omega)
theorem bhT_lt {τ : Td} (h : TB τ) {x b to s : Nat} (hx : x < 4194304) (hb : b < 2) (ht : to < 4) : bhT τ x b to s < 4194304 := bh_lt hx h.1.2.2.1 hb ht
theorem bfT_lt {τ : Td} (h : TB τ) (sh b l s : Nat) : bfT τ sh b l s < 4096 := by
  unfold bfT
  split
  · decide
  · exact Nat.lt_of_lt_of_le (maskN_lt _ _ _ _ _) (p2_le (b := 12) h.1.2.2.2.2.1)
theorem bsT_lt {τ : Td} (h : TB τ) (w x gone gb lg : Nat) : bsT τ w x gone gb lg < 4096 := bs_lt (bfT_lt h) _ _ _ _ _ _ _ _ _
theorem abT_lt {τ : Td} (h : TB τ) (w s : Nat) : abT τ w s < 4096 := ab_lt (bfT_lt h) _ _ _ _
theorem flT_lt {τ : Td} (h : TB τ) {a b : Nat} (ha : a < 4) (hb : b < 4) : flT τ a b < 2 := by
  unfold flT
  split
  · split <;> decide
  · exact h.2.2.2.1 _ (by omega)
theorem xStep_none1 {X : XT} {k b to s y : Nat} (h : ixN (xst X) y (xn X) = xn X) (h2 : xn X = 2000) : xStep X k b to s y = none := if_pos ⟨h, h2⟩
theorem xStep_none2 {X : XT} {k b to s y : Nat} (h2 : xe X = 40000) : xStep X k b to s y = none := by
  unfold xStep
  split
  · rfl
  · first
    | rfl
    | rw [if_pos h2]
theorem xStep_old {X : XT} {k b to s y : Nat} (h : ixN (xst X) y (xn X) < xn X) (h2 : ¬ xe X = 40000) : xStep X k b to s y = some (xEdge X b to s (ixN (xst X) y (xn X))) := by
  unfold xStep
  rw [if_neg (by omega), if_neg h2, if_neg (by omega)]
theorem xStep_new {X : XT} {k b to s y : Nat} (h : ixN (xst X) y (xn X) = xn X) (h2 : ¬ xe X = 40000) (h3 : ¬ xn X = 2000) : xStep X k b to s y = some (xEdge (xAdd X (xfar X k + 1) y) b to s (xn X)) := by
  unfold xStep
  rw [if_neg (by omega), if_neg h2, if_pos h, h]
theorem xF_n {q : Nat → Bool} {stp : Nat → XT → Option XT} {s : Nat} {l : List Nat} {X : XT} (h : ¬ q s = true) : xF q stp (s :: l) X = xF q stp l X := if_neg h
theorem xF_y {q : Nat → Bool} {stp : Nat → XT → Option XT} {s : Nat} {l : List Nat} {X : XT} (h : q s = true) : xF q stp (s :: l) X = (stp s X).bind (xF q stp l) := if_pos h
theorem mayL_lt {τ : Td} (h : TB τ) {hd ld : Nat → Nat} {b s : Nat} (hs : s ∈ mayL τ hd ld b) : s < 256 := by
  have h1 := (List.mem_filter.mp hs).1
  unfold allS at h1
  have h2 := List.mem_range'.mp h1
  obtain ⟨i, h3, h4⟩ := h2
  have h5 : 2 ^ tN τ 30 ≤ 256 := p2_le (b := 8) h.1.2.2.1
  omega
theorem mayL_len {τ : Td} (h : TB τ) (hd ld : Nat → Nat) (b : Nat) : (mayL τ hd ld b).length ≤ 255 := by
  have h1 := len_filter_le (mayB τ hd ld b) (allS τ)
  have h5 : 2 ^ tN τ 30 ≤ 256 := p2_le (b := 8) h.1.2.2.1
  unfold allS at h1
  rw [List.length_range'] at h1
  unfold mayL allS
  omega
