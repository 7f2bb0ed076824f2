/-! ===== what is taken over ===== -/
def TKx (σ σ2 : MS) (a b c d e : Nat) : Prop :=
  (gN σ2 1 = gN σ 29 ∧ gN σ2 2 = gN σ 30 ∧ gN σ2 3 = gN σ 31 ∧ gN σ2 4 = gN σ 32 ∧ gN σ2 5 = gN σ 33 ∧ gN σ2 13 = gN σ 37) ∧
  (∀ j, j < a → gA σ2 6 j = gA σ 38 j ∧ gA σ2 7 j = gA σ 39 j ∧ gA σ2 8 j = gA σ 40 j) ∧ (∀ j, j < b → gA σ2 9 j = gA σ 41 j ∧ gA σ2 10 j = gA σ 42 j ∧ gA σ2 11 j = gA σ 43 j) ∧
  (∀ j, j < c → gA σ2 12 j = gA σ 48 j) ∧ (∀ j, j < d → gB σ2 14 j = gB σ 44 j ∧ gA σ2 15 j = gA σ 45 j) ∧ (∀ j, j < e → gA σ2 16 j = gA σ 46 j) ∧
  (∀ k, k = 0 ∨ (5 < k ∧ k ≠ 13) → gN σ2 k = gN σ k) ∧ (∀ k, k < 6 ∨ 16 < k → gA σ2 k = gA σ k) ∧ (∀ k, k ≠ 14 → gB σ2 k = gB σ k) ∧ gC σ2 = gC σ
theorem TKx.a {σ σ2 : MS} {a b c d e : Nat} (h : TKx σ σ2 a b c d e) : TKx σ (sA (sA (sA σ2 6 a (gA σ2 38 a)) 7 a (gA σ2 39 a)) 8 a (gA σ2 40 a)) (a + 1) b c d e := by
  obtain ⟨h1, h2, h3, h4, h5, h6, h7, h8, h9, h10⟩ := h
  refine ⟨h1, fun j hj => ?_, h3, h4, h5, h6, h7, fun k hk => ?_, h9, h10⟩
  · show va_up (gA σ2 6) a (gA σ2 38 a) j = _ ∧ va_up (gA σ2 7) a (gA σ2 39 a) j = _ ∧ va_up (gA σ2 8) a (gA σ2 40 a) j = _
    rw [h8 38 (by decide), h8 39 (by decide), h8 40 (by decide)]
    by_cases q : j = a
    · subst q
      rw [va_up_e, va_up_e, va_up_e]
      exact ⟨rfl, rfl, rfl⟩
    · rw [va_up_n q, va_up_n q, va_up_n q]
      exact h2 j (by omega)
  · rw [gA_sA, if_neg (by omega), gA_sA, if_neg (by omega), gA_sA, if_neg (by omega)]
    exact h8 k hk
theorem TKx.b {σ σ2 : MS} {a b c d e : Nat} (h : TKx σ σ2 a b c d e) : TKx σ (sA (sA (sA σ2 9 b (gA σ2 41 b)) 10 b (gA σ2 42 b)) 11 b (gA σ2 43 b)) a (b + 1) c d e := by
  obtain ⟨h1, h2, h3, h4, h5, h6, h7, h8, h9, h10⟩ := h
  refine ⟨h1, h2, fun j hj => ?_, h4, h5, h6, h7, fun k hk => ?_, h9, h10⟩
  · show va_up (gA σ2 9) b (gA σ2 41 b) j = _ ∧ va_up (gA σ2 10) b (gA σ2 42 b) j = _ ∧ va_up (gA σ2 11) b (gA σ2 43 b) j = _
    rw [h8 41 (by decide), h8 42 (by decide), h8 43 (by decide)]
    by_cases q : j = b
    · subst q
      rw [va_up_e, va_up_e, va_up_e]
      exact ⟨rfl, rfl, rfl⟩
    · rw [va_up_n q, va_up_n q, va_up_n q]
      exact h3 j (by omega)
  · rw [gA_sA, if_neg (by omega), gA_sA, if_neg (by omega), gA_sA, if_neg (by omega)]
    exact h8 k hk
theorem TKx.c {σ σ2 : MS} {a b c d e : Nat} (h : TKx σ σ2 a b c d e) : TKx σ (sA σ2 12 c (gA σ2 48 c)) a b (c + 1) d e := by
  obtain ⟨h1, h2, h3, h4, h5, h6, h7, h8, h9, h10⟩ := h
  refine ⟨h1, h2, h3, fun j hj => ?_, h5, h6, h7, fun k hk => ?_, h9, h10⟩
  · show va_up (gA σ2 12) c (gA σ2 48 c) j = _
    rw [h8 48 (by decide)]
    by_cases q : j = c
    · subst q
      rw [va_up_e]
    · rw [va_up_n q]
      exact h4 j (by omega)
  · rw [gA_sA, if_neg (by omega)]
    exact h8 k hk
theorem TKx.d {σ σ2 : MS} {a b c d e : Nat} (h : TKx σ σ2 a b c d e) : TKx σ (sA (sB σ2 14 d (gB σ2 44 d)) 15 d (gA σ2 45 d)) a b c (d + 1) e := by
  obtain ⟨h1, h2, h3, h4, h5, h6, h7, h8, h9, h10⟩ := h
  refine ⟨h1, h2, h3, h4, fun j hj => ?_, h6, h7, fun k hk => ?_, fun k hk => ?_, h10⟩
  · show upd (gB σ2 14) d (gB σ2 44 d) j = _ ∧ va_up (gA σ2 15) d (gA σ2 45 d) j = _
    rw [h8 45 (by decide), h9 44 (by decide)]
    by_cases q : j = d
    · subst q
      rw [va_up_e, pk_us]
      exact ⟨rfl, rfl⟩
    · rw [va_up_n q, pk_un q]
      exact h5 j (by omega)
  · rw [gA_sA, if_neg (by omega)]
    exact h8 k hk
  · show gB (sB σ2 14 d (gB σ2 44 d)) k = _
    rw [gB_sB, if_neg hk]
    exact h9 k hk
theorem TKx.e {σ σ2 : MS} {a b c d e : Nat} (h : TKx σ σ2 a b c d e) : TKx σ (sA σ2 16 e (gA σ2 46 e)) a b c d (e + 1) := by
  obtain ⟨h1, h2, h3, h4, h5, h6, h7, h8, h9, h10⟩ := h
  refine ⟨h1, h2, h3, h4, h5, fun j hj => ?_, h7, fun k hk => ?_, h9, h10⟩
  · show va_up (gA σ2 16) e (gA σ2 46 e) j = _
    rw [h8 46 (by decide)]
    by_cases q : j = e
    · subst q
      rw [va_up_e]
    · rw [va_up_n q]
      exact h6 j (by omega)
  · rw [gA_sA, if_neg (by omega)]
    exact h8 k hk
def TK0 (σ : MS) : MS := sN (sN (sN (sN (sN (sN σ 1 (gN σ 29)) 2 (gN σ 30)) 3 (gN σ 31)) 4 (gN σ 32)) 5 (gN σ 33)) 13 (gN σ 37)
theorem TKx.z (σ : MS) : TKx σ (TK0 σ) 0 0 0 0 0 := by
  refine ⟨⟨rfl, rfl, rfl, rfl, rfl, rfl⟩, fun j hj => absurd hj (by omega), fun j hj => absurd hj (by omega), fun j hj => absurd hj (by omega), fun j hj => absurd hj (by omega), fun j hj => absurd hj (by omega), fun k hk => ?_, fun k hk => rfl, fun k hk => rfl, rfl⟩
  unfold TK0
  rw [gN_sN, if_neg (by omega), gN_sN, if_neg (by omega), gN_sN, if_neg (by omega), gN_sN, if_neg (by omega), gN_sN, if_neg (by omega), gN_sN, if_neg (by omega)]
/-- what the laws of τ bar -/
def bfT (τ : Td) (sh b l s : Nat) : Nat := if s = 0 then 0 else maskN (tA τ 44) (fun k => tF_ τ k (valM (tA τ 38) (tA τ 39) (tN τ 30) s sh b l)) sh (tN τ 29) (tN τ 32)
/-- the bounds of what is told -/
def TB (τ : Td) : Prop := (2 ≤ tN τ 29 ∧ tN τ 29 ≤ 4 ∧ tN τ 30 ≤ 8 ∧ tN τ 31 ≤ 2 ∧ tN τ 32 ≤ 12 ∧ tN τ 33 ≤ tN τ 29 ∧ tN τ 37 < 2) ∧ (∀ i, i < tN τ 30 → tA τ 38 i ≤ 99 ∧ tA τ 39 i ≤ 99 ∧ tA τ 40 i < 256) ∧ (∀ i, i < tN τ 31 → 1 ≤ tA τ 41 i ∧ tA τ 41 i ≤ 8 ∧ tA τ 42 i ≤ 999 ∧ tA τ 43 i < tN τ 29) ∧ (∀ i, i < 16 → tA τ 48 i < 2) ∧ (∀ i, i < 4 → tA τ 48 (4 * i + i) = 0) ∧ ∀ j, j < tN τ 32 → tA τ 44 j < 8
/-- the model holds what τ says -/
def MI (σ : MS) (τ : Td) : Prop := TB τ ∧ (gN σ 1 = tN τ 29 ∧ gN σ 2 = tN τ 30 ∧ gN σ 3 = tN τ 31 ∧ gN σ 4 = tN τ 32 ∧ gN σ 5 = tN τ 33 ∧ gN σ 13 = tN τ 37) ∧
  (∀ i, i < tN τ 30 → gA σ 6 i = tA τ 38 i ∧ gA σ 7 i = tA τ 39 i ∧ gA σ 8 i = tA τ 40 i) ∧ (∀ i, i < tN τ 31 → gA σ 9 i = tA τ 41 i ∧ gA σ 10 i = tA τ 42 i ∧ gA σ 11 i = tA τ 43 i) ∧ (∀ i, i < 16 → gA σ 12 i = tA τ 48 i) ∧ BarO σ (bfT τ)
theorem sumN_congr {f g : Nat → Nat} {s : Nat} : ∀ {n : Nat}, (∀ i, i < n → f i = g i) → sumN f s n = sumN g s n
  | 0, _ => rfl
  | n + 1, h => by
    unfold sumN
    rw [sumN_congr (fun i hi => h i (by omega)), h n (by omega)]
theorem rowN_congr {f g : Nat → Nat} {s : Nat} : ∀ {n : Nat}, (∀ i, i < n → f i = g i) → rowN f s n = rowN g s n
  | 0, _ => rfl
  | n + 1, h => by
    unfold rowN
    rw [rowN_congr (fun i hi => h i (by omega)), h n (by omega)]
theorem mxN_congr {f g : Nat → Nat} {s : Nat} : ∀ {n : Nat}, (∀ i, i < n → f i = g i) → mxN f s n = mxN g s n
  | 0, _ => rfl
  | n + 1, h => by
    unfold mxN
    rw [mxN_congr (fun i hi => h i (by omega)), h n (by omega)]
theorem valM_congr {f g f' g' : Nat → Nat} {n s sh b l : Nat} (h1 : ∀ i, i < n → f i = f' i) (h2 : ∀ i, i < n → g i = g' i) : valM f g n s sh b l = valM f' g' n s sh b l := by
  funext w
  unfold valM
  rw [sumN_congr h1, rowN_congr h2]
theorem MI.of {σ σ2 : MS} {τ : Td} (h : RD σ τ) (ht : gN σ 34 ≤ 1199) (hk : TKx σ σ2 8 2 16 (gN σ 32) 1200) : MI σ2 τ := by
  obtain ⟨⟨a1, a2, a3, a4, a5, a6⟩, ⟨b1, b2, b3, b4, b5, b6, b7⟩, c1, c2, c3, c4, c5⟩ := h
  obtain ⟨⟨k1, k2, k3, k4, k5, k6⟩, k7, k8, k9, k10, k11, -⟩ := hk
  have w1 : ∀ i, i < tN τ 30 → gA σ2 6 i = tA τ 38 i := fun i hi => (k7 i (by omega)).1.trans (c1 i hi).1
  have w2 : ∀ i, i < tN τ 30 → gA σ2 7 i = tA τ 39 i := fun i hi => (k7 i (by omega)).2.1.trans (c1 i hi).2.1
  refine ⟨⟨⟨b1, b2, b3, b4, b5, b6, b7⟩, fun i hi => (c1 i hi).2.2.2, fun i hi => (c2 i hi).2.2.2, fun i hi => (c3 i hi).2, c4, fun j hj => (c5 j hj).1⟩, ⟨k1.trans a1, k2.trans a2, k3.trans a3, k4.trans a4, k5.trans a5, k6.trans a6⟩, fun i hi => ⟨w1 i hi, w2 i hi, (k7 i (by omega)).2.2.trans (c1 i hi).2.2.1⟩, fun i hi => ⟨(k8 i (by omega)).1.trans (c2 i hi).1, (k8 i (by omega)).2.1.trans (c2 i hi).2.1, (k8 i (by omega)).2.2.trans (c2 i hi).2.2.1⟩, fun i hi => (k9 i hi).trans (c3 i hi).1, ?_⟩
  unfold BarO
  rw [k1.trans a1, k2.trans a2, k4.trans a4]
  refine ⟨b2, b3, b5, fun t ht => by rw [w2 t ht]; have := (c1 t ht).2.2.2.2.1; omega, tA τ 44, fun k s sh b l => tF_ τ k (valM (tA τ 38) (tA τ 39) (tN τ 30) s sh b l), fun k hk => ?_, fun k hk s sh b l hs => ?_, fun sh b l s => rfl⟩
  · obtain ⟨e1, e2, r, e3, e4, e5⟩ := c5 k hk
    have e6 := k10 k (by omega)
    exact ⟨e6.1.trans e2, e1, by rw [e6.2]; omega⟩
  · obtain ⟨e1, e2, r, e3, e4, e5⟩ := c5 k hk
    have e6 := k10 k (by omega)
    rw [e6.2, valM_congr w1 w2]
    exact Sm_end e4 (pN_low (tp := gN σ 34) e3 (by simp only [List.length_cons]; omega) (fun i hi => k11 i (by omega))) (by omega) _
