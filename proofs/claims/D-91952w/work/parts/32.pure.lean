/-! ===== reading: states with the token at p ===== -/
theorem setTok_setTok (σ : MS) (f g : Nat → Nat) : setTok (setTok σ f) g = setTok σ g := by
  unfold setTok
  dsimp only
  congr 1
  funext k
  split <;> rfl
def TS (σ : MS) (p : Nat) : MS := setTok σ (tk (gA σ 17) (gN σ 21) p)
/-- the token at p -/
def tq (σ : MS) (p : Nat) : Nat → Nat := tk (gA σ 17) (gN σ 21) p
def nx (σ : MS) (p : Nat) : Nat := tq σ p 22
def PO (σ : MS) : Prop := gN σ 21 ≤ 700 ∧ ∀ k, k < 700 → gA σ 17 k < 256
def flt (σ : MS) (k pl : Nat) : MS := sN (sN σ 19 k) 20 (pl + 1)
theorem PO.b {σ : MS} (h : PO σ) (k : Nat) : bB (gA σ 17) (gN σ 21) k < 256 := by
  unfold bB
  split
  · have := h.1; exact h.2 k (by omega)
  · decide
theorem skN_ge (tp : Nat → Nat) (sz : Nat) : ∀ n p, p ≤ skN tp sz n p ∧ skN tp sz n p ≤ p + n
  | 0, p => ⟨Nat.le_refl _, Nat.le_refl _⟩
  | n + 1, p => by
    unfold skN
    have := skN_ge tp sz n (p + 1)
    split <;> omega
theorem leN_ge (tp : Nat → Nat) (sz : Nat) : ∀ n p, p ≤ leN tp sz n p ∧ leN tp sz n p ≤ p + n
  | 0, p => ⟨Nat.le_refl _, Nat.le_refl _⟩
  | n + 1, p => by
    unfold leN
    have := leN_ge tp sz n (p + 1)
    split <;> omega
theorem diN_ge (tp : Nat → Nat) (sz : Nat) : ∀ n p, p ≤ diN tp sz n p ∧ diN tp sz n p ≤ p + n
  | 0, p => ⟨Nat.le_refl _, Nat.le_refl _⟩
  | n + 1, p => by
    unfold diN
    have := diN_ge tp sz n (p + 1)
    split <;> omega
theorem skp_le {tp : Nat → Nat} {sz p : Nat} (h : p ≤ sz) : p ≤ skp tp sz p ∧ skp tp sz p ≤ sz := by
  have := skN_ge tp sz (sz - p) p
  unfold skp
  omega
theorem lend_le {tp : Nat → Nat} {sz p : Nat} (h : p ≤ sz) : p ≤ lend tp sz p ∧ lend tp sz p ≤ sz := by
  have := leN_ge tp sz (sz - p) p
  unfold lend
  omega
theorem dend_le {tp : Nat → Nat} {sz p : Nat} (h : p ≤ sz) : p ≤ dend tp sz p ∧ dend tp sz p ≤ sz := by
  have := diN_ge tp sz (sz - p) p
  unfold dend
  omega
theorem wdF_lt {tp : Nat → Nat} {sz q : Nat} (h : ∀ k, bB tp sz k < 256) : ∀ n, wdF tp sz q n < 2 ^ (5 * n + 8)
  | 0 => by simp [wdF]
  | n + 1 => by
    have h1 := wdF_lt (q := q) h n
    have h2 := h (q + n)
    unfold wdF
    refine Nat.or_lt_two_pow ?_ ?_
    · rw [show 5 * (n + 1) + 8 = (5 * n + 8) + 5 by omega, Nat.pow_add]
      exact Nat.mul_lt_mul_of_pos_right h1 (by decide)
    · have : 2 ^ 8 ≤ 2 ^ (5 * (n + 1) + 8) := p2_le (by omega)
      omega
/-- the bounds of a token's fields -/
theorem tq_b {σ : MS} (h : PO σ) {p : Nat} (hp : p ≤ gN σ 21) : nx σ p ≤ gN σ 21 ∧ tq σ p 23 ≤ 4 ∧ tq σ p 24 ≤ 700 ∧ tq σ p 25 ≤ 700 ∧ tq σ p 26 < 100000 ∧ tq σ p 27 < 256 ∧ tq σ p 28 < 2 ^ 63 := by
  have hz := h.1
  obtain ⟨h1, h2⟩ := skp_le (tp := gA σ 17) hp
  obtain ⟨h3, h4⟩ := lend_le (tp := gA σ 17) h2
  obtain ⟨h5, h6⟩ := dend_le (tp := gA σ 17) h2
  have hb := h.b (skp (gA σ 17) (gN σ 21) p)
  have hw := wdF_lt (q := skp (gA σ 17) (gN σ 21) p) h.b (min (lend (gA σ 17) (gN σ 21) (skp (gA σ 17) (gN σ 21) p) - skp (gA σ 17) (gN σ 21) p) 7)
  have hw2 : 2 ^ (5 * (min (lend (gA σ 17) (gN σ 21) (skp (gA σ 17) (gN σ 21) p) - skp (gA σ 17) (gN σ 21) p) 7) + 8) ≤ 2 ^ 43 := p2_le (by omega)
  have hv := vlF_le (q := skp (gA σ 17) (gN σ 21) p) h.b (min (dend (gA σ 17) (gN σ 21) (skp (gA σ 17) (gN σ 21) p) - skp (gA σ 17) (gN σ 21) p) 3) (by omega)
  unfold nx tq tk
  split
  · simp only [tF]; refine ⟨?_, ?_, ?_, ?_, ?_, ?_, ?_⟩ <;> simp <;> omega
  split
  · simp only [tF]; refine ⟨?_, ?_, ?_, ?_, ?_, ?_, ?_⟩ <;> simp <;> omega
  split
  · simp only [tF]; refine ⟨?_, ?_, ?_, ?_, ?_, ?_, ?_⟩ <;> simp <;> omega
  · simp only [tF]
    refine ⟨?_, ?_, ?_, ?_, ?_, ?_, ?_⟩
    all_goals first | (simp; omega) | (simp; split <;> omega) | simp
def nmF (lt : Nat → Nat) (c : Nat) : Nat → Nat → Nat
  | 0, _ => 0
  | n + 1, k => if lt k = c then k + 1 else nmF lt c n (k + 1)
theorem nmF_le (lt : Nat → Nat) (c : Nat) : ∀ n k, nmF lt c n k ≤ k + n
  | 0, k => Nat.zero_le _
  | n + 1, k => by
    unfold nmF
    have := nmF_le lt c n (k + 1)
    split <;> omega
/-- what is wrong with a number of such bounds; with a shore (another one than o - 1) -/
def numE (t : Nat → Nat) (lo hi : Nat) : Nat := if ¬ t 23 = 2 then 1 else if 3 < t 25 ∨ t 26 < lo ∨ hi < t 26 then 2 else 0
def shE (t : Nat → Nat) (S o : Nat) : Nat := if ¬ t 23 = 2 then 1 else if 3 < t 25 then 2 else if S ≤ t 26 then 4 else if t 26 + 1 = o then 5 else 0
