/-! ===== the pure side: sets, states ===== -/
/-- bit t of s -/
def bt (s t : Nat) : Nat := s / 2 ^ t % 2
def rowN (mn : Nat → Nat) (s : Nat) : Nat → Nat
  | 0 => 0
  | t + 1 => rowN mn s t + if bt s t = 1 ∧ 0 < mn t then 1 else 0
def sumN (of : Nat → Nat) (s : Nat) : Nat → Nat
  | 0 => 0
  | t + 1 => sumN of s t + if bt s t = 1 then of t else 0
def mxN (mn : Nat → Nat) (s : Nat) : Nat → Nat
  | 0 => 0
  | t + 1 => if bt s t = 1 ∧ mxN mn s t < mn t then mn t else mxN mn s t
def popN (s : Nat) : Nat → Nat
  | 0 => 0
  | t + 1 => popN s t + bt s t
def popc (s : Nat) : Nat := popN s 8
theorem popc_step : ∀ x, x < 256 → 0 < x → popc (x &&& (x - 1)) + 1 = popc x ∧ (x &&& (x - 1)) < x := by decide +kernel
/-- the shore of thing t in the state x; of boat b; of the lamp -/
def th (x t : Nat) : Nat := x / 2 ^ (2 * t) % 4
def bo (x b : Nat) : Nat := x / 2 ^ (16 + 2 * b) % 4
def la (x : Nat) : Nat := x / 2 ^ 20 % 4
/-- the things at the shore s -/
def setN (x s : Nat) : Nat → Nat
  | 0 => 0
  | t + 1 => if th x t = s then setN x s t ||| 1 * 2 ^ t else setN x s t
theorem setN_lt (x s : Nat) : ∀ n, setN x s n < 2 ^ n
  | 0 => by simp [setN]
  | n + 1 => by
    unfold setN
    have h := setN_lt x s n
    have h2 : 2 ^ n < 2 ^ (n + 1) := Nat.pow_lt_pow_right (by decide) (by omega)
    split
    · exact Nat.or_lt_two_pow (Nat.lt_trans h h2) (by rw [Nat.one_mul]; exact h2)
    · exact Nat.lt_trans h h2
theorem p2_le {a b : Nat} (h : a ≤ b) : 2 ^ a ≤ 2 ^ b := Nat.pow_le_pow_right (by decide) h
theorem setN_256 (x s : Nat) {n : Nat} (h : n ≤ 8) : setN x s n < 256 := Nat.lt_of_lt_of_le (setN_lt x s n) (p2_le h)
/-- the start: boats, lamp (0: none) -/
def stN (at_ : Nat → Nat) : Nat → Nat
  | 0 => 0
  | b + 1 => stN at_ b ||| at_ b * 2 ^ (16 + 2 * b)
def st0 (at_ : Nat → Nat) (B lamp : Nat) : Nat := if lamp = 0 then stN at_ B else stN at_ B ||| (lamp - 1) * 2 ^ 20
/-- two bits of x at the place p set to v -/
def set2 (x p v : Nat) : Nat := ndf x (3 * 2 ^ p) ||| v * 2 ^ p
def bhN (x to s : Nat) : Nat → Nat
  | 0 => x
  | t + 1 => if bt s t = 1 then set2 (bhN x to s t) (2 * t) to else bhN x to s t
/-- the state behind a crossing -/
def bh (T lamp x b to s : Nat) : Nat := let v := bhN (set2 x (16 + 2 * b) to) to s T; if lamp = 0 then v else ndf v 3145728 ||| to * 2 ^ 20
theorem ndf_le (a b : Nat) : ndf a b ≤ a := by
  apply Nat.le_of_testBit  
  intro i h
  rw [ndf_tb, Bool.and_eq_true] at h
  exact h.1
theorem set2_lt {x p v n : Nat} (hx : x < 2 ^ n) (hv : v < 4) (hp : p + 2 ≤ n) : set2 x p v < 2 ^ n := by
  unfold set2
  refine Nat.or_lt_two_pow (Nat.lt_of_le_of_lt (ndf_le _ _) hx) ?_
  have h1 : v * 2 ^ p < 4 * 2 ^ p := Nat.mul_lt_mul_of_pos_right hv (Nat.two_pow_pos p)
  have h2 : 4 * 2 ^ p = 2 ^ (p + 2) := by rw [Nat.pow_add, Nat.mul_comm]
  have h3 : 2 ^ (p + 2) ≤ 2 ^ n := p2_le hp
  omega
