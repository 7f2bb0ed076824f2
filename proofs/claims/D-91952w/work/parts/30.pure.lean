/-! ===== known words ===== -/
def sp1 (v b : Nat) : Nat := if b = 0 then v else v * 2 ^ 5 ||| (b - 96)
def spN (a b c d e f : Nat) : Nat := sp1 (sp1 (sp1 (sp1 (sp1 (a - 96) b) c) d) e) f
/-- the known words, by their numbers -/
def lw (k : Nat) : Nat := match k with
  | 0 => spN 115 104 111 114 101 115
  | 1 => spN 116 104 105 110 103 0
  | 2 => spN 98 111 97 116 0 0
  | 3 => spN 119 97 116 101 114 0
  | 4 => spN 119 97 121 0 0 0
  | 5 => spN 108 97 109 112 0 0
  | 6 => spN 110 101 118 101 114 0
  | 7 => spN 119 101 105 103 104 116
  | 8 => spN 114 111 119 115 0 0
  | 9 => spN 104 111 108 100 115 0
  | 10 => spN 108 111 97 100 0 0
  | 11 => spN 97 116 0 0 0 0
  | 12 => spN 97 115 104 111 114 101
  | 13 => spN 97 98 111 97 114 100
  | 14 => spN 97 110 100 0 0 0
  | 15 => spN 111 114 0 0 0 0
  | 16 => spN 110 111 116 0 0 0
  | 17 => spN 109 97 110 121 0 0
  | 18 => spN 114 111 119 101 114 115
  | 19 => spN 98 111 97 116 115 0
  | _ => spN 115 104 111 114 101 0
theorem lw_lt : ∀ k, k < 21 → lw k < 2 ^ 30 := by decide +kernel
/-- 1 more than the number of the first known word from k on that w is; 0: none -/
def kwF (w : Nat) : Nat → Nat → Nat
  | 0, _ => 0
  | n + 1, k => if lw k = w then k + 1 else kwF w n (k + 1)
/-- which known word a token is: 1 more than its number; 0: none -/
def kwT (t : Nat → Nat) : Nat := if t 23 = 1 ∧ t 25 ≤ 6 then kwF (t 28) 21 0 else 0
def tokS (σ : MS) : Nat → Nat := fun k => if k = 28 then gW σ else gN σ k
theorem kwF_le (w : Nat) : ∀ n k, kwF w n k ≤ k + n
  | 0, k => Nat.zero_le _
  | n + 1, k => by
    unfold kwF
    have := kwF_le w n (k + 1)
    split <;> omega
theorem kwT_le (t : Nat → Nat) : kwT t ≤ 21 := by
  unfold kwT
  split
  · exact kwF_le _ 21 0
  · exact Nat.zero_le _
