/-! ===== the pure side: what a law's code is worth ===== -/
def stA (σ : MS) (k : Nat) (f : Nat → Nat) : MS := (σ.1, σ.2.1, σ.2.2.1, fun j => if j = k then f else σ.2.2.2.1 j, σ.2.2.2.2)
def stB (σ : MS) (k : Nat) (f : Nat → Int32) : MS := (σ.1, σ.2.1, σ.2.2.1, σ.2.2.2.1, fun j => if j = k then f else σ.2.2.2.2.1 j, σ.2.2.2.2.2)
theorem sB_stB (σ : MS) (k i : Nat) (f : Nat → Int32) (v : Int32) : sB (stB σ k f) k i v = stB σ k (upd f i v) := by
  unfold sB stB
  simp only [if_true]
  congr 5
  funext j
  split <;> rfl
theorem sA_stA (σ : MS) (k i v : Nat) (f : Nat → Nat) : sA (stA σ k f) k i v = stA σ k (va_up f i v) := by
  unfold sA stA
  simp only [if_true]
  congr 4
  funext j
  split <;> rfl
theorem stB_self (σ : MS) (k : Nat) : stB σ k (gB σ k) = σ := by
  obtain ⟨a, b, c, d, e, f⟩ := σ
  unfold stB gB
  dsimp only
  congr 5
  funext j
  split
  · next h => rw [h]
  · rfl
theorem stA_self (σ : MS) (k : Nat) : stA σ k (gA σ k) = σ := by
  obtain ⟨a, b, c, d, e, f⟩ := σ
  unfold stA gA
  dsimp only
  congr 4
  funext j
  split
  · next h => rw [h]
  · rfl
theorem sA_eq (σ : MS) (k i v : Nat) : sA σ k i v = stA σ k (va_up (gA σ k) i v) := rfl
theorem sB_eq (σ : MS) (k i : Nat) (v : Int32) : sB σ k i v = stB σ k (upd (gB σ k) i v) := rfl
theorem stB_stA (σ : MS) (k j : Nat) (f : Nat → Int32) (g : Nat → Nat) : stB (stA σ j g) k f = stA (stB σ k f) j g := rfl
theorem stA_stA (σ : MS) (k : Nat) (f g : Nat → Nat) : stA (stA σ k f) k g = stA σ k g := by
  unfold stA
  dsimp only
  congr 4
  funext j
  split <;> rfl
theorem stB_stB (σ : MS) (k : Nat) (f g : Nat → Int32) : stB (stB σ k f) k g = stB σ k g := by
  unfold stB
  dsimp only
  congr 5
  funext j
  split <;> rfl
def wkI (act : Nat) (a b : Int32) : Int32 := if act = 4 then (if a ≠ 0 ∧ b ≠ 0 then 1 else 0) else if act = 5 then (if a ≠ 0 ∨ b ≠ 0 then 1 else 0) else if act = 6 then (if a < b then 1 else 0) else if act = 7 then (if a = b then 1 else 0) else if act = 8 then a + b else if act = 9 then a - b else if act = 10 then a * b else if b = 0 then 0 else a / b
def valM (wt mn : Nat → Nat) (T set sh b l which : Nat) : Nat := if which < 100 then bt set which else if which = 117 then popc set else if which = 107 then sumN wt set T else if which = 118 then rowN mn set T else if which = 119 then b else if which = 105 then l else sh
/-- what the code from k on is worth, the pile st (top first), n steps at most -/
def evR (code : Nat → Nat) (val : Nat → Nat) : Nat → Nat → List Int32 → Option Int32
  | 0, _, _ => none
  | n + 1, k, st => if k + 1 < 1200 ∧ st.length < 720 then
      if code k = 0 then (match st with
        | [r] => some r
        | _ => none)
      else if code k = 1 then (if code (k + 1) < 2147483648 then evR code val n (k + 2) (nI (code (k + 1)) :: st) else none)
      else if code k = 2 then (if code (k + 1) < 132 ∧ (code (k + 1) < 100 → code (k + 1) < 32) then evR code val n (k + 2) (nI (val (code (k + 1))) :: st) else none)
      else if code k = 3 then (match st with
        | a :: st' => evR code val n (k + 1) ((if a = 0 then 1 else 0) :: st')
        | [] => none)
      else if code k < 12 then (match st with
        | b :: a :: st' => evR code val n (k + 1) (wkI (code k) a b :: st')
        | _ => none)
      else none
    else none
/-- the pile's array holds the pile -/
def pst (p : Nat → Int32) : List Int32 → Prop
  | [] => True
  | a :: st => p st.length = a ∧ pst p st
theorem pst_up {p : Nat → Int32} {i : Nat} {v : Int32} : ∀ {st : List Int32}, st.length ≤ i → pst p st → pst (upd p i v) st
  | [], _, _ => trivial
  | a :: st, h, hp => by
    rw [List.length_cons] at h
    refine ⟨?_, pst_up (by omega) hp.2⟩
    rw [pk_un (by omega)]
    exact hp.1
theorem pst_push {p : Nat → Int32} {v : Int32} {st : List Int32} (h : pst p st) : pst (upd p st.length v) (v :: st) := ⟨pk_us, pst_up (Nat.le_refl _) h⟩
def scI (n : Nat) : Int32 := match n with
  | 0 => -1
  | 1 => -2
  | 2 => -3
  | k + 3 => nI k
abbrev goes (sc sh S : Nat) : Prop := sc = 0 ∨ (sc = 1 ∧ sh < S) ∨ (sc = 2 ∧ sh = S) ∨ (sc = sh + 3 ∧ sh < S)
/-- which laws bar a group: scopes, worths -/
def maskN (sc : Nat → Nat) (f : Nat → Int32) (sh S : Nat) : Nat → Nat
  | 0 => 0
  | k + 1 => if goes (sc k) sh S ∧ f k ≠ 0 then maskN sc f sh S k ||| 1 * 2 ^ k else maskN sc f sh S k
theorem maskN_lt (sc : Nat → Nat) (f : Nat → Int32) (sh S : Nat) : ∀ n, maskN sc f sh S n < 2 ^ n
  | 0 => by simp [maskN]
  | n + 1 => by
    unfold maskN
    have h := maskN_lt sc f sh S n
    have h2 : 2 ^ n < 2 ^ (n + 1) := Nat.pow_lt_pow_right (by decide) (by omega)
    split
    · exact Nat.or_lt_two_pow (Nat.lt_trans h h2) (by rw [Nat.one_mul]; exact h2)
    · exact Nat.lt_trans h h2
/-- what the model's laws say: bf by shore, boats, lamp, set -/
def BarP (S T L : Nat) (wt mn : Nat → Nat) (scp : Nat → Int32) (lat code : Nat → Nat) (bf : Nat → Nat → Nat → Nat → Nat) : Prop :=
  S ≤ 4 ∧ T ≤ 8 ∧ L ≤ 12 ∧ (∀ t, t < T → mn t < 2147483648) ∧
  ∃ (sc : Nat → Nat) (f : Nat → Nat → Nat → Nat → Nat → Int32), (∀ k, k < L → scp k = scI (sc k) ∧ sc k < 8 ∧ lat k < 2147483648) ∧ (∀ k, k < L → ∀ s sh b l, s < 256 → ∃ n, evR code (valM wt mn T s sh b l) n (lat k) [] = some (f k s sh b l)) ∧ ∀ sh b l s, bf sh b l s = if s = 0 then 0 else maskN sc (fun k => f k s sh b l) sh S L
/-- the cache of what bars -/
def Cch (bf : Nat → Nat → Nat → Nat → Nat) (c : Nat → Nat) : Prop := ∀ s sh b l, s < 256 → sh ≤ 4 → b ≤ 2 → l ≤ 1 → c (((s * 5 + sh) * 3 + b) * 2 + l) = 0 ∨ c (((s * 5 + sh) * 3 + b) * 2 + l) = bf sh b l s + 1
def BarO (σ : MS) (bf : Nat → Nat → Nat → Nat → Nat) : Prop := BarP (gN σ 1) (gN σ 2) (gN σ 4) (gA σ 6) (gA σ 7) (gB σ 14) (gA σ 15) (gA σ 16) bf
theorem BarP.lt {S T L : Nat} {wt mn : Nat → Nat} {scp : Nat → Int32} {lat code : Nat → Nat} {bf : Nat → Nat → Nat → Nat → Nat} (h : BarP S T L wt mn scp lat code bf) (sh b l s : Nat) : bf sh b l s < 4096 := by
  obtain ⟨-, -, hL, -, sc, f, -, -, hb⟩ := h
  rw [hb]
  split
  · decide
  · exact Nat.lt_of_lt_of_le (maskN_lt _ _ _ _ _) (p2_le (b := 12) hL)
def sCP (σ : MS) (c : Nat → Nat) (p : Nat → Int32) : MS := stB (stA σ 50 c) 51 p
theorem sCP_self (σ : MS) : sCP σ (gA σ 50) (gB σ 51) = σ := by
  unfold sCP
  rw [stA_self]
  exact stB_self σ 51
theorem sCP_sCP (σ : MS) (c c' : Nat → Nat) (p p' : Nat → Int32) : sCP (sCP σ c p) c' p' = sCP σ c' p' := by
  unfold sCP
  rw [stB_stA, stB_stB, stB_stA, stB_stA, stA_stA]
theorem va_up_e {f : Nat → Nat} {k v : Nat} : va_up f k v k = v := if_pos rfl
theorem va_up_n {f : Nat → Nat} {k v j : Nat} (h : j ≠ k) : va_up f k v j = f j := if_neg h
theorem Cch.put {bf : Nat → Nat → Nat → Nat → Nat} {c : Nat → Nat} (h : Cch bf c) {s sh b l : Nat} (hsh : sh ≤ 4) (hb : b ≤ 2) (hl : l ≤ 1) : Cch bf (va_up c (((s * 5 + sh) * 3 + b) * 2 + l) (bf sh b l s + 1)) := by
  intro s' sh' b' l' h1 h2 h3 h4
  by_cases e : ((s' * 5 + sh') * 3 + b') * 2 + l' = ((s * 5 + sh) * 3 + b) * 2 + l
  · have e1 : s' = s := by omega
    have e2 : sh' = sh := by omega
    have e3 : b' = b := by omega
    have e4 : l' = l := by omega
    subst e1 e2 e3 e4
    exact Or.inr va_up_e
  · rw [va_up_n e]
    exact h s' sh' b' l' h1 h2 h3 h4
theorem scI_m1 : ∀ n, n < 8 → (scI n = -1 ↔ n = 0) ∧ (scI n = -2 ↔ n = 1) ∧ (scI n = -3 ↔ n = 2) ∧ ∀ k, k < 5 → (scI n = nI k ↔ n = k + 3) := by decide
