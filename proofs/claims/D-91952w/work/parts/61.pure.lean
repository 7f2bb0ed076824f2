/-! ===== what both hold: the state of a run, as the model has it ===== -/
abbrev Mv : Type := Nat × Nat × Nat
/-- what is told, the tape, how much is on it, the fault's place (0: none), the way that is kept, the play's crossings, the law that barred (0: none) -/
abbrev AS : Type := Td × (Nat → Nat) × Nat × Nat × Option (List Mv) × List Mv × Nat
def Mv0 : Mv := (0, 0, 0)
def mvOk (τ : Td) (z : Mv) : Prop := z.1 < 2 ∧ z.2.1 < tN τ 29 ∧ z.2.2 < 256
def KPm (σ : MS) (τ : Td) (l : List Mv) : Prop := gN σ 70 = l.length + 1 ∧ l.length ≤ 2000 ∧ gN σ 71 = tN τ 30 ∧ (∀ i, i < l.length → gA σ 72 i = (l.getD i Mv0).1 ∧ gA σ 73 i = (l.getD i Mv0).2.1 ∧ gA σ 74 i = (l.getD i Mv0).2.2 ∧ gA σ 75 i = mxN (tA τ 39) (l.getD i Mv0).2.2 (tN τ 30)) ∧ (∀ i, i ≤ l.length → gA σ 76 i = stL τ (l.take i) ∧ stL τ (l.take i) < 4194304) ∧ ∀ z ∈ l, mvOk τ z
def KP (σ : MS) (τ : Td) (o : Option (List Mv)) : Prop := match o with
  | none => gN σ 70 = 0
  | some l => KPm σ τ l
def mnL (τ : Td) : List Mv → Nat
  | [] => 0
  | z :: l => mxN (tA τ 39) z.2.2 (tN τ 30) + mnL τ l
/-- a crossing that nothing bars -/
def lgM (τ : Td) (x : Nat) (z : Mv) : Prop := z.1 < tN τ 31 ∧ z.2.1 < tN τ 29 ∧ z.2.2 < 2 ^ tN τ 30 ∧ canG τ x z.1 z.2.1 ∧ mayT τ (tA τ 41) (tA τ 42) z.1 z.2.2 ∧ okE τ 0 x z.1 z.2.1 z.2.2 ∧ bsT τ 0 (stT τ) 0 0 0 = 0
def lgL (τ : Td) (l : List Mv) : Prop := ∀ i, i < l.length → lgM τ (stL τ (l.take i)) (l.getD i Mv0)
def PL (σ : MS) (τ : Td) (l : List Mv) : Prop := gN σ 84 = l.length ∧ l.length ≤ 60 ∧ (∀ i, i ≤ l.length → gA σ 86 i = stL τ (l.take i) ∧ stL τ (l.take i) < 4194304 ∧ gA σ 87 i = mnL τ (l.take i)) ∧ (∀ z ∈ l, mvOk τ z) ∧ lgL τ l
/-- laws that are free, laws that alone bar: none if it's spent -/
noncomputable def lawsN (τ : Td) (is : Nat) : Nat → Nat → Nat → Nat → Option (Nat × Nat)
  | 0, _, fr, al => some (fr, al)
  | n + 1, k, fr, al => if skS τ (tA τ 41) (tA τ 42) (k + 1) = 0 then none else lawsN τ is n (k + 1) (if skS τ (tA τ 41) (tA τ 42) (k + 1) = is then fr ||| 1 * 2 ^ k else fr) (if is = 1 ∧ 2 ≤ skS τ (tA τ 41) (tA τ 42) (k + 1) then al ||| 1 * 2 ^ k else al)
noncomputable def lawsT (τ : Td) : Option (Nat × Nat) := if skS τ (tA τ 41) (tA τ 42) 0 = 0 then none else lawsN τ (skS τ (tA τ 41) (tA τ 42) 0) (tN τ 32) 0 0 0
/-- the least hold: 0 spent, 1 none, 2 + it -/
noncomputable def holdN (τ : Td) : Nat → Nat → Nat
  | 0, _ => 1
  | n + 1, k => if skS τ (va_up (tA τ 41) 0 k) (tA τ 42) 0 = 0 then 0 else if 2 ≤ skS τ (va_up (tA τ 41) 0 k) (tA τ 42) 0 then k + 2 else holdN τ n (k + 1)
noncomputable def holdT (τ : Td) : Nat := holdN τ 8 1
noncomputable def loadN (τ : Td) : Nat → Nat → Nat → Nat
  | 0, _, hi => hi + 2
  | n + 1, lo, hi => if lo < hi then (if skS τ (tA τ 41) (va_up (tA τ 42) 0 ((lo + hi) / 2)) 0 = 0 then 0 else if 2 ≤ skS τ (tA τ 41) (va_up (tA τ 42) 0 ((lo + hi) / 2)) 0 then loadN τ n lo ((lo + hi) / 2) else loadN τ n ((lo + hi) / 2 + 1) hi) else hi + 2
noncomputable def loadT (τ : Td) : Nat := if skS τ (tA τ 41) (va_up (tA τ 42) 0 999) 0 = 0 then 0 else if skS τ (tA τ 41) (va_up (tA τ 42) 0 999) 0 = 1 then 1 else loadN τ 1000 0 999
def LK (σ : MS) (τ : Td) : Prop := gN σ 78 < 3 ∧ (gN σ 78 = 1 → lawsT τ = some (gN σ 79, gN σ 80)) ∧ (gN σ 78 = 2 → lawsT τ = none)
def SKn (σ : MS) (τ : Td) : Prop := (gA σ 81 0 = 0 ∨ gA σ 81 0 = holdT τ + 1) ∧ (gA σ 81 1 = 0 ∨ gA σ 81 1 = loadT τ + 1)
/-- rounds: what is come to from x with one boat or both; the least number of rounds -/
def RK (rt : Td → Nat) (σ : MS) (τ : Td) : Prop := gN σ 82 = 0 ∨ (gN σ 82 = rt τ + 1 ∧ rt τ < 4000)
def MG (rt : Td → Nat) (σ : MS) (A : AS) : Prop := MF σ A.1 ∧ (gA σ 17 = A.2.1 ∧ gN σ 18 = A.2.2.1 ∧ A.2.2.1 ≤ 700 ∧ (∀ k, k < 700 → A.2.1 k < 256) ∧ HL σ) ∧ (gN σ 20 = A.2.2.2.1 ∧ True) ∧ KP σ A.1 A.2.2.2.2.1 ∧ LK σ A.1 ∧ SKn σ A.1 ∧ RK rt σ A.1 ∧ PL σ A.1 A.2.2.2.2.2.1 ∧ gN σ 85 = A.2.2.2.2.2.2 ∧ A.2.2.2.2.2.2 ≤ 12
def qN : List Nat := [18, 20, 70, 71, 78, 79, 80, 82, 84, 85]
def qA : List Nat := [17, 40, 72, 73, 74, 75, 76, 81, 86, 87]
def QK (σ σ2 : MS) : Prop := (∀ k, k ∈ qN → gN σ2 k = gN σ k) ∧ ∀ k, k ∈ qA → gA σ2 k = gA σ k
theorem EG.q {σ σ2 : MS} (h : EG σ σ2) : QK σ σ2 := ⟨fun k hk => by
  simp only [qN, List.mem_cons, List.mem_nil_iff, or_false] at hk
  exact h.1 k (by omega) (by omega) (by omega) (by omega) (by omega), fun k hk => by
  simp only [qA, List.mem_cons, List.mem_nil_iff, or_false] at hk
  exact h.2.1 k (by omega)⟩
theorem KPm.q {σ σ2 : MS} {τ : Td} {l : List Mv} (h : KPm σ τ l) (h70 : gN σ2 70 = gN σ 70) (h71 : gN σ2 71 = gN σ 71) (hA : ∀ k, 72 ≤ k → k ≤ 76 → gA σ2 k = gA σ k) : KPm σ2 τ l := by
  obtain ⟨a1, a2, a3, a4, a5, a6⟩ := h
  refine ⟨h70.trans a1, a2, h71.trans a3, fun i hi => ?_, fun i hi => ?_, a6⟩
  · rw [hA 72 (by decide) (by decide), hA 73 (by decide) (by decide), hA 74 (by decide) (by decide), hA 75 (by decide) (by decide)]
    exact a4 i hi
  · rw [hA 76 (by decide) (by decide)]
    exact a5 i hi
theorem KP.q {σ σ2 : MS} {τ : Td} {o : Option (List Mv)} (h : KP σ τ o) (h70 : gN σ2 70 = gN σ 70) (h71 : gN σ2 71 = gN σ 71) (hA : ∀ k, 72 ≤ k → k ≤ 76 → gA σ2 k = gA σ k) : KP σ2 τ o := by
  cases o with
  | none => exact h70.trans h
  | some l => exact KPm.q h h70 h71 hA
theorem MG.keep {rt : Td → Nat} {σ σ2 : MS} {A : AS} (h : MG rt σ A) (hM : MF σ2 A.1) (hq : QK σ σ2) : MG rt σ2 A := by
  obtain ⟨-, ⟨b1, b2, b3, b4, b5⟩, ⟨c1, c2⟩, d, e, f, g, p, i, j⟩ := h
  have n : ∀ k, k ∈ qN → gN σ2 k = gN σ k := hq.1
  have a : ∀ k, k ∈ qA → gA σ2 k = gA σ k := hq.2
  refine ⟨hM, ⟨(a 17 (by decide)).trans b1, (n 18 (by decide)).trans b2, b3, b4, fun t ht => by rw [a 40 (by decide)]; exact b5 t ht⟩, ⟨(n 20 (by decide)).trans c1, c2⟩, d.q (n 70 (by decide)) (n 71 (by decide)) (fun k h1 h2 => ?_), ?_, ?_, ?_, ?_, (n 85 (by decide)).trans i, j⟩
  · refine a k ?_
    rcases (show k = 72 ∨ k = 73 ∨ k = 74 ∨ k = 75 ∨ k = 76 by omega) with rfl | rfl | rfl | rfl | rfl <;> decide
  · unfold LK
    rw [n 78 (by decide), n 79 (by decide), n 80 (by decide)]
    exact e
  · unfold SKn
    rw [a 81 (by decide)]
    exact f
  · unfold RK
    rw [n 82 (by decide)]
    exact g
  · unfold PL
    rw [n 84 (by decide), a 86 (by decide), a 87 (by decide)]
    exact p
/-- an int as one of the first n numbers -/
def nOf (a : Int32) (n : Nat) : Option Nat := if 0 ≤ a.toInt ∧ a.toInt < n then some a.toInt.toNat else none
theorem nOf_some {n j : Nat} (hj : j < n) (hn : n < 2147483648) : nOf (nI j) n = some j := by
  unfold nOf
  rw [nI_toInt (by omega), if_pos (by omega)]
  rfl
theorem nOf_none {a : Int32} {n : Nat} (h : ¬ inr a n) (hn : n < 2147483648) : nOf a n = none := by
  unfold nOf
  rw [if_neg]
  rintro ⟨h1, h2⟩
  refine h ⟨a.toInt.toNat, by omega, ?_⟩
  rw [i_eq, nI_toInt (by omega)]
  omega
/-- how an api call ends: R none: thrown -/
abbrev ap (rt : Td → Nat) (m : Nat) (ad : Nat → Nat) (η0 : AH) (R : Option Int32) (A2 : AS) : Rs → AH → Prop := ri fun r η => ∃ σ2, η = MH m ad σ2 η0 ∧ MG rt σ2 A2 ∧ (R = none → gN σ2 0 = 1) ∧ ∀ v, R = some v → r = v ∧ gN σ2 0 = 0
abbrev c0T (τ : Td) : Wc := (τ, tA τ 41, tA τ 42, 0)
/-- the least numbers of crossings -/
noncomputable def d0T (τ : Td) (X : XT) : Nat → Nat := dsF X (glT τ X) (fun _ => 1)
def lostN (f : Nat → Nat) : Nat → Nat
  | 0 => 0
  | n + 1 => lostN f n + if f n = 0 then 1 else 0
def mostN (f : Nat → Nat) : Nat → Nat
  | 0 => 0
  | n + 1 => if mostN f n < f n then f n else mostN f n
theorem lostN_congr {f g : Nat → Nat} : ∀ {n : Nat}, (∀ i, i < n → f i = g i) → lostN f n = lostN g n
  | 0, _ => rfl
  | n + 1, h => by
    unfold lostN
    rw [lostN_congr (fun i hi => h i (by omega)), h n (by omega)]
theorem mostN_congr {f g : Nat → Nat} : ∀ {n : Nat}, (∀ i, i < n → f i = g i) → mostN f n = mostN g n
  | 0, _ => rfl
  | n + 1, h => by
    unfold mostN
    rw [mostN_congr (fun i hi => h i (by omega)), h n (by omega)]
theorem lostN_le (f : Nat → Nat) : ∀ n, lostN f n ≤ n
  | 0 => Nat.le_refl _
  | n + 1 => by
    unfold lostN
    have := lostN_le f n
    split <;> omega
noncomputable def spReached (A : AS) (a : Int32) : Option Int32 := (nOf a 4).map fun j => match expl (c0T A.1) with
  | none => -1
  | some X => if j = 0 then nI (xn X) else if j = 1 then nI (xe X) else if j = 2 then nI (lostN (d0T A.1 X) (xn X)) else nI (mostN (xfar X) (xn X))
/-- the way that fewest keeps -/
noncomputable def spFewest (A : AS) : Int32 × AS := match expl (c0T A.1) with
  | none => (-2, A)
  | some X => if d0T A.1 X 0 = 0 then (-1, A) else (nI (d0T A.1 X 0 - 1), (A.1, A.2.1, A.2.2.1, A.2.2.2.1, some (pathL X (d0T A.1 X) (fun _ => 1) (d0T A.1 X 0) 0), A.2.2.2.2.2))
noncomputable def spHint (A : AS) (a : Int32) : Option Int32 := (nOf a 4).map fun j => match expl (c0T A.1) with
  | none => -2
  | some X => if d0T A.1 X (ixN (xst X) (stL A.1 A.2.2.2.2.2.1) (xn X)) = 0 ∨ j = 0 then oI (d0T A.1 X (ixN (xst X) (stL A.1 A.2.2.2.2.2.1) (xn X))) else if d0T A.1 X (ixN (xst X) (stL A.1 A.2.2.2.2.2.1) (xn X)) = 1 then -1 else
    nI (if j = 1 then xeb X (bestE X (d0T A.1 X) (fun _ => 1) (ixN (xst X) (stL A.1 A.2.2.2.2.2.1) (xn X))) else if j = 2 then xet X (bestE X (d0T A.1 X) (fun _ => 1) (ixN (xst X) (stL A.1 A.2.2.2.2.2.1) (xn X))) else xes X (bestE X (d0T A.1 X) (fun _ => 1) (ixN (xst X) (stL A.1 A.2.2.2.2.2.1) (xn X))))
noncomputable def spWays (A : AS) : Int32 := match expl (c0T A.1) with
  | none => -2
  | some X => if d0T A.1 X 0 = 0 then nI 0 else nI (wyF X (d0T A.1 X) (d0T A.1 X 0 - 1) 0)
