/-! ===== all that is come to: states, crossings, in the order of their finding ===== -/
def flT (τ : Td) (a b : Nat) : Nat := if tN τ 37 = 0 then (if a = b then 0 else 1) else tA τ 48 (4 * a + b)
def stT (τ : Td) : Nat := st0 (tA τ 43) (tN τ 31) (tN τ 33)
def bsT (τ : Td) (w x gone gb lg : Nat) : Nat := bs (bfT τ) (tN τ 29) (tN τ 30) (tN τ 31) (tN τ 33) w x gone gb lg
def abT (τ : Td) (w s : Nat) : Nat := ab (bfT τ) (tN τ 29) (tN τ 33) w s
def bhT (τ : Td) (x b to s : Nat) : Nat := bh (tN τ 30) (tN τ 33) x b to s
abbrev goalT (τ : Td) (x : Nat) : Prop := setN x (tN τ 29 - 1) (tN τ 30) = 2 ^ tN τ 30 - 1
abbrev mayT (τ : Td) (hd ld : Nat → Nat) (b s : Nat) : Prop := ¬ rowN (tA τ 39) s (tN τ 30) = 0 ∧ popc s ≤ hd b ∧ sumN (tA τ 38) s (tN τ 30) ≤ ld b
abbrev okE (τ : Td) (w x b to s : Nat) : Prop := ndf s (setN x (bo x b) (tN τ 30)) = 0 ∧ abT τ w s = 0 ∧ bsT τ w x s (1 * 2 ^ b) 1 = 0 ∧ bsT τ w (bhT τ x b to s) 0 0 0 = 0
abbrev canG (τ : Td) (x b to : Nat) : Prop := ¬ flT τ (bo x b) to = 0 ∧ (tN τ 33 = 0 ∨ la x = bo x b)
abbrev XT : Type := Nat × (Nat → Nat) × (Nat → Nat) × Nat × (Nat → Nat) × (Nat → Nat) × (Nat → Nat) × (Nat → Nat) × (Nat → Nat)
def xn (X : XT) : Nat := X.1
def xst (X : XT) : Nat → Nat := X.2.1
def xfar (X : XT) : Nat → Nat := X.2.2.1
def xe (X : XT) : Nat := X.2.2.2.1
def xeb (X : XT) : Nat → Nat := X.2.2.2.2.1
def xet (X : XT) : Nat → Nat := X.2.2.2.2.2.1
def xes (X : XT) : Nat → Nat := X.2.2.2.2.2.2.1
def xej (X : XT) : Nat → Nat := X.2.2.2.2.2.2.2.1
def xfs (X : XT) : Nat → Nat := X.2.2.2.2.2.2.2.2
def xAdd (X : XT) (f y : Nat) : XT := (xn X + 1, va_up (xst X) (xn X) y, va_up (xfar X) (xn X) f, X.2.2.2)
def xEdge (X : XT) (b to s j : Nat) : XT := (xn X, xst X, xfar X, xe X + 1, va_up (xeb X) (xe X) b, va_up (xet X) (xe X) to, va_up (xes X) (xe X) s, va_up (xej X) (xe X) j, xfs X)
def xFst (X : XT) (k : Nat) : XT := (xn X, xst X, xfar X, xe X, xeb X, xet X, xes X, xej X, va_up (xfs X) k (xe X))
/-- the first place below n where y stands; n: none -/
def ixN (st : Nat → Nat) (y : Nat) : Nat → Nat
  | 0 => 0
  | n + 1 => if ixN st y n < n then ixN st y n else if st n = y then n else n + 1
theorem ixN_le (st : Nat → Nat) (y : Nat) : ∀ n, ixN st y n ≤ n
  | 0 => Nat.le_refl _
  | n + 1 => by
    unfold ixN
    have := ixN_le st y n
    split
    · omega
    · split <;> omega
theorem ixN_n {st : Nat → Nat} {y : Nat} : ∀ {n : Nat}, ixN st y n = n → ∀ j, j < n → st j ≠ y
  | 0, _, j, hj => absurd hj (by omega)
  | n + 1, h, j, hj => by
    unfold ixN at h
    by_cases c : ixN st y n < n
    · rw [if_pos c] at h
      omega
    · rw [if_neg c] at h
      by_cases c2 : st n = y
      · rw [if_pos c2] at h
        omega
      · have hn : ixN st y n = n := by have := ixN_le st y n; omega
        by_cases e : j = n
        · rw [e]; exact c2
        · exact ixN_n hn j (by omega)
theorem ixN_lt {st : Nat → Nat} {y : Nat} : ∀ {n : Nat}, ixN st y n < n → st (ixN st y n) = y ∧ ∀ j, j < ixN st y n → st j ≠ y
  | 0, h => absurd h (by omega)
  | n + 1, h => by
    unfold ixN at h ⊢
    by_cases c : ixN st y n < n
    · rw [if_pos c]
      exact ixN_lt c
    · rw [if_neg c] at h ⊢
      by_cases c2 : st n = y
      · rw [if_pos c2]
        have hn : ixN st y n = n := by have := ixN_le st y n; omega
        exact ⟨c2, fun j hj e => ixN_n hn j hj e⟩
      · rw [if_neg c2] at h
        omega
theorem ixN_of {st : Nat → Nat} {y n j : Nat} (hj : j < n) (e : st j = y) (hi : ∀ i, i < n → ∀ k, k < n → st i = st k → i = k) : ixN st y n = j := by
  have h1 := ixN_le st y n
  by_cases c : ixN st y n < n
  · exact hi _ c _ hj ((ixN_lt c).1.trans e.symm)
  · exact absurd e (ixN_n (by omega) j hj)
theorem ixN_no {st : Nat → Nat} {y n : Nat} (h : ∀ j, j < n → st j ≠ y) : ixN st y n = n := by
  have h1 := ixN_le st y n
  by_cases c : ixN st y n < n
  · exact absurd (ixN_lt c).1 (h _ c)
  · omega
theorem ixN_congr {f g : Nat → Nat} {y : Nat} : ∀ {n : Nat}, (∀ i, i < n → f i = g i) → ixN f y n = ixN g y n
  | 0, _ => rfl
  | n + 1, h => by
    unfold ixN
    rw [ixN_congr (fun i hi => h i (by omega)), h n (by omega)]
def xStep (X : XT) (k b to s y : Nat) : Option XT := if ixN (xst X) y (xn X) = xn X ∧ xn X = 2000 then none else if xe X = 40000 then none else some (xEdge (if ixN (xst X) y (xn X) = xn X then xAdd X (xfar X k + 1) y else X) b to s (ixN (xst X) y (xn X)))
/-- a row of sets, each one that may cross as a step -/
def xF (q : Nat → Bool) (stp : Nat → XT → Option XT) : List Nat → XT → Option XT
  | [], X => some X
  | s :: l, X => if q s = true then (stp s X).bind (xF q stp l) else xF q stp l X
theorem xF_filter (p q : Nat → Bool) (stp : Nat → XT → Option XT) : ∀ (l : List Nat) (X : XT), xF q stp (l.filter p) X = xF (fun s => p s && q s) stp l X
  | [], X => rfl
  | s :: l, X => by
    rw [List.filter_cons]
    by_cases c : p s = true
    · rw [if_pos c]
      show (if q s = true then (stp s X).bind (xF q stp (l.filter p)) else xF q stp (l.filter p) X) = if (p s && q s) = true then (stp s X).bind (xF (fun s => p s && q s) stp l) else xF (fun s => p s && q s) stp l X
      have e : xF q stp (l.filter p) = xF (fun s => p s && q s) stp l := funext fun Y => xF_filter p q stp l Y
      rw [e, c, Bool.true_and]
    · rw [if_neg c]
      show _ = if (p s && q s) = true then _ else _
      rw [if_neg (by simp [c])]
      exact xF_filter p q stp l X
/-- the sets of all things but the empty one -/
def allS (τ : Td) : List Nat := List.range' 1 (2 ^ tN τ 30 - 1)
def ok_B (τ : Td) (w x b to s : Nat) : Bool := decide (okE τ w x b to s)
def mayB (τ : Td) (hd ld : Nat → Nat) (b s : Nat) : Bool := decide (mayT τ hd ld b s)
/-- the sets that boat b may take, but for laws -/
def mayL (τ : Td) (hd ld : Nat → Nat) (b : Nat) : List Nat := (allS τ).filter (mayB τ hd ld b)
abbrev Wc : Type := Td × (Nat → Nat) × (Nat → Nat) × Nat
def xSets (c : Wc) (k x b to : Nat) (X : XT) : Option XT := xF (ok_B c.1 c.2.2.2 x b to) (fun s X => xStep X k b to s (bhT c.1 x b to s)) (mayL c.1 c.2.1 c.2.2.1 b) X
def xTo (c : Wc) (k x b : Nat) : Nat → Nat → XT → Option XT
  | 0, _, X => some X
  | n + 1, to, X => (if canG c.1 x b to then xSets c k x b to X else some X).bind (xTo c k x b n (to + 1))
def xBo (c : Wc) (k x : Nat) : Nat → Nat → XT → Option XT
  | 0, _, X => some X
  | n + 1, b, X => (xTo c k x b (tN c.1 29) 0 X).bind (xBo c k x n (b + 1))
def xK (c : Wc) : Nat → Nat → XT → Option XT
  | 0, _, _ => none
  | n + 1, k, X => if k < xn X then (if bsT c.1 c.2.2.2 (stT c.1) 0 0 0 = 0 then xBo c k (xst X k) (tN c.1 31) 0 (xFst X k) else some (xFst X k)).bind (xK c n (k + 1)) else some (xFst X (xn X))
def xOne (x : Nat) : XT := (1, fun _ => x, fun _ => 0, 0, fun _ => 0, fun _ => 0, fun _ => 0, fun _ => 0, fun _ => 0)
def expl (c : Wc) : Option XT := xK c 2001 0 (xOne (stT c.1))
/-! ===== tables of numbers by open places ===== -/
def cntN (f : Nat → Nat) : Nat → Nat
  | 0 => 0
  | n + 1 => cntN f n + if f n = 0 then 0 else 1
theorem cntN_full {f : Nat → Nat} : ∀ {n : Nat}, (∀ i, i < n → f i ≠ 0) → cntN f n = n
  | 0, _ => rfl
  | n + 1, h => by
    unfold cntN
    rw [cntN_full (fun i hi => h i (by omega)), if_neg (h n (by omega))]
theorem cntN_lo {f : Nat → Nat} {k v : Nat} : ∀ {n : Nat}, n ≤ k → cntN (va_up f k v) n = cntN f n
  | 0, _ => rfl
  | n + 1, h => by
    unfold cntN
    rw [cntN_lo (show n ≤ k by omega), va_up_n (by omega)]
theorem cntN_up {f : Nat → Nat} {k v : Nat} (hv : v ≠ 0) (hf : f k = 0) : ∀ {n : Nat}, k < n → cntN (va_up f k v) n = cntN f n + 1
  | 0, h => absurd h (by omega)
  | n + 1, h => by
    unfold cntN
    by_cases c : k = n
    · subst c
      rw [va_up_e, if_neg hv, if_pos hf, cntN_lo (Nat.le_refl _)]
    · rw [cntN_up hv hf (show k < n by omega), va_up_n (Ne.symm c)]
      omega
theorem cntN_0 {f : Nat → Nat} : ∀ {n : Nat}, (∀ i, i < n → f i = 0) → cntN f n = 0
  | 0, _ => rfl
  | n + 1, h => by
    unfold cntN
    rw [cntN_0 (fun i hi => h i (by omega)), if_pos (h n (by omega))]
/-- the table 'sl' of 8192 places (0: free; j + 1: the state j) holds the n states st, sought from h on -/
def SLt (h : Nat → Nat) (sl st : Nat → Nat) (n : Nat) : Prop := n ≤ 2000 ∧ (∀ k, k < 8192 → sl k ≤ n) ∧ (∀ j, j < n → ∃ d, d < 8192 ∧ sl ((h (st j) + d) % 8192) = j + 1 ∧ ∀ e, e < d → sl ((h (st j) + e) % 8192) ≠ 0) ∧ cntN sl 8192 = n ∧ ∀ i, i < n → ∀ k, k < n → st i = st k → i = k
theorem SLt.free {h sl st : Nat → Nat} {n x d : Nat} (H : SLt h sl st n) (hd : d < 8192) (hz : sl ((h x + d) % 8192) = 0) (hp : ∀ e, e < d → sl ((h x + e) % 8192) ≠ 0 ∧ st (sl ((h x + e) % 8192) - 1) ≠ x) : ∀ j, j < n → st j ≠ x := by
  intro j hj e
  obtain ⟨dj, h1, h2, h3⟩ := H.2.2.1 j hj
  rw [e] at h2 h3
  rcases Nat.lt_trichotomy dj d with c | c | c
  · have := (hp dj c).2
    rw [h2] at this
    exact this e
  · rw [c, hz] at h2
    omega
  · exact h3 d c hz
theorem SLt.room {h sl st : Nat → Nat} {n x d : Nat} (H : SLt h sl st n) (hp : ∀ e, e < d → sl ((h x + e) % 8192) ≠ 0) : d < 8192 := by
  by_cases c : d < 8192
  · exact c
  · exfalso
    have hall : ∀ i, i < 8192 → sl i ≠ 0 := fun i hi => by
      have := hp ((i + 8192 - h x % 8192) % 8192) (by omega)
      rw [show (h x + (i + 8192 - h x % 8192) % 8192) % 8192 = i by omega] at this
      exact this
    have := cntN_full hall
    have h4 := H.2.2.2.1
    have h5 := H.1
    omega
theorem SLt.add {h sl st : Nat → Nat} {n x d : Nat} (H : SLt h sl st n) (hn : n < 2000) (hd : d < 8192) (hz : sl ((h x + d) % 8192) = 0) (hp : ∀ e, e < d → sl ((h x + e) % 8192) ≠ 0 ∧ st (sl ((h x + e) % 8192) - 1) ≠ x) : SLt h (va_up sl ((h x + d) % 8192) (n + 1)) (va_up st n x) (n + 1) := by
  have hnew := H.free hd hz hp
  have hne : ∀ i, sl i ≠ 0 → i ≠ (h x + d) % 8192 := fun i hi e => hi (by rw [e]; exact hz)
  refine ⟨by omega, fun k hk => ?_, fun j hj => ?_, ?_, fun i hi k hk e => ?_⟩
  · have := H.2.1 k hk
    exact va_upQ (P := fun v => v ≤ n + 1) (by omega) (Nat.le_refl _)
  · by_cases c : j = n
    · subst c
      refine ⟨d, hd, ?_, fun e he => ?_⟩
      · rw [va_up_e, va_up_e]
      · rw [va_up_e, va_up_n (hne _ (hp e he).1)]
        exact (hp e he).1
    · obtain ⟨dj, h1, h2, h3⟩ := H.2.2.1 j (by omega)
      refine ⟨dj, h1, ?_, fun e he => ?_⟩
      · rw [va_up_n c, va_up_n (hne _ (by rw [h2]; omega))]
        exact h2
      · rw [va_up_n c, va_up_n (hne _ (h3 e he))]
        exact h3 e he
  · rw [cntN_up (by omega) hz (Nat.mod_lt _ (by decide)), H.2.2.2.1]
  · by_cases c1 : i = n
    · by_cases c2 : k = n
      · omega
      · rw [c1, va_up_e, va_up_n c2] at e
        exact absurd e.symm (hnew k (by omega))
    · by_cases c2 : k = n
      · rw [c2, va_up_e, va_up_n c1] at e
        exact absurd e (hnew i (by omega))
      · rw [va_up_n c1, va_up_n c2] at e
        exact H.2.2.2.2 i (by omega) k (by omega) e
theorem SLt.congr {h sl st st2 : Nat → Nat} {n : Nat} (H : SLt h sl st n) (e : ∀ i, i < n → st2 i = st i) : SLt h sl st2 n :=
  ⟨H.1, H.2.1, fun j hj => by rw [e j hj]; exact H.2.2.1 j hj, H.2.2.2.1, fun i hi k hk q => H.2.2.2.2 i hi k hk (by rw [← e i hi, ← e k hk]; exact q)⟩
theorem SLt.nil {h sl st : Nat → Nat} (hz : ∀ i, i < 8192 → sl i = 0) : SLt h sl st 0 := ⟨by decide, fun k hk => by rw [hz k hk]; exact Nat.le_refl _, fun j hj => absurd hj (by omega), cntN_0 hz, fun i hi => absurd hi (by omega)⟩
/-- an array holds a list from lo on -/
def holdsL (f : Nat → Nat) : Nat → List Nat → Prop
  | _, [] => True
  | lo, a :: l => f lo = a ∧ holdsL f (lo + 1) l
theorem holdsL_low {f g : Nat → Nat} : ∀ {l : List Nat} {lo : Nat}, holdsL f lo l → (∀ i, lo ≤ i → i < lo + l.length → g i = f i) → holdsL g lo l
  | [], _, _, _ => trivial
  | a :: l, lo, h, hg => by
    simp only [List.length_cons] at hg
    exact ⟨(hg lo (Nat.le_refl _) (by omega)).trans h.1, holdsL_low h.2 (fun i h1 h2 => hg i (by omega) (by omega))⟩
theorem holdsL_add {f : Nat → Nat} {v : Nat} : ∀ {l : List Nat} {lo : Nat}, holdsL f lo l → f (lo + l.length) = v → holdsL f lo (l ++ [v])
  | [], lo, _, h => ⟨h, trivial⟩
  | a :: l, lo, h, hv => ⟨h.1, holdsL_add h.2 (by rw [← hv]; simp only [List.length_cons]; congr 1; omega)⟩
theorem holdsL_put {f : Nat → Nat} {v lo : Nat} {l : List Nat} (h : holdsL f lo l) : holdsL (va_up f (lo + l.length) v) lo (l ++ [v]) := holdsL_add (holdsL_low h (fun i h1 h2 => va_up_n (by omega))) va_up_e
def hsM (x : Nat) : Nat := (x ^^^ x / 2 ^ 9) * 31 % 8192
