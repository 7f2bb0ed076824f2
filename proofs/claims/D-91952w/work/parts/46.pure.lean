/-! ===== clauses: what is told grows on both sides alike ===== -/
theorem numE_b {t : Nat → Nat} {lo hi : Nat} (h : numE t lo hi = 0) : t 23 = 2 ∧ lo ≤ t 26 ∧ t 26 ≤ hi := by
  unfold numE at h
  split at h
  · exact absurd h (by decide)
  · split at h
    · exact absurd h (by decide)
    · omega
theorem eNum_b {T : Nat → Nat → Nat} {lo hi p : Nat} {z : Nat × Nat} (h : eNum T lo hi p = .ok z) : numE (T p) lo hi = 0 ∧ z = (T p 26, T p 22) := by
  unfold eNum at h
  split at h
  · next c => cases h; exact ⟨c, rfl⟩
  · cases h
theorem eSh_b {T : Nat → Nat → Nat} {S o p : Nat} {z : Nat × Nat} (h : eSh T S o p = .ok z) : shE (T p) S o = 0 ∧ z = (T p 26, T p 22) := by
  unfold eSh at h
  split at h
  · next c => cases h; exact ⟨c, rfl⟩
  · cases h
theorem eNeed_b {T : Nat → Nat → Nat} {k p q : Nat} (h : eNeed T k p = .ok q) : q = T p 22 := by
  unfold eNeed at h
  split at h
  · cases h; rfl
  · cases h
theorem andT_b {α β : Type} {x : Er α} {f : α → Er β} {b : β} (h : andT x f = .ok b) : ∃ a, x = .ok a ∧ f a = .ok b := by
  cases x with
  | ok a => exact ⟨a, rfl, h⟩
  | error e => cases h
def TKg (T : Nat → Nat → Nat) (sz : Nat) : Prop := ∀ p, p ≤ sz → p ≤ T p 22 ∧ T p 22 ≤ sz
theorem thingE_b {T : Nat → Nat → Nat} {lt : Nat → Nat} {n p : Nat} {z : Nat × Nat × Nat × Nat} (h : thingE T lt n p = .ok z) : n ≠ 8 ∧ z.1 = T (T p 22) 27 ∧ z.2.1 ≤ 99 ∧ z.2.2.1 ≤ 99 ∧ ∀ sz, TKg T sz → p ≤ sz → p ≤ z.2.2.2 ∧ z.2.2.2 ≤ sz := by
  unfold thingE at h
  split at h
  · cases h
  · next hn =>
    dsimp only at h
    split at h
    · cases h
    · split at h
      · cases h
      · obtain ⟨q1, e1, h⟩ := andT_b h
        have e1 := eNeed_b e1
        subst e1
        obtain ⟨⟨w, q2⟩, e2, h⟩ := andT_b h
        obtain ⟨a1, a2⟩ := eNum_b e2
        cases a2
        have a3 := numE_b a1
        dsimp only at h
        split at h
        · obtain ⟨⟨mn, q3⟩, e3, h⟩ := andT_b h
          obtain ⟨a4, a5⟩ := eNum_b e3
          cases a5
          have a6 := numE_b a4
          cases h
          refine ⟨hn, rfl, a3.2.2, a6.2.2, fun sz hk hp => ?_⟩
          have k1 := hk p hp
          have k2 := hk _ k1.2
          have k3 := hk _ k2.2
          have k4 := hk _ k3.2
          have k5 := hk _ k4.2
          have k6 := hk _ k5.2
          exact ⟨by dsimp only; omega, k6.2⟩
        · cases h
          refine ⟨hn, rfl, a3.2.2, Nat.zero_le _, fun sz hk hp => ?_⟩
          have k1 := hk p hp
          have k2 := hk _ k1.2
          have k3 := hk _ k2.2
          have k4 := hk _ k3.2
          exact ⟨by dsimp only; omega, k4.2⟩
theorem boatE_b {T : Nat → Nat → Nat} {S B p : Nat} {z : Nat × Nat × Nat × Nat} (h : boatE T S B p = .ok z) : B ≠ 2 ∧ 1 ≤ z.1 ∧ z.1 ≤ 8 ∧ z.2.1 ≤ 999 ∧ z.2.2.1 < S ∧ ∀ sz, TKg T sz → p ≤ sz → p ≤ z.2.2.2 ∧ z.2.2.2 ≤ sz := by
  unfold boatE at h
  split at h
  · cases h
  · next hn =>
    obtain ⟨q1, e1, h⟩ := andT_b h
    have e1 := eNeed_b e1
    subst e1
    obtain ⟨⟨v2, q2⟩, e2, h⟩ := andT_b h
    obtain ⟨a1, a2⟩ := eNum_b e2
    cases a2
    obtain ⟨q3, e3, h⟩ := andT_b h
    have e3 := eNeed_b e3
    subst e3
    obtain ⟨⟨v4, q4⟩, e4, h⟩ := andT_b h
    obtain ⟨a3, a4⟩ := eNum_b e4
    cases a4
    obtain ⟨q5, e5, h⟩ := andT_b h
    have e5 := eNeed_b e5
    subst e5
    obtain ⟨⟨v6, q6⟩, e6, h⟩ := andT_b h
    obtain ⟨a5, a6⟩ := eSh_b e6
    cases a6
    cases h
    refine ⟨hn, (numE_b a1).2.1, (numE_b a1).2.2, (numE_b a3).2.2, shE_lt a5, fun sz hk hp => ?_⟩
    have k1 := hk p hp
    have k2 := hk _ k1.2
    have k3 := hk _ k2.2
    have k4 := hk _ k3.2
    have k5 := hk _ k4.2
    have k6 := hk _ k5.2
    have k7 := hk _ k6.2
    exact ⟨by dsimp only; omega, k7.2⟩
theorem shE_o {t : Nat → Nat} {S o : Nat} (h : shE t S o = 0) : ¬ t 26 + 1 = o := by
  unfold shE at h
  split at h
  · exact absurd h (by decide)
  split at h
  · exact absurd h (by decide)
  split at h
  · exact absurd h (by decide)
  split at h
  · exact absurd h (by decide)
  · assumption
theorem waterE_b {T : Nat → Nat → Nat} {S p : Nat} {z : Nat × Nat × Nat} (h : waterE T S p = .ok z) : z.1 < S ∧ z.2.1 < S ∧ z.1 ≠ z.2.1 ∧ ∀ sz, TKg T sz → p ≤ sz → p ≤ z.2.2 ∧ z.2.2 ≤ sz := by
  unfold waterE at h
  obtain ⟨⟨v1, q1⟩, e1, h⟩ := andT_b h
  obtain ⟨a1, a2⟩ := eSh_b e1
  cases a2
  obtain ⟨⟨v2, q2⟩, e2, h⟩ := andT_b h
  obtain ⟨a3, a4⟩ := eSh_b e2
  cases a4
  cases h
  refine ⟨shE_lt a1, shE_lt a3, fun e => shE_o a3 (by dsimp only at e ⊢; omega), fun sz hk hp => ?_⟩
  have k1 := hk p hp
  have k2 := hk _ k1.2
  have k3 := hk _ k2.2
  exact ⟨by dsimp only; omega, k3.2⟩
theorem lampE_b {T : Nat → Nat → Nat} {S l p : Nat} {z : Nat × Nat} (h : lampE T S l p = .ok z) : l = 0 ∧ z.1 < S ∧ ∀ sz, TKg T sz → p ≤ sz → p ≤ z.2 ∧ z.2 ≤ sz := by
  unfold lampE at h
  split at h
  · cases h
  · next hn =>
    obtain ⟨q1, e1, h⟩ := andT_b h
    have e1 := eNeed_b e1
    subst e1
    obtain ⟨a1, a2⟩ := eSh_b h
    cases a2
    refine ⟨Classical.not_not.mp hn, shE_lt a1, fun sz hk hp => ?_⟩
    have k1 := hk p hp
    have k2 := hk _ k1.2
    have k3 := hk _ k2.2
    exact ⟨by dsimp only; omega, k3.2⟩
/-! names that are asked for only below their number -/
theorem partC_congr {T : Nat → Nat → Nat} {f g : Nat → Nat} {n : Nat} (h : ∀ i, i < n → f i = g i) : partC T f n = partC T g n := by
  funext p
  unfold partC
  rw [nmF_congr (f := f) (g := g) (fun i _ h2 => h i (by omega))]
theorem rdEx_congr {T : Nat → Nat → Nat} {f g : Nat → Nat} {n : Nat} (h : ∀ i, i < n → f i = g i) : ∀ k, rdEx T f n k = rdEx T g n k
  | 0 => rfl
  | k + 1 => by
    have e1 : ∀ ex, rdPart T f n ex = rdPart T g n ex := fun ex => by
      funext p
      unfold rdPart
      rw [partC_congr h]
    have e2 : ∀ ex, rdSum T f n ex = rdSum T g n ex := fun ex => by
      unfold rdSum
      rw [e1]
    have e3 : ∀ ex, rdCmp T f n ex = rdCmp T g n ex := fun ex => by
      funext p
      unfold rdCmp
      rw [e2]
    have e4 : ∀ ex j, rdNot T f n ex j = rdNot T g n ex j := fun ex j => by
      induction j with
      | zero =>
        funext p
        show (if _ then _ else _) = (if _ then _ else _)
        rw [e3]
      | succ j ih =>
        funext p
        show (if _ then andT (rdNot T f n ex j _) _ else _) = (if _ then _ else _)
        rw [e3, ih]
    funext p
    show (if _ then rdOr T f n (rdEx T f n k) p else _) = (if _ then rdOr T g n (rdEx T g n k) p else _)
    unfold rdOr
    rw [e4, rdEx_congr h k]
theorem thingE_congr {T : Nat → Nat → Nat} {f g : Nat → Nat} {n p : Nat} (h : ∀ i, i < n → f i = g i) : thingE T f n p = thingE T g n p := by
  unfold thingE
  dsimp only
  rw [nmF_congr (f := f) (g := g) (fun i _ h2 => h i (by omega))]
theorem neverE_congr {T : Nat → Nat → Nat} {f g : Nat → Nat} {n S L p : Nat} (h : ∀ i, i < n → f i = g i) : neverE T f n S L p = neverE T g n S L p := by
  unfold neverE
  rw [rdEx_congr h]
theorem rdEx_b {T : Nat → Nat → Nat} {lt : Nat → Nat} {nT sz : Nat} (hT : TKo T sz) {p p' : Nat} {f : Fn} (hp : p ≤ sz) (h : rdEx T lt nT 6 p = .ok (p', f)) : p < p' ∧ p' ≤ sz := by
  rw [show rdEx T lt nT 6 p = (if isB (T p) then rdOr T lt nT (rdEx T lt nT 5) p else .error (1, p)) from rfl] at h
  split at h
  · obtain ⟨-, hO⟩ := LC_or hT (LX_rd hT 5) p [] [] 0 [] 701 701 1 0 hp rfl (BS_nil 1) rfl ⟨rfl, rfl⟩ (by have := hT.1; omega) (by have := hT.1; omega)
    obtain ⟨a, b, -⟩ := hO p' f h
    exact ⟨a, b⟩
  · cases h
theorem neverE_b {T : Nat → Nat → Nat} {lt : Nat → Nat} {nT S L p sz : Nat} (hT : TKo T sz) (hk : TKg T sz) (hp : p ≤ sz) {z : Nat × Fn × Nat} (h : neverE T lt nT S L p = .ok z) : L ≠ 12 ∧ p ≤ z.1 ∧ z.1 ≤ sz ∧ (S ≤ 4 → z.2.2 < 7) := by
  unfold neverE at h
  split at h
  · cases h
  · next hn =>
    obtain ⟨⟨q, f⟩, e1, h⟩ := andT_b h
    have k1 := hk p hp
    have k2 := rdEx_b hT k1.2 e1
    have k3 := hk q k2.2
    dsimp only at h
    split at h
    · cases h
      exact ⟨hn, by dsimp only; omega, k3.2, fun _ => by dsimp only; decide⟩
    · split at h
      · cases h
        exact ⟨hn, by dsimp only; omega, k3.2, fun _ => by dsimp only; decide⟩
      · split at h
        · obtain ⟨⟨s, q2⟩, e2, h⟩ := andT_b h
          obtain ⟨a1, a2⟩ := eSh_b e2
          cases a2
          cases h
          have k4 := hk _ k3.2
          have k5 := shE_lt a1
          exact ⟨hn, by dsimp only; omega, k4.2, fun _ => by dsimp only; omega⟩
        · cases h
          exact ⟨hn, by dsimp only; omega, k2.2, fun _ => by dsimp only; decide⟩
/-! what is told, in the model -/
def HL (σ : MS) : Prop := ∀ t, t < 8 → gA σ 40 t < 256
def thingM (σ : MS) (z : Nat × Nat × Nat × Nat) : MS := sN (sA (sA (sA σ 40 (gN σ 30) z.1) 38 (gN σ 30) z.2.1) 39 (gN σ 30) z.2.2.1) 30 (gN σ 30 + 1)
def boatM (σ : MS) (z : Nat × Nat × Nat × Nat) : MS := sN (sA (sA (sA σ 41 (gN σ 31) z.1) 42 (gN σ 31) z.2.1) 43 (gN σ 31) z.2.2.1) 31 (gN σ 31 + 1)
def waterM (σ : MS) (both a b : Nat) : MS := if both = 0 then sA (sN σ 37 1) 48 (4 * a + b) 1 else sA (sA (sN σ 37 1) 48 (4 * a + b) 1) 48 (4 * b + a) 1
def neverM (σ : MS) (lo s : Nat) : MS := sN (sA (sB σ 44 (gN σ 32) (scI s)) 45 (gN σ 32) lo) 32 (gN σ 32 + 1)
theorem va_up2 {f g : Nat → Nat} {n m i v : Nat} (e : n = m) (h : i < m → f i = g i) (hi : i < m + 1) : va_up f n v i = va_up g m v i := by
  subst e
  by_cases c : i = n
  · subst c
    rw [va_up_e, va_up_e]
  · rw [va_up_n c, va_up_n c]
    exact h (by omega)
theorem va_upP {f : Nat → Nat} {P : Nat → Prop} {n i v : Nat} (h : i < n → P (f i)) (hv : P v) (hi : i < n + 1) : P (va_up f n v i) := by
  by_cases c : i = n
  · subst c
    rw [va_up_e]
    exact hv
  · rw [va_up_n c]
    exact h (by omega)
theorem RD.thing {σ : MS} {τ : Td} (h : RD σ τ) (z : Nat × Nat × Nat × Nat) (hn : tN τ 30 ≠ 8) (h1 : z.1 < 256) (h2 : z.2.1 ≤ 99) (h3 : z.2.2.1 ≤ 99) : RD (thingM σ z) (thingU τ z) := by
  obtain ⟨⟨a1, a2, a3, a4, a5, a6⟩, ⟨b1, b2, b3, b4, b5, b6, b7⟩, c1, c2, c3, c4, c5⟩ := h
  refine ⟨⟨a1, congrArg (· + 1) a2, a3, a4, a5, a6⟩, ⟨b1, b2, by show tN τ 30 + 1 ≤ 8; omega, b4, b5, b6, b7⟩, fun i hi => ?_, c2, c3, c4, c5⟩
  have hi : i < tN τ 30 + 1 := hi
  refine ⟨va_up2 a2 (fun q => (c1 i q).1) hi, va_up2 a2 (fun q => (c1 i q).2.1) hi, va_up2 a2 (fun q => (c1 i q).2.2.1) hi, ?_, ?_, ?_⟩
  · exact va_upP (P := fun x => x ≤ 99) (fun q => (c1 i q).2.2.2.1) h2 hi
  · exact va_upP (P := fun x => x ≤ 99) (fun q => (c1 i q).2.2.2.2.1) h3 hi
  · exact va_upP (P := fun x => x < 256) (fun q => (c1 i q).2.2.2.2.2) h1 hi
theorem RD.boat {σ : MS} {τ : Td} (h : RD σ τ) (z : Nat × Nat × Nat × Nat) (hn : tN τ 31 ≠ 2) (h0 : 1 ≤ z.1) (h1 : z.1 ≤ 8) (h2 : z.2.1 ≤ 999) (h3 : z.2.2.1 < tN τ 29) : RD (boatM σ z) (boatU τ z) := by
  obtain ⟨⟨a1, a2, a3, a4, a5, a6⟩, ⟨b1, b2, b3, b4, b5, b6, b7⟩, c1, c2, c3, c4, c5⟩ := h
  refine ⟨⟨a1, a2, congrArg (· + 1) a3, a4, a5, a6⟩, ⟨b1, b2, b3, by show tN τ 31 + 1 ≤ 2; omega, b5, b6, b7⟩, c1, fun i hi => ?_, c3, c4, c5⟩
  have hi : i < tN τ 31 + 1 := hi
  refine ⟨va_up2 a3 (fun q => (c2 i q).1) hi, va_up2 a3 (fun q => (c2 i q).2.1) hi, va_up2 a3 (fun q => (c2 i q).2.2.1) hi, ?_, ?_, ?_, ?_⟩
  · exact va_upP (P := fun x => 1 ≤ x) (fun q => (c2 i q).2.2.2.1) h0 hi
  · exact va_upP (P := fun x => x ≤ 8) (fun q => (c2 i q).2.2.2.2.1) h1 hi
  · exact va_upP (P := fun x => x ≤ 999) (fun q => (c2 i q).2.2.2.2.2.1) h2 hi
  · exact va_upP (P := fun x => x < tN τ 29) (fun q => (c2 i q).2.2.2.2.2.2) h3 hi
theorem RD.wat1 {σ : MS} {τ : Td} (h : RD σ τ) (a b : Nat) (ha : a < tN τ 29) (hb : b < tN τ 29) (hab : a ≠ b) : RD (sA (sN σ 37 1) 48 (4 * a + b) 1) (uA (uN τ 37 1) 48 (4 * a + b) 1) := by
  obtain ⟨⟨a1, a2, a3, a4, a5, a6⟩, ⟨b1, b2, b3, b4, b5, b6, b7⟩, c1, c2, c3, c4, c5⟩ := h
  refine ⟨⟨a1, a2, a3, a4, a5, rfl⟩, ⟨b1, b2, b3, b4, b5, b6, show 1 < 2 by decide⟩, c1, c2, fun i hi => ⟨?_, ?_⟩, fun i hi => ?_, c5⟩
  · show va_up (gA σ 48) _ _ i = va_up (tA τ 48) _ _ i
    by_cases c : i = 4 * a + b
    · rw [c, va_up_e, va_up_e]
    · rw [va_up_n c, va_up_n c]
      exact (c3 i hi).1
  · show va_up (tA τ 48) _ _ i < 2
    by_cases c : i = 4 * a + b
    · rw [c, va_up_e]
      decide
    · rw [va_up_n c]
      exact (c3 i hi).2
  · show va_up (tA τ 48) _ _ _ = 0
    rw [va_up_n (by omega)]
    exact c4 i hi
theorem RD.wat2 {σ : MS} {τ : Td} (h : RD σ τ) (a b : Nat) (ha : a < tN τ 29) (hb : b < tN τ 29) (hab : a ≠ b) : RD (sA σ 48 (4 * a + b) 1) (uA τ 48 (4 * a + b) 1) := by
  obtain ⟨⟨a1, a2, a3, a4, a5, a6⟩, ⟨b1, b2, b3, b4, b5, b6, b7⟩, c1, c2, c3, c4, c5⟩ := h
  refine ⟨⟨a1, a2, a3, a4, a5, a6⟩, ⟨b1, b2, b3, b4, b5, b6, b7⟩, c1, c2, fun i hi => ⟨?_, ?_⟩, fun i hi => ?_, c5⟩
  · show va_up (gA σ 48) _ _ i = va_up (tA τ 48) _ _ i
    by_cases c : i = 4 * a + b
    · rw [c, va_up_e, va_up_e]
    · rw [va_up_n c, va_up_n c]
      exact (c3 i hi).1
  · show va_up (tA τ 48) _ _ i < 2
    by_cases c : i = 4 * a + b
    · rw [c, va_up_e]
      decide
    · rw [va_up_n c]
      exact (c3 i hi).2
  · show va_up (tA τ 48) _ _ _ = 0
    rw [va_up_n (by omega)]
    exact c4 i hi
theorem RD.water {σ : MS} {τ : Td} (h : RD σ τ) (both a b : Nat) (ha : a < tN τ 29) (hb : b < tN τ 29) (hab : a ≠ b) : RD (waterM σ both a b) (waterU τ both a b) := by
  unfold waterM waterU
  dsimp only
  split
  · exact h.wat1 a b ha hb hab
  · exact (h.wat1 a b ha hb hab).wat2 b a hb ha (Ne.symm hab)
theorem RD.lamp {σ : MS} {τ : Td} (h : RD σ τ) (s : Nat) (hs : s < tN τ 29) : RD (sN σ 33 (s + 1)) (uN τ 33 (s + 1)) := by
  obtain ⟨⟨a1, a2, a3, a4, a5, a6⟩, ⟨b1, b2, b3, b4, b5, b6, b7⟩, c1, c2, c3, c4, c5⟩ := h
  exact ⟨⟨a1, a2, a3, a4, rfl, a6⟩, ⟨b1, b2, b3, b4, b5, by show s + 1 ≤ tN τ 29; omega, b7⟩, c1, c2, c3, c4, c5⟩
theorem RD.never {σ : MS} {τ : Td} (h : RD σ τ) {rd : Nat → Nat} {r : List Nat} {wt : Nat → Nat} {wn dp : Nat} {td : Nat → Nat} (f : Fn) (s : Nat) (hn : tN τ 32 ≠ 12) (hs : s < 8) (hpn : pN rd (gN σ 34) (0 :: r)) (hSm : Sm r [f]) (hlow : ∀ i, i < gN σ 34 → rd i = gA σ 46 i) : RD (neverM (XU σ rd (gN σ 34 + r.length + 1) wt wn dp td) (gN σ 34) s) (neverU τ f s) := by
  obtain ⟨⟨a1, a2, a3, a4, a5, a6⟩, ⟨b1, b2, b3, b4, b5, b6, b7⟩, c1, c2, c3, c4, c5⟩ := h
  refine ⟨⟨a1, a2, a3, congrArg (· + 1) a4, a5, a6⟩, ⟨b1, b2, b3, b4, by show tN τ 32 + 1 ≤ 12; omega, b6, b7⟩, c1, c2, c3, c4, fun j hj => ?_⟩
  have hj : j < tN τ 32 + 1 := hj
  show va_up (tA τ 44) (tN τ 32) s j < 8 ∧ upd (gB σ 44) (gN σ 32) (scI s) j = scI (va_up (tA τ 44) (tN τ 32) s j) ∧ ∃ r', pN rd (va_up (gA σ 45) (gN σ 32) (gN σ 34) j) (0 :: r') ∧ Sm r' [va_up (fun j => tF_ τ j) (tN τ 32) f j] ∧ va_up (gA σ 45) (gN σ 32) (gN σ 34) j + r'.length + 1 ≤ gN σ 34 + r.length + 1
  rw [a4]
  by_cases c : j = tN τ 32
  · subst c
    rw [va_up_e, pk_us, va_up_e, show va_up (fun j => tF_ τ j) (tN τ 32) f (tN τ 32) = f from if_pos rfl]
    exact ⟨hs, rfl, r, hpn, hSm, Nat.le_refl _⟩
  · obtain ⟨d1, d2, r', d3, d4, d5⟩ := c5 j (by omega)
    rw [va_up_n c, pk_un c, va_up_n c, show va_up (fun j => tF_ τ j) (tN τ 32) f j = tF_ τ j from if_neg c]
    exact ⟨d1, d2, r', pN_low d3 (by simp only [List.length_cons]; omega) hlow, d4, by omega⟩
theorem semiE_b {T : Nat → Nat → Nat} {sz p : Nat} {τ : Td} {z : Nat × Td} (hT : TKo T sz) (hp : p ≤ sz) (h : semiE T p τ = .ok z) : p < z.1 ∧ z.1 ≤ sz := by
  unfold semiE at h
  split at h
  · next c =>
    cases h
    exact ⟨(hT.2 p hp).2 (by omega), (hT.2 p hp).1⟩
  · cases h
theorem clauseE_b {T : Nat → Nat → Nat} {sz p : Nat} {τ : Td} {z : Nat × Td} (hT : TKo T sz) (hk : TKg T sz) (hp : p ≤ sz) (h : clauseE T τ p = .ok z) : p < z.1 ∧ z.1 ≤ sz := by
  unfold clauseE at h
  split at h
  · obtain ⟨y, e, h⟩ := andT_b h
    have k := (thingE_b e).2.2.2.2 sz hk hp
    have := semiE_b hT k.2 h
    omega
  split at h
  · obtain ⟨y, e, h⟩ := andT_b h
    have k := (boatE_b e).2.2.2.2.2 sz hk hp
    have := semiE_b hT k.2 h
    omega
  split at h
  · obtain ⟨y, e, h⟩ := andT_b h
    have k := (waterE_b e).2.2.2 sz hk hp
    have := semiE_b hT k.2 h
    omega
  split at h
  · obtain ⟨y, e, h⟩ := andT_b h
    have k := (lampE_b e).2.2 sz hk hp
    have := semiE_b hT k.2 h
    omega
  split at h
  · obtain ⟨y, e, h⟩ := andT_b h
    have k := neverE_b hT hk hp e
    have := semiE_b hT k.2.2.1 h
    omega
  · cases h
