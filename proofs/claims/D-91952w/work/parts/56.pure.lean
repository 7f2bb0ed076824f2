/-! ===== distances ===== -/
/-- rows of crossings lie one behind the other -/
def XW (X : XT) : Prop := 1 ≤ xn X ∧ xn X ≤ 2000 ∧ xe X ≤ 40000 ∧ (∀ k, k < xn X → xfs X k ≤ xfs X (k + 1)) ∧ (∀ k, k ≤ xn X → xfs X k ≤ xe X) ∧ ∀ e, e < xe X → xej X e < xn X
theorem obind_some {α β : Type} {o : Option α} {f : α → Option β} {b : β} (h : o.bind f = some b) : ∃ a, o = some a ∧ f a = some b := by
  cases o with
  | none => cases h
  | some a => exact ⟨a, rfl, h⟩
/-- what a step keeps: first rows, old states; counts grow -/
def XG (X Y : XT) : Prop := xfs Y = xfs X ∧ xn X ≤ xn Y ∧ xe X ≤ xe Y ∧ (xn X ≤ 2000 → xn Y ≤ 2000) ∧ (xe X ≤ 40000 → xe Y ≤ 40000) ∧ ((∀ e, e < xe X → xej X e < xn X) → ∀ e, e < xe Y → xej Y e < xn Y)
theorem XG.rf (X : XT) : XG X X := ⟨rfl, Nat.le_refl _, Nat.le_refl _, fun h => h, fun h => h, fun h => h⟩
theorem XG.trans {X Y Z : XT} (h : XG X Y) (h2 : XG Y Z) : XG X Z := ⟨h2.1.trans h.1, Nat.le_trans h.2.1 h2.2.1, Nat.le_trans h.2.2.1 h2.2.2.1, fun q => h2.2.2.2.1 (h.2.2.2.1 q), fun q => h2.2.2.2.2.1 (h.2.2.2.2.1 q), fun q => h2.2.2.2.2.2 (h.2.2.2.2.2 q)⟩
theorem xStep_g {X Y : XT} {k b to s y : Nat} (h : xStep X k b to s y = some Y) : XG X Y := by
  unfold xStep at h
  have hl := ixN_le (xst X) y (xn X)
  split at h
  · cases h
  · next h1 =>
    split at h
    · cases h
    · next h2 =>
      cases h
      split
      · next h3 =>
        refine ⟨rfl, by show xn X ≤ xn X + 1; omega, by show xe X ≤ xe X + 1; omega, fun q => by show xn X + 1 ≤ 2000; omega, fun q => by show xe X + 1 ≤ 40000; omega, fun q e he => ?_⟩
        have he : e < xe X + 1 := he
        show va_up (xej X) (xe X) _ e < xn X + 1
        by_cases c : e = xe X
        · rw [c, va_up_e]; omega
        · rw [va_up_n c]
          have := q e (by omega)
          omega
      · next h3 =>
        refine ⟨rfl, Nat.le_refl _, by show xe X ≤ xe X + 1; omega, fun q => q, fun q => by show xe X + 1 ≤ 40000; omega, fun q e he => ?_⟩
        have he : e < xe X + 1 := he
        show va_up (xej X) (xe X) _ e < xn X
        by_cases c : e = xe X
        · rw [c, va_up_e]; omega
        · rw [va_up_n c]
          exact q e (by omega)
theorem xF_g {q : Nat → Bool} {stp : Nat → XT → Option XT} (hs : ∀ s X Y, stp s X = some Y → XG X Y) : ∀ {l : List Nat} {X Y : XT}, xF q stp l X = some Y → XG X Y
  | [], X, Y, h => by cases h; exact XG.rf X
  | s :: l, X, Y, h => by
    have h : (if q s = true then (stp s X).bind (xF q stp l) else xF q stp l X) = some Y := h
    split at h
    · obtain ⟨Z, h1, h2⟩ := obind_some h
      exact (hs s X Z h1).trans (xF_g hs h2)
    · exact xF_g hs h
theorem xTo_g {c : Wc} {k x b : Nat} : ∀ {n to : Nat} {X Y : XT}, xTo c k x b n to X = some Y → XG X Y
  | 0, to, X, Y, h => by cases h; exact XG.rf X
  | n + 1, to, X, Y, h => by
    obtain ⟨Z, h1, h2⟩ := obind_some (show (if canG c.1 x b to then xSets c k x b to X else some X).bind (xTo c k x b n (to + 1)) = some Y from h)
    have g1 : XG X Z := by
      split at h1
      · exact xF_g (fun s X Y h => xStep_g h) h1
      · cases h1; exact XG.rf X
    exact g1.trans (xTo_g h2)
theorem xBo_g {c : Wc} {k x : Nat} : ∀ {n b : Nat} {X Y : XT}, xBo c k x n b X = some Y → XG X Y
  | 0, b, X, Y, h => by cases h; exact XG.rf X
  | n + 1, b, X, Y, h => by
    obtain ⟨Z, h1, h2⟩ := obind_some (show (xTo c k x b (tN c.1 29) 0 X).bind (xBo c k x n (b + 1)) = some Y from h)
    exact (xTo_g h1).trans (xBo_g h2)
theorem xK_w {c : Wc} : ∀ {n k : Nat} {X Y : XT}, xK c n k X = some Y → k ≤ xn X → 1 ≤ xn X → xn X ≤ 2000 → xe X ≤ 40000 → (∀ j, j + 1 < k → xfs X j ≤ xfs X (j + 1)) → (∀ j, j < k → xfs X j ≤ xe X) → (∀ e, e < xe X → xej X e < xn X) → XW Y
  | 0, k, X, Y, h, _, _, _, _, _, _, _ => by cases h
  | n + 1, k, X, Y, h, hk, h1, h2, h3, h4, h5, h6 => by
    have h : (if k < xn X then (if bsT c.1 c.2.2.2 (stT c.1) 0 0 0 = 0 then xBo c k (xst X k) (tN c.1 31) 0 (xFst X k) else some (xFst X k)).bind (xK c n (k + 1)) else some (xFst X (xn X))) = some Y := h
    have f4 : ∀ j, j + 1 < k + 1 → xfs (xFst X k) j ≤ xfs (xFst X k) (j + 1) := fun j hj => by
      show va_up (xfs X) k (xe X) j ≤ va_up (xfs X) k (xe X) (j + 1)
      rw [va_up_n (by omega)]
      by_cases e : j + 1 = k
      · rw [e, va_up_e]
        exact h5 j (by omega)
      · rw [va_up_n e]
        exact h4 j (by omega)
    have f5 : ∀ j, j < k + 1 → xfs (xFst X k) j ≤ xe X := fun j hj => by
      show va_up (xfs X) k (xe X) j ≤ xe X
      by_cases e : j = k
      · rw [e, va_up_e]
        exact Nat.le_refl _
      · rw [va_up_n e]
        exact h5 j (by omega)
    by_cases c0 : k < xn X
    · rw [if_pos c0] at h
      obtain ⟨Z, g1, g2⟩ := obind_some h
      have g : XG (xFst X k) Z := by
        split at g1
        · exact xBo_g g1
        · cases g1; exact XG.rf _
      refine xK_w g2 (by have : xn X ≤ xn Z := g.2.1; omega) (by have : xn X ≤ xn Z := g.2.1; omega) (g.2.2.2.1 h2) (g.2.2.2.2.1 h3) (fun j hj => ?_) (fun j hj => ?_) (g.2.2.2.2.2 h6)
      · rw [g.1]; exact f4 j hj
      · rw [g.1]; have : xe X ≤ xe Z := g.2.2.1; have := f5 j hj; omega
    · rw [if_neg c0] at h
      cases h
      have ek : k = xn X := by omega
      subst ek
      exact ⟨h1, h2, h3, fun j hj => f4 j (by have hj : j < xn X := hj; omega), fun j hj => f5 j (by have hj : j ≤ xn X := hj; omega), h6⟩
theorem expl_w {c : Wc} {X : XT} (h : expl c = some X) : XW X := xK_w h (Nat.zero_le _) (Nat.le_refl _) (by show 1 ≤ 2000; decide) (by show 0 ≤ 40000; decide) (fun j hj => absurd hj (by omega)) (fun j hj => absurd hj (by omega)) (fun e he => absurd he (by show ¬ e < 0; omega))
/-- f (0: none; v + 1) is the least way to a goal by crossings of weights W -/
def EQd (X : XT) (gl : Nat → Prop) (W : Nat → Nat) (f : Nat → Nat) : Prop := ∀ k, k < xn X → (gl k → f k = 1) ∧ (¬ gl k → (f k = 0 → ∀ e, xfs X k ≤ e → e < xfs X (k + 1) → f (xej X e) = 0) ∧ (f k ≠ 0 → (∃ e, xfs X k ≤ e ∧ e < xfs X (k + 1) ∧ f (xej X e) ≠ 0 ∧ f k = f (xej X e) + W e) ∧ ∀ e, xfs X k ≤ e → e < xfs X (k + 1) → f (xej X e) ≠ 0 → f k ≤ f (xej X e) + W e))
theorem XW.ej {X : XT} (h : XW X) {k e : Nat} (hk : k < xn X) (he : e < xfs X (k + 1)) : xej X e < xn X := h.2.2.2.2.2 e (by have := h.2.2.2.2.1 (k + 1) (by omega); omega)
theorem EQd.le {X : XT} {gl : Nat → Prop} {W f g : Nat → Nat} (hw : XW X) (hW : ∀ e, 0 < W e) (hf : EQd X gl W f) (hg : EQd X gl W g) : ∀ v k, k < xn X → f k = v → v ≠ 0 → g k ≠ 0 ∧ g k ≤ v := by
  intro v
  induction v using Nat.strongRecOn with
  | _ v ih =>
    intro k hk hv h0
    by_cases c : gl k
    · have h1 := (hf k hk).1 c
      have h2 := (hg k hk).1 c
      omega
    · obtain ⟨e, e1, e2, e3, e4⟩ := (((hf k hk).2 c).2 (by omega)).1
      have hj := hw.ej hk e2
      have hWe := hW e
      obtain ⟨g1, g2⟩ := ih (f (xej X e)) (by omega) (xej X e) hj rfl e3
      have g3 := (hg k hk).2 c
      have g4 : g k ≠ 0 := fun q => g1 (g3.1 q e e1 e2)
      have g5 := (g3.2 g4).2 e e1 e2 g1
      exact ⟨g4, by omega⟩
theorem EQd.uniq {X : XT} {gl : Nat → Prop} {W f g : Nat → Nat} (hw : XW X) (hW : ∀ e, 0 < W e) (hf : EQd X gl W f) (hg : EQd X gl W g) {k : Nat} (hk : k < xn X) : f k = g k := by
  by_cases c : f k = 0
  · by_cases c2 : g k = 0
    · omega
    · exact absurd c (EQd.le hw hW hg hf _ k hk rfl c2).1
  · have h1 := EQd.le hw hW hf hg _ k hk rfl c
    have h2 := EQd.le hw hW hg hf _ k hk rfl h1.1
    omega
/-- a breadth search behind its round d -/
def BFi (X : XT) (gl : Nat → Prop) (d : Nat) (f : Nat → Nat) : Prop := (∀ k, k < xn X → (f k = 1 ↔ gl k)) ∧ (∀ k, k < xn X → f k ≤ d) ∧ (∀ k, k < xn X → 2 ≤ f k → ∃ e, xfs X k ≤ e ∧ e < xfs X (k + 1) ∧ f k = f (xej X e) + 1) ∧ ∀ k, k < xn X → ¬ gl k → ∀ e, xfs X k ≤ e → e < xfs X (k + 1) → f (xej X e) ≠ 0 → f (xej X e) < d → f k ≠ 0 ∧ f k ≤ f (xej X e) + 1
theorem BFi.done {X : XT} {gl : Nat → Prop} {d : Nat} {f : Nat → Nat} (hw : XW X) (h : BFi X gl d f) (hd : ∀ k, k < xn X → f k ≠ d) : EQd X gl (fun _ => 1) f := by
  obtain ⟨h1, h2, h3, h4⟩ := h
  intro k hk
  refine ⟨fun c => (h1 k hk).mpr c, fun c => ⟨fun q e e1 e2 => ?_, fun q => ⟨?_, fun e e1 e2 e3 => ?_⟩⟩⟩
  · by_cases z : f (xej X e) = 0
    · exact z
    · have hj := hw.ej hk e2
      have a := h2 _ hj
      have b := hd _ hj
      exact absurd q (h4 k hk c e e1 e2 z (by omega)).1
  · obtain ⟨e, e1, e2, e3⟩ := h3 k hk (by have : f k ≠ 1 := fun z => c ((h1 k hk).mp z); omega)
    exact ⟨e, e1, e2, by have : f k ≠ 1 := fun z => c ((h1 k hk).mp z); omega, e3⟩
  · have hj := hw.ej hk e2
    have a := h2 _ hj
    have b := hd _ hj
    exact (h4 k hk c e e1 e2 e3 (by omega)).2
/-- inside a round: the first k are done -/
def BFr (X : XT) (d k : Nat) (f f' : Nat → Nat) : Prop := (∀ j, k ≤ j → j < xn X → f' j = f j) ∧ ∀ j, j < k → j < xn X → (f j ≠ 0 → f' j = f j) ∧ (f j = 0 → ((∃ e, xfs X j ≤ e ∧ e < xfs X (j + 1) ∧ f (xej X e) = d) ∧ f' j = d + 1) ∨ ((∀ e, xfs X j ≤ e → e < xfs X (j + 1) → f (xej X e) ≠ d) ∧ f' j = 0))
theorem BFr.eq {X : XT} {d k j : Nat} {f f' : Nat → Nat} (hd : 1 ≤ d) (h : BFr X d k f f') (hj : j < xn X) (hf : f j ≤ d) : f' j = d ↔ f j = d := by
  by_cases c : k ≤ j
  · rw [h.1 j c hj]
  · obtain ⟨a, b⟩ := h.2 j (by omega) hj
    by_cases z : f j = 0
    · rcases b z with ⟨-, e⟩ | ⟨-, e⟩ <;> omega
    · rw [a z]
theorem BFr.old {X : XT} {d k j : Nat} {f f' : Nat → Nat} (h : BFr X d k f f') (hj : j < xn X) : (f j ≠ 0 → f' j = f j) ∧ (f' j ≠ 0 → f' j ≤ d → f' j = f j) := by
  by_cases c : k ≤ j
  · rw [h.1 j c hj]
    exact ⟨fun _ => rfl, fun _ _ => rfl⟩
  · obtain ⟨a, b⟩ := h.2 j (by omega) hj
    refine ⟨a, fun h1 h2 => ?_⟩
    by_cases z : f j = 0
    · rcases b z with ⟨-, e⟩ | ⟨-, e⟩ <;> omega
    · exact a z
theorem BFi.next {X : XT} {gl : Nat → Prop} {d : Nat} {f f' : Nat → Nat} (hw : XW X) (hd : 1 ≤ d) (h : BFi X gl d f) (hr : BFr X d (xn X) f f') : BFi X gl (d + 1) f' := by
  obtain ⟨h1, h2, h3, h4⟩ := h
  refine ⟨fun k hk => ?_, fun k hk => ?_, fun k hk q => ?_, fun k hk c e e1 e2 e3 e4 => ?_⟩
  · rw [← h1 k hk]
    obtain ⟨a, b⟩ := hr.2 k hk hk
    by_cases z : f k = 0
    · rcases b z with ⟨-, e⟩ | ⟨-, e⟩ <;> omega
    · rw [a z]
  · obtain ⟨a, b⟩ := hr.2 k hk hk
    have := h2 k hk
    by_cases z : f k = 0
    · rcases b z with ⟨-, e⟩ | ⟨-, e⟩ <;> omega
    · rw [a z]; omega
  · obtain ⟨a, b⟩ := hr.2 k hk hk
    by_cases z : f k = 0
    · rcases b z with ⟨⟨e, e1, e2, e3⟩, e4⟩ | ⟨-, e⟩
      · exact ⟨e, e1, e2, by rw [e4, (hr.old (hw.ej hk e2)).1 (by omega), e3]⟩
      · omega
    · rw [a z] at q ⊢
      obtain ⟨e, e1, e2, e3⟩ := h3 k hk q
      exact ⟨e, e1, e2, by rw [e3, (hr.old (hw.ej hk e2)).1 (by omega)]⟩
  · have hj := hw.ej hk e2
    have eo := (hr.old hj).2 e3 (by omega)
    rw [eo] at e3 e4 ⊢
    obtain ⟨a, b⟩ := hr.2 k hk hk
    by_cases z : f k = 0
    · rcases b z with ⟨-, e5⟩ | ⟨e5, e6⟩
      · by_cases y : f (xej X e) = d
        · omega
        · have := h4 k hk c e e1 e2 e3 (by omega)
          omega
      · by_cases y : f (xej X e) = d
        · exact absurd y (e5 e e1 e2)
        · have := h4 k hk c e e1 e2 e3 (by omega)
          omega
    · rw [a z]
      refine ⟨z, ?_⟩
      have := h2 k hk
      by_cases y : f (xej X e) = d
      · omega
      · exact (h4 k hk c e e1 e2 e3 (by omega)).2
theorem BFr.skip {X : XT} {d k : Nat} {f f' : Nat → Nat} (h : BFr X d k f f') (hk : k < xn X) (hf : f k ≠ 0) : BFr X d (k + 1) f f' := ⟨fun j h1 h2 => h.1 j (by omega) h2, fun j h1 h2 => by
  by_cases c : j = k
  · subst c
    exact ⟨fun _ => h.1 j (Nat.le_refl _) h2, fun q => absurd q hf⟩
  · exact h.2 j (by omega) h2⟩
theorem BFr.no {X : XT} {d k : Nat} {f f' : Nat → Nat} (h : BFr X d k f f') (hk : k < xn X) (hf : f k = 0) (hn : ∀ e, xfs X k ≤ e → e < xfs X (k + 1) → f (xej X e) ≠ d) : BFr X d (k + 1) f f' := ⟨fun j h1 h2 => h.1 j (by omega) h2, fun j h1 h2 => by
  by_cases c : j = k
  · subst c
    exact ⟨fun q => absurd hf q, fun _ => Or.inr ⟨hn, (h.1 j (Nat.le_refl _) h2).trans hf⟩⟩
  · exact h.2 j (by omega) h2⟩
theorem BFr.yes {X : XT} {d k : Nat} {f f' : Nat → Nat} (h : BFr X d k f f') (hk : k < xn X) (hf : f k = 0) (hn : ∃ e, xfs X k ≤ e ∧ e < xfs X (k + 1) ∧ f (xej X e) = d) : BFr X d (k + 1) f (va_up f' k (d + 1)) := ⟨fun j h1 h2 => by rw [va_up_n (by omega)]; exact h.1 j (by omega) h2, fun j h1 h2 => by
  by_cases c : j = k
  · subst c
    rw [va_up_e]
    exact ⟨fun q => absurd hf q, fun _ => Or.inl ⟨hn, rfl⟩⟩
  · rw [va_up_n c]
    exact h.2 j (by omega) h2⟩
theorem cntN_le (f : Nat → Nat) : ∀ n, cntN f n ≤ n
  | 0 => Nat.le_refl _
  | n + 1 => by
    unfold cntN
    have := cntN_le f n
    split <;> omega
