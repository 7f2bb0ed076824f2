/-! ===== all crossings that nothing bars are found ===== -/
def XCr (X Y : XT) (b to s : Nat) : Prop := ∃ e, xe X ≤ e ∧ e < xe Y ∧ xeb Y e = b ∧ xet Y e = to ∧ xes Y e = s
theorem XCr.later {τ : Td} {x : Nat} {X Y Z : XT} {b to s : Nat} (h : XCr X Y b to s) (hq : XQ τ x Y Z) : XCr X Z b to s := by
  obtain ⟨e, h1, h2, h3, h4, h5⟩ := h
  obtain ⟨a1, a2, a3, a4⟩ := hq.1 e h2
  exact ⟨e, h1, by have := hq.2.2.2.1; omega, a1.trans h3, a2.trans h4, a3.trans h5⟩
theorem XCr.sooner {X0 X Y : XT} {b to s : Nat} (h : XCr X Y b to s) (hq : xe X0 ≤ xe X) : XCr X0 Y b to s := by
  obtain ⟨e, h1, h2, h3⟩ := h
  exact ⟨e, by omega, h2, h3⟩
theorem xStep_c {τ : Td} {x : Nat} {X Y : XT} {k b to s : Nat} (h : xStep X k b to s (bhT τ x b to s) = some Y) : XCr X Y b to s := by
  unfold xStep at h
  split at h
  · cases h
  · split at h
    · cases h
    · cases h
      split
      · exact ⟨xe X, Nat.le_refl _, by show xe X < xe X + 1; omega, va_up_e, va_up_e, va_up_e⟩
      · exact ⟨xe X, Nat.le_refl _, by show xe X < xe X + 1; omega, va_up_e, va_up_e, va_up_e⟩
theorem xF_c {τ : Td} {x k b to : Nat} {q : Nat → Bool} : ∀ {l : List Nat} {X Y : XT}, xF q (fun s X => xStep X k b to s (bhT τ x b to s)) l X = some Y → ∀ s ∈ l, q s = true → XCr X Y b to s
  | [], X, Y, h, s, hs, _ => by cases hs
  | s :: l, X, Y, h, s', hs, hq => by
    have h : (if q s = true then (xStep X k b to s (bhT τ x b to s)).bind (xF q (fun s X => xStep X k b to s (bhT τ x b to s)) l) else xF q (fun s X => xStep X k b to s (bhT τ x b to s)) l X) = some Y := h
    rcases List.mem_cons.mp hs with rfl | hs
    · rw [if_pos hq] at h
      obtain ⟨Z, h1, h2⟩ := obind_some h
      exact (xStep_c h1).later (xF_q (τ := τ) (x := x) (fun s X Y h => xStep_q h) h2)
    · split at h
      · obtain ⟨Z, h1, h2⟩ := obind_some h
        exact (xF_c h2 s' hs hq).sooner (xStep_q h1).2.2.2.1
      · exact xF_c h s' hs hq
theorem xTo_c {c : Wc} {k x b : Nat} : ∀ {n to : Nat} {X Y : XT}, xTo c k x b n to X = some Y → ∀ t, to ≤ t → t < to + n → canG c.1 x b t → ∀ s ∈ mayL c.1 c.2.1 c.2.2.1 b, ok_B c.1 c.2.2.2 x b t s = true → XCr X Y b t s
  | 0, to, X, Y, h, t, h1, h2, _, _, _, _ => by omega
  | n + 1, to, X, Y, h, t, h1, h2, hc, s, hs, hq => by
    obtain ⟨Z, g1, g2⟩ := obind_some (show (if canG c.1 x b to then xSets c k x b to X else some X).bind (xTo c k x b n (to + 1)) = some Y from h)
    by_cases e : t = to
    · subst e
      rw [if_pos hc] at g1
      exact (xF_c g1 s hs hq).later (xTo_q g2)
    · have g3 : xe X ≤ xe Z := by
        split at g1
        · exact (xF_q (τ := c.1) (x := x) (fun s X Y h => xStep_q h) g1).2.2.2.1
        · cases g1; exact Nat.le_refl _
      exact (xTo_c g2 t (by omega) (by omega) hc s hs hq).sooner g3
theorem xBo_c {c : Wc} {k x : Nat} : ∀ {n b : Nat} {X Y : XT}, xBo c k x n b X = some Y → ∀ b', b ≤ b' → b' < b + n → ∀ t, t < tN c.1 29 → canG c.1 x b' t → ∀ s ∈ mayL c.1 c.2.1 c.2.2.1 b', ok_B c.1 c.2.2.2 x b' t s = true → XCr X Y b' t s
  | 0, b, X, Y, h, b', h1, h2, _, _, _, _, _, _ => by omega
  | n + 1, b, X, Y, h, b', h1, h2, t, ht, hc, s, hs, hq => by
    obtain ⟨Z, g1, g2⟩ := obind_some (show (xTo c k x b (tN c.1 29) 0 X).bind (xBo c k x n (b + 1)) = some Y from h)
    by_cases e : b' = b
    · subst e
      exact (xTo_c g1 t (Nat.zero_le _) (by omega) hc s hs hq).later (xBo_q g2)
    · exact (xBo_c g2 b' (by omega) (by omega) t ht hc s hs hq).sooner (xTo_q g1).2.2.2.1
/-- nothing found is lost later -/
theorem xK_c {c : Wc} : ∀ {n k : Nat} {X Y : XT}, xK c n k X = some Y → k ≤ xn X → (∀ j, j < k → xfs X j ≤ xe X) → (∀ e, e < xe X → xej X e < xn X) →
    (∀ e, e < xe X → xeb Y e = xeb X e ∧ xet Y e = xet X e ∧ xes Y e = xes X e) ∧ (∀ j, j < xn X → xst Y j = xst X j) ∧ (∀ j, j < k → xfs Y j = xfs X j) ∧ xfs Y k = xe X ∧ xn X ≤ xn Y ∧
    (bsT c.1 c.2.2.2 (stT c.1) 0 0 0 = 0 → ∀ j, k ≤ j → j < xn Y → ∀ b, b < tN c.1 31 → ∀ t, t < tN c.1 29 → canG c.1 (xst Y j) b t → ∀ s ∈ mayL c.1 c.2.1 c.2.2.1 b, ok_B c.1 c.2.2.2 (xst Y j) b t s = true → ∃ e, xfs Y j ≤ e ∧ e < xfs Y (j + 1) ∧ xeb Y e = b ∧ xet Y e = t ∧ xes Y e = s)
  | 0, k, X, Y, h, _, _, _ => by cases h
  | n + 1, k, X, Y, h, hk, h5, h6 => by
    have h : (if k < xn X then (if bsT c.1 c.2.2.2 (stT c.1) 0 0 0 = 0 then xBo c k (xst X k) (tN c.1 31) 0 (xFst X k) else some (xFst X k)).bind (xK c n (k + 1)) else some (xFst X (xn X))) = some Y := h
    by_cases c0 : k < xn X
    · rw [if_pos c0] at h
      obtain ⟨Z, g1, g2⟩ := obind_some h
      have g : XG (xFst X k) Z ∧ XQ c.1 (xst X k) (xFst X k) Z ∧ (bsT c.1 c.2.2.2 (stT c.1) 0 0 0 = 0 → ∀ b', b' < tN c.1 31 → ∀ t, t < tN c.1 29 → canG c.1 (xst X k) b' t → ∀ s ∈ mayL c.1 c.2.1 c.2.2.1 b', ok_B c.1 c.2.2.2 (xst X k) b' t s = true → XCr (xFst X k) Z b' t s) := by
        split at g1
        · exact ⟨xBo_g g1, xBo_q g1, fun _ b' hb => xBo_c g1 b' (Nat.zero_le _) (by omega)⟩
        · next q => cases g1; exact ⟨XG.rf _, XQ.rf _ _ _, fun w => absurd w q⟩
      obtain ⟨g, ⟨q1, q2, q3, q4, q5⟩, gc⟩ := g
      have q3 : xn X ≤ xn Z := q3
      have q4 : xe X ≤ xe Z := q4
      have fz : ∀ j, j < k → xfs Z j = xfs X j := fun j hj => by rw [g.1]; exact va_up_n (by omega)
      have fk : xfs Z k = xe X := by rw [g.1]; exact va_up_e
      have q2b : ∀ j, j < xn X → xst Z j = xst X j := q2
      have q1b : ∀ e, e < xe X → xeb Z e = xeb X e ∧ xet Z e = xet X e ∧ xes Z e = xes X e ∧ xej Z e = xej X e := q1
      obtain ⟨r1, r2, r3, r4, r5, r6⟩ := xK_c g2 (by omega) (fun j hj => by
        by_cases y : j = k
        · rw [y, fk]; exact q4
        · rw [fz j (by omega)]; have := h5 j (by omega); omega) (g.2.2.2.2.2 h6)
      refine ⟨fun e he => ?_, fun j hj => (r2 j (by omega)).trans (q2b j hj), fun j hj => (r3 j (by omega)).trans (fz j hj), (r3 k (by omega)).trans fk, by omega, fun hs j h1 h2 => ?_⟩
      · obtain ⟨a1, a2, a3⟩ := r1 e (by omega)
        obtain ⟨b1, b2, b3, -⟩ := q1b e he
        exact ⟨a1.trans b1, a2.trans b2, a3.trans b3⟩
      · by_cases y : j = k
        · subst y
          intro b hb t ht hc s hms hok
          have ex : xst Y j = xst X j := (r2 j (by omega)).trans (q2b j c0)
          rw [ex] at hc hok
          obtain ⟨e, e1, e2, e3, e4, e5⟩ := gc hs b hb t ht hc s hms hok
          obtain ⟨a1, a2, a3⟩ := r1 e e2
          exact ⟨e, by rw [r3 j (by omega), fk]; exact e1, by rw [r4]; exact e2, a1.trans e3, a2.trans e4, a3.trans e5⟩
        · exact r6 hs j (by omega) h2
    · rw [if_neg c0] at h
      cases h
      have ek : k = xn X := by omega
      subst ek
      exact ⟨fun e he => ⟨rfl, rfl, rfl⟩, fun j hj => rfl, fun j hj => va_up_n (by omega), va_up_e, Nat.le_refl _, fun hs j h1 h2 => absurd (show j < xn X from h2) (by omega)⟩
theorem expl_c {c : Wc} {X : XT} (h : expl c = some X) (hs : bsT c.1 c.2.2.2 (stT c.1) 0 0 0 = 0) {j b t s : Nat} (hj : j < xn X) (hb : b < tN c.1 31) (ht : t < tN c.1 29) (hc : canG c.1 (xst X j) b t) (hm : s ∈ mayL c.1 c.2.1 c.2.2.1 b) (hok : okE c.1 c.2.2.2 (xst X j) b t s) : ∃ e, xfs X j ≤ e ∧ e < xfs X (j + 1) ∧ xeb X e = b ∧ xet X e = t ∧ xes X e = s :=
  (xK_c h (Nat.zero_le _) (fun j hj => absurd hj (by omega)) (fun e he => absurd he (by show ¬ e < 0; omega))).2.2.2.2.2 hs j (Nat.zero_le _) hj b hb t ht hc s hm (by unfold ok_B; rw [decide_eq_true_eq]; exact hok)
theorem mem_mayL {τ : Td} {hd ld : Nat → Nat} {b s : Nat} (h : mayT τ hd ld b s) (hs : s < 2 ^ tN τ 30) (h0 : s ≠ 0) : s ∈ mayL τ hd ld b := by
  refine List.mem_filter.mpr ⟨?_, by unfold mayB; rw [decide_eq_true_eq]; exact h⟩
  unfold allS
  rw [List.mem_range']
  exact ⟨s - 1, by omega, by omega⟩
theorem rowN_0 (mn : Nat → Nat) : ∀ n, rowN mn 0 n = 0
  | 0 => rfl
  | n + 1 => by
    unfold rowN
    rw [rowN_0 mn n, if_neg (fun q => by unfold bt at q; simp at q)]
/-- a play that nothing bars stays among what is found -/
theorem expl_p {τ : Td} {X : XT} (h : expl (c0T τ) = some X) : ∀ (l : List Mv), lgL τ l → ∃ k, k < xn X ∧ xst X k = stL τ l := by
  intro l
  have hw := expl_w h
  have hs := expl_s h
  have key : ∀ n, n ≤ l.length → lgL τ l → ∃ k, k < xn X ∧ xst X k = stL τ (l.take n) := by
    intro n
    induction n with
    | zero => exact fun _ _ => ⟨0, by have := hw.1; omega, hs.1⟩
    | succ n ih =>
      intro hn hl
      obtain ⟨k, hk, ek⟩ := ih (by omega) hl
      obtain ⟨a1, a2, a3, a4, a5, a6, a7⟩ := hl n (by omega)
      rw [← ek] at a4 a6
      have h0 : (l.getD n Mv0).2.2 ≠ 0 := fun q => a5.1 (by rw [q]; exact rowN_0 _ _)
      obtain ⟨e, e1, e2, e3, e4, e5⟩ := expl_c h a7 hk a1 a2 a4 (mem_mayL a5 a3 h0) a6
      refine ⟨xej X e, hw.ej hk e2, ?_⟩
      rw [hs.2 k hk e e1 e2, e3, e4, e5, ek]
      have ht : l.take (n + 1) = l.take n ++ [l.getD n Mv0] := by
        rw [List.take_succ, List.getD_eq_getElem?_getD]
        have : l[n]? = some (l[n]'(by omega)) := List.getElem?_eq_getElem (by omega)
        rw [this]
        rfl
      rw [ht, stL_add]
  intro hl
  have := key l.length (Nat.le_refl _) hl
  rwa [List.take_length] at this
