/-! ===== ways: the first of the best ones ===== -/
theorem cntN_upl (f : Nat → Nat) (k v : Nat) : ∀ n, cntN (va_up f k v) n ≤ cntN f n + 1
  | 0 => Nat.zero_le _
  | n + 1 => by
    unfold cntN
    by_cases c : n = k
    · subst c
      rw [cntN_lo (Nat.le_refl _)]
      split <;> split <;> omega
    · rw [va_up_n c]
      have := cntN_upl f k v n
      omega
/-- the first place from e on, n at most, where P holds -/
def fstB (P : Nat → Bool) : Nat → Nat → Nat
  | 0, e => e
  | n + 1, e => if P e = true then e else fstB P n (e + 1)
theorem fstB_ok {P : Nat → Bool} : ∀ {n e : Nat}, (∃ i, e ≤ i ∧ i < e + n ∧ P i = true) → P (fstB P n e) = true ∧ e ≤ fstB P n e ∧ fstB P n e < e + n
  | 0, e, ⟨i, h1, h2, _⟩ => absurd h1 (by omega)
  | n + 1, e, ⟨i, h1, h2, h3⟩ => by
    unfold fstB
    by_cases c : P e = true
    · rw [if_pos c]
      exact ⟨c, Nat.le_refl _, by omega⟩
    · rw [if_neg c]
      have hi : i ≠ e := fun q => c (by rw [← q]; exact h3)
      have := fstB_ok (P := P) (n := n) (e := e + 1) ⟨i, by omega, by omega, h3⟩
      exact ⟨this.1, by omega, by omega⟩
theorem fstB_congr {P Q : Nat → Bool} : ∀ {n e : Nat}, (∀ i, e ≤ i → i < e + n → P i = Q i) → fstB P n e = fstB Q n e
  | 0, e, _ => rfl
  | n + 1, e, h => by
    unfold fstB
    rw [h e (Nat.le_refl _) (by omega), fstB_congr (fun i h1 h2 => h i (by omega) (by omega))]
def goodE (X : XT) (f W : Nat → Nat) (k e : Nat) : Bool := decide (f (xej X e) ≠ 0 ∧ f (xej X e) + W e = f k)
def bestE (X : XT) (f W : Nat → Nat) (k : Nat) : Nat := fstB (goodE X f W k) (xfs X (k + 1) - xfs X k) (xfs X k)
def mvE (X : XT) (e : Nat) : Nat × Nat × Nat := (xeb X e, xet X e, xes X e)
def pathL (X : XT) (f W : Nat → Nat) : Nat → Nat → List (Nat × Nat × Nat)
  | 0, _ => []
  | n + 1, k => if f k ≤ 1 then [] else mvE X (bestE X f W k) :: pathL X f W n (xej X (bestE X f W k))
theorem bestE_ok {X : XT} {gl : Nat → Prop} {f W : Nat → Nat} (h : EQd X gl W f) (hw : XW X) {k : Nat} (hk : k < xn X) (hf : 1 < f k) : xfs X k ≤ bestE X f W k ∧ bestE X f W k < xfs X (k + 1) ∧ f (xej X (bestE X f W k)) ≠ 0 ∧ f (xej X (bestE X f W k)) + W (bestE X f W k) = f k ∧ xej X (bestE X f W k) < xn X := by
  have hg : ¬ gl k := fun q => by have := (h k hk).1 q; omega
  obtain ⟨e, e1, e2, e3, e4⟩ := (((h k hk).2 hg).2 (by omega)).1
  have hm := hw.2.2.2.1 k hk
  have := fstB_ok (P := goodE X f W k) (n := xfs X (k + 1) - xfs X k) (e := xfs X k) ⟨e, e1, by omega, by unfold goodE; rw [decide_eq_true_eq]; exact ⟨e3, e4.symm⟩⟩
  unfold bestE
  obtain ⟨a, b, c⟩ := this
  have a2 := a
  unfold goodE at a2
  rw [decide_eq_true_eq] at a2
  exact ⟨b, by omega, a2.1, a2.2, hw.ej hk (by omega)⟩
theorem bestE_congr {X : XT} {f g W : Nat → Nat} (hw : XW X) {k : Nat} (hk : k < xn X) (h : ∀ j, j < xn X → f j = g j) : bestE X f W k = bestE X g W k := by
  unfold bestE
  have hm := hw.2.2.2.1 k hk
  refine fstB_congr (fun i h1 h2 => ?_)
  unfold goodE
  rw [h k hk, h _ (hw.ej hk (show i < xfs X (k + 1) by omega))]
theorem pathL_congr {X : XT} {gl : Nat → Prop} {f g W : Nat → Nat} (hf : EQd X gl W f) (hw : XW X) (h : ∀ j, j < xn X → f j = g j) : ∀ {n k : Nat}, k < xn X → pathL X f W n k = pathL X g W n k
  | 0, k, hk => rfl
  | n + 1, k, hk => by
    unfold pathL
    rw [← h k hk, ← bestE_congr hw hk h]
    split
    · rfl
    · next c =>
      rw [pathL_congr hf hw h (bestE_ok hf hw hk (by omega)).2.2.2.2]
theorem pathL_len {X : XT} {gl : Nat → Prop} {f W : Nat → Nat} (hf : EQd X gl W f) (hw : XW X) (hW : ∀ e, 0 < W e) : ∀ {n k : Nat} {g : Nat → Nat}, k < xn X → (∀ j, j < xn X → g j ≠ 0 → f k < f j) → (pathL X f W n k).length + 1 + cntN g (xn X) ≤ xn X
  | n, k, g, hk, hg => by
    have h0 : g k = 0 := Classical.byContradiction fun q => by have := hg k hk q; omega
    have hc := cntN_up (v := 1) (by decide) h0 hk
    have hl := cntN_le (va_up g k 1) (xn X)
    match n with
    | 0 => show 0 + 1 + _ ≤ _; omega
    | n + 1 =>
      unfold pathL
      split
      · show 0 + 1 + _ ≤ _; omega
      · next c =>
        obtain ⟨b1, b2, b3, b4, b5⟩ := bestE_ok hf hw hk (by omega)
        have hWe := hW (bestE X f W k)
        have := pathL_len hf hw hW (n := n) (g := va_up g k 1) b5 (fun j hj q => by
          by_cases y : j = k
          · subst y; omega
          · rw [va_up_n y] at q
            have := hg j hj q
            omega)
        simp only [List.length_cons]
        omega
theorem pathL_le {X : XT} {gl : Nat → Prop} {f W : Nat → Nat} (hf : EQd X gl W f) (hw : XW X) (hW : ∀ e, 0 < W e) {n k : Nat} (hk : k < xn X) : (pathL X f W n k).length + 1 ≤ 2000 := by
  have := pathL_len hf hw hW (n := n) (g := fun _ => 0) hk (fun j hj q => absurd rfl q)
  have := hw.2.1
  omega
/-- the path's weights sum up -/
def sumW (W : Nat → Nat) : List Nat → Nat
  | [] => 0
  | e :: l => W e + sumW W l
def pathE (X : XT) (f W : Nat → Nat) : Nat → Nat → List Nat
  | 0, _ => []
  | n + 1, k => if f k ≤ 1 then [] else bestE X f W k :: pathE X f W n (xej X (bestE X f W k))
theorem pathE_L (X : XT) (f W : Nat → Nat) : ∀ n k, pathL X f W n k = (pathE X f W n k).map (mvE X)
  | 0, k => rfl
  | n + 1, k => by
    unfold pathL pathE
    split
    · rfl
    · rw [List.map_cons, pathE_L X f W n]
theorem pathE_sum {X : XT} {gl : Nat → Prop} {f W : Nat → Nat} (hf : EQd X gl W f) (hw : XW X) (hW : ∀ e, 0 < W e) : ∀ {n k : Nat}, k < xn X → f k ≠ 0 → f k ≤ n → f k = sumW W (pathE X f W n k) + 1
  | 0, k, hk, h0, hn => by omega
  | n + 1, k, hk, h0, hn => by
    unfold pathE
    split
    · show _ = 0 + 1; omega
    · next c =>
      obtain ⟨b1, b2, b3, b4, b5⟩ := bestE_ok hf hw hk (by omega)
      have hWe := hW (bestE X f W k)
      have := pathE_sum hf hw hW (n := n) b5 b3 (by omega)
      show _ = (_ + _) + 1
      omega
theorem sumW_1 : ∀ l : List Nat, sumW (fun _ => 1) l = l.length
  | [] => rfl
  | e :: l => by
    show 1 + sumW _ l = _
    rw [sumW_1 l, List.length_cons]
    omega
theorem sumW_lin (m : Nat → Nat) (A : Nat) : ∀ l : List Nat, sumW (fun e => m e * A + 1) l = A * sumW m l + l.length
  | [] => rfl
  | e :: l => by
    show (m e * A + 1) + sumW _ l = A * (m e + sumW m l) + _
    rw [sumW_lin m A l, List.length_cons, Nat.mul_add, Nat.mul_comm A (m e)]
    omega
/-! crossings are what they say -/
def XQ (τ : Td) (x : Nat) (X Y : XT) : Prop := (∀ e, e < xe X → xeb Y e = xeb X e ∧ xet Y e = xet X e ∧ xes Y e = xes X e ∧ xej Y e = xej X e) ∧ (∀ j, j < xn X → xst Y j = xst X j) ∧ xn X ≤ xn Y ∧ xe X ≤ xe Y ∧ ((∀ e, e < xe X → xej X e < xn X) → ∀ e, xe X ≤ e → e < xe Y → xej Y e < xn Y ∧ xst Y (xej Y e) = bhT τ x (xeb Y e) (xet Y e) (xes Y e))
theorem XQ.rf (τ : Td) (x : Nat) (X : XT) : XQ τ x X X := ⟨fun _ _ => ⟨rfl, rfl, rfl, rfl⟩, fun _ _ => rfl, Nat.le_refl _, Nat.le_refl _, fun _ e h1 h2 => absurd h1 (by omega)⟩
theorem XQ.trans {τ : Td} {x : Nat} {X Y Z : XT} (h : XQ τ x X Y) (h2 : XQ τ x Y Z) : XQ τ x X Z := by
  obtain ⟨a1, a2, a3, a4, a5⟩ := h
  obtain ⟨b1, b2, b3, b4, b5⟩ := h2
  refine ⟨fun e he => ?_, fun j hj => (b2 j (by omega)).trans (a2 j hj), by omega, by omega, fun q e h1 h2 => ?_⟩
  · obtain ⟨c1, c2, c3, c4⟩ := a1 e he
    obtain ⟨d1, d2, d3, d4⟩ := b1 e (by omega)
    exact ⟨d1.trans c1, d2.trans c2, d3.trans c3, d4.trans c4⟩
  · have q2 : ∀ e, e < xe Y → xej Y e < xn Y := fun e he => by
      by_cases c : e < xe X
      · rw [(a1 e c).2.2.2]; have := q e c; omega
      · exact (a5 q e (by omega) he).1
    by_cases c : e < xe Y
    · obtain ⟨c1, c2⟩ := a5 q e h1 c
      obtain ⟨d1, d2, d3, d4⟩ := b1 e c
      rw [d1, d2, d3, d4]
      exact ⟨by omega, by rw [b2 _ c1]; exact c2⟩
    · exact b5 q2 e (by omega) h2
theorem xStep_q {τ : Td} {x : Nat} {X Y : XT} {k b to s : Nat} (h : xStep X k b to s (bhT τ x b to s) = some Y) : XQ τ x X Y := by
  unfold xStep at h
  have hl := ixN_le (xst X) (bhT τ x b to s) (xn X)
  split at h
  · cases h
  · next h1 =>
    split at h
    · cases h
    · next h2 =>
      cases h
      split
      · next h3 =>
        have ea : xe (xAdd X (xfar X k + 1) (bhT τ x b to s)) = xe X := rfl
        refine ⟨fun e he => ⟨va_up_n (by omega), va_up_n (by omega), va_up_n (by omega), va_up_n (by omega)⟩, fun j hj => va_up_n (by omega), by show xn X ≤ xn X + 1; omega, by show xe X ≤ xe X + 1; omega, fun q e e1 e2 => ?_⟩
        have e2 : e < xe X + 1 := e2
        have ee : e = xe X := by omega
        subst ee
        show va_up (xej X) (xe X) _ (xe X) < xn X + 1 ∧ va_up (xst X) (xn X) _ (va_up (xej X) (xe X) _ (xe X)) = bhT τ x (va_up (xeb X) (xe X) b (xe X)) (va_up (xet X) (xe X) to (xe X)) (va_up (xes X) (xe X) s (xe X))
        rw [va_up_e, va_up_e, va_up_e, va_up_e, h3, va_up_e]
        exact ⟨by omega, rfl⟩
      · next h3 =>
        refine ⟨fun e he => ⟨va_up_n (by omega), va_up_n (by omega), va_up_n (by omega), va_up_n (by omega)⟩, fun j hj => rfl, Nat.le_refl _, by show xe X ≤ xe X + 1; omega, fun q e e1 e2 => ?_⟩
        have e2 : e < xe X + 1 := e2
        have ee : e = xe X := by omega
        subst ee
        show va_up (xej X) (xe X) _ (xe X) < xn X ∧ xst X (va_up (xej X) (xe X) _ (xe X)) = bhT τ x (va_up (xeb X) (xe X) b (xe X)) (va_up (xet X) (xe X) to (xe X)) (va_up (xes X) (xe X) s (xe X))
        rw [va_up_e, va_up_e, va_up_e, va_up_e]
        exact ⟨by omega, (ixN_lt (by omega)).1⟩
theorem xF_q {τ : Td} {x : Nat} {q : Nat → Bool} {stp : Nat → XT → Option XT} (hs : ∀ s X Y, stp s X = some Y → XQ τ x X Y) : ∀ {l : List Nat} {X Y : XT}, xF q stp l X = some Y → XQ τ x X Y
  | [], X, Y, h => by cases h; exact XQ.rf τ x X
  | s :: l, X, Y, h => by
    have h : (if q s = true then (stp s X).bind (xF q stp l) else xF q stp l X) = some Y := h
    split at h
    · obtain ⟨Z, h1, h2⟩ := obind_some h
      exact (hs s X Z h1).trans (xF_q hs h2)
    · exact xF_q hs h
theorem xTo_q {c : Wc} {k x b : Nat} : ∀ {n to : Nat} {X Y : XT}, xTo c k x b n to X = some Y → XQ c.1 x X Y
  | 0, to, X, Y, h => by cases h; exact XQ.rf c.1 x X
  | n + 1, to, X, Y, h => by
    obtain ⟨Z, h1, h2⟩ := obind_some (show (if canG c.1 x b to then xSets c k x b to X else some X).bind (xTo c k x b n (to + 1)) = some Y from h)
    have g1 : XQ c.1 x X Z := by
      split at h1
      · exact xF_q (fun s X Y h => xStep_q h) h1
      · cases h1; exact XQ.rf c.1 x X
    exact g1.trans (xTo_q h2)
theorem xBo_q {c : Wc} {k x : Nat} : ∀ {n b : Nat} {X Y : XT}, xBo c k x n b X = some Y → XQ c.1 x X Y
  | 0, b, X, Y, h => by cases h; exact XQ.rf c.1 x X
  | n + 1, b, X, Y, h => by
    obtain ⟨Z, h1, h2⟩ := obind_some (show (xTo c k x b (tN c.1 29) 0 X).bind (xBo c k x n (b + 1)) = some Y from h)
    exact (xTo_q h1).trans (xBo_q h2)
/-- crossings lead where they say; the first state is the start -/
def XSd (τ : Td) (X : XT) : Prop := xst X 0 = stT τ ∧ ∀ k, k < xn X → ∀ e, xfs X k ≤ e → e < xfs X (k + 1) → xst X (xej X e) = bhT τ (xst X k) (xeb X e) (xet X e) (xes X e)
theorem xK_s {c : Wc} : ∀ {n k : Nat} {X Y : XT}, xK c n k X = some Y → k ≤ xn X → 1 ≤ xn X → (∀ j, j < k → xfs X j ≤ xe X) → (∀ e, e < xe X → xej X e < xn X) → xst X 0 = stT c.1 → (∀ j, j < k → ∀ e, xfs X j ≤ e → e < (if j + 1 < k then xfs X (j + 1) else xe X) → xst X (xej X e) = bhT c.1 (xst X j) (xeb X e) (xet X e) (xes X e)) → XSd c.1 Y
  | 0, k, X, Y, h, _, _, _, _, _, _ => by cases h
  | n + 1, k, X, Y, h, hk, h1, h5, h6, h7, h8 => by
    have h : (if k < xn X then (if bsT c.1 c.2.2.2 (stT c.1) 0 0 0 = 0 then xBo c k (xst X k) (tN c.1 31) 0 (xFst X k) else some (xFst X k)).bind (xK c n (k + 1)) else some (xFst X (xn X))) = some Y := h
    by_cases c0 : k < xn X
    · rw [if_pos c0] at h
      obtain ⟨Z, g1, g2⟩ := obind_some h
      have g : XG (xFst X k) Z ∧ XQ c.1 (xst X k) (xFst X k) Z := by
        split at g1
        · exact ⟨xBo_g g1, xBo_q g1⟩
        · cases g1; exact ⟨XG.rf _, XQ.rf _ _ _⟩
      obtain ⟨g, q1, q2, q3, q4, q5⟩ := g
      have q3 : xn X ≤ xn Z := q3
      have q4 : xe X ≤ xe Z := q4
      have fz : ∀ j, j < k → xfs Z j = xfs X j := fun j hj => by rw [g.1]; exact va_up_n (by omega)
      have fk : xfs Z k = xe X := by rw [g.1]; exact va_up_e
      refine xK_s g2 (by omega) (by omega) (fun j hj => ?_) (g.2.2.2.2.2 h6) ((q2 0 (by show 0 < xn X; omega)).trans h7) (fun j hj e e1 e2 => ?_)
      · by_cases y : j = k
        · rw [y, fk]; exact q4
        · rw [fz j (by omega)]; have := h5 j (by omega); omega
      · by_cases y : j = k
        · subst y
          rw [fk] at e1
          rw [if_neg (by omega)] at e2
          rw [q2 j (by show j < xn X; exact c0)]
          exact (q5 h6 e e1 e2).2
        · have hj2 : j < k := by omega
          rw [fz j hj2] at e1
          have e3 : e < (if j + 1 < k then xfs X (j + 1) else xe X) := by
            rw [if_pos (by omega)] at e2
            by_cases y2 : j + 1 = k
            · rw [if_neg (by omega)]
              rw [y2, fk] at e2
              exact e2
            · rw [if_pos (by omega), ← fz (j + 1) (by omega)]
              exact e2
          have e4 : e < xe X := by
            split at e3
            · have := h5 (j + 1) (by omega); omega
            · exact e3
          have q1e : xeb Z e = xeb X e ∧ xet Z e = xet X e ∧ xes Z e = xes X e ∧ xej Z e = xej X e := q1 e e4
          have q2b : ∀ j, j < xn X → xst Z j = xst X j := q2
          obtain ⟨c1, c2, c3, c4⟩ := q1e
          rw [c1, c2, c3, c4, q2b _ (h6 e e4), q2b j (by omega)]
          exact h8 j hj2 e e1 e3
    · rw [if_neg c0] at h
      cases h
      have ek : k = xn X := by omega
      subst ek
      refine ⟨h7, fun j hj e e1 e2 => ?_⟩
      have hj : j < xn X := hj
      have e1 : va_up (xfs X) (xn X) (xe X) j ≤ e := e1
      have e2 : e < va_up (xfs X) (xn X) (xe X) (j + 1) := e2
      rw [va_up_n (by omega)] at e1
      refine h8 j hj e e1 ?_
      by_cases y : j + 1 = xn X
      · rw [if_neg (by omega)]
        rw [y, va_up_e] at e2
        exact e2
      · rw [if_pos (by omega)]
        rw [va_up_n y] at e2
        exact e2
theorem expl_s {c : Wc} {X : XT} (h : expl c = some X) : XSd c.1 X := xK_s h (Nat.zero_le _) (Nat.le_refl _) (fun j hj => absurd hj (by omega)) (fun e he => absurd he (by show ¬ e < 0; omega)) rfl (fun j hj => absurd hj (by omega))
/-- the state behind crossings -/
def stL (τ : Td) (l : List (Nat × Nat × Nat)) : Nat := l.foldl (fun x z => bhT τ x z.1 z.2.1 z.2.2) (stT τ)
theorem stL_add (τ : Td) (l : List (Nat × Nat × Nat)) (z : Nat × Nat × Nat) : stL τ (l ++ [z]) = bhT τ (stL τ l) z.1 z.2.1 z.2.2 := by
  unfold stL
  rw [List.foldl_append]
  rfl
/-- how many ways (a thousand million at most), states d crossings from a goal -/
def capA (a b : Nat) : Nat := if 1000000000 - a < b then 1000000000 else a + b
def foldE (g : Nat → Nat → Nat) : Nat → Nat → Nat → Nat
  | 0, _, a => a
  | n + 1, e, a => foldE g n (e + 1) (g e a)
def wyF (X : XT) (f : Nat → Nat) : Nat → Nat → Nat
  | 0, _ => 1
  | d + 1, k => foldE (fun e a => if f (xej X e) = d + 1 then capA a (wyF X f d (xej X e)) else a) (xfs X (k + 1) - xfs X k) (xfs X k) 0
theorem capA_le {a b : Nat} (h : a ≤ 1000000000) : capA a b ≤ 1000000000 := by unfold capA; split <;> omega
