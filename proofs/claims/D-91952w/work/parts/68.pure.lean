/-! ===== minutes, then crossings: the model's prices ===== -/
def lI (n : Nat) : Int64 := match n with
  | 0 => -1
  | k + 1 => lN k
def stC (σ : MS) (C : Nat → Int64) : MS := (σ.1, σ.2.1, σ.2.2.1, σ.2.2.2.1, σ.2.2.2.2.1, C)
theorem sC_stC (σ : MS) (C : Nat → Int64) (i : Nat) (v : Int64) : sC (stC σ C) i v = stC σ (vp_updL C i v) := rfl
theorem stC_self (σ : MS) : stC σ (gC σ) = σ := rfl
theorem oI_dec (k : Nat) : nI k + Int32.ofInt (-1) = oI k := by
  cases k with
  | zero => decide
  | succ k => exact pk_m1 k
def minE (τ : Td) (X : XT) (e : Nat) : Nat := mxN (tA τ 39) (xes X e) (tN τ 30)
/-- between updates -/
def PRi (X : XT) (gl : Nat → Prop) (W : Nat → Nat) (Wm : Nat) (g : Nat → Nat) : Prop := (∀ k, k < xn X → gl k → g k = 1) ∧ (∀ k, k < xn X → ¬ gl k → g k ≠ 1 ∧ (g k ≠ 0 → ∃ e, xfs X k ≤ e ∧ e < xfs X (k + 1) ∧ g (xej X e) ≠ 0 ∧ g (xej X e) + W e ≤ g k)) ∧ ∀ k, k < xn X → g k ≤ 1 + cntN g (xn X) * Wm
def phi (g : Nat → Nat) : Nat → Nat
  | 0 => 0
  | n + 1 => phi g n + if g n = 0 then 1000000000000 else g n
theorem phi_lo {g : Nat → Nat} {k v : Nat} : ∀ {n : Nat}, n ≤ k → phi (va_up g k v) n = phi g n
  | 0, _ => rfl
  | n + 1, h => by
    unfold phi
    rw [phi_lo (show n ≤ k by omega), va_up_n (by omega)]
theorem phi_up {g : Nat → Nat} {k v : Nat} (hv : v ≠ 0) (h : (g k = 0 ∧ v < 1000000000000) ∨ (g k ≠ 0 ∧ v < g k)) : ∀ {n : Nat}, k < n → phi (va_up g k v) n + 1 ≤ phi g n
  | 0, h2 => absurd h2 (by omega)
  | n + 1, h2 => by
    unfold phi
    by_cases c : n = k
    · subst c
      rw [va_up_e, phi_lo (Nat.le_refl _), if_neg hv]
      split <;> omega
    · rw [va_up_n c]
      have := phi_up hv h (show k < n by omega)
      omega
theorem cntN_up2 {f : Nat → Nat} {k v : Nat} (hv : v ≠ 0) (hf : f k ≠ 0) : ∀ {n : Nat}, cntN (va_up f k v) n = cntN f n
  | 0 => rfl
  | n + 1 => by
    unfold cntN
    rw [cntN_up2 hv hf]
    by_cases c : n = k
    · subst c
      rw [va_up_e, if_neg hv, if_neg hf]
    · rw [va_up_n c]
theorem PRi.put {X : XT} {gl : Nat → Prop} {W g : Nat → Nat} {Wm : Nat} (hw : XW X) (hm : 2001 * Wm + 2 < 1000000000000) (hW : ∀ e, 0 < W e ∧ W e ≤ Wm) (h : PRi X gl W Wm g) {k e : Nat} (hk : k < xn X) (he : xfs X k ≤ e) (he2 : e < xfs X (k + 1)) (h1 : g (xej X e) ≠ 0) (h2 : g k = 0 ∨ g (xej X e) + W e < g k) : PRi X gl W Wm (va_up g k (g (xej X e) + W e)) ∧ phi (va_up g k (g (xej X e) + W e)) (xn X) + 1 ≤ phi g (xn X) := by
  obtain ⟨a1, a2, a3⟩ := h
  have hj := hw.ej hk he2
  have hWe := hW e
  have hb := a3 _ hj
  have hc := cntN_le g (xn X)
  have hn := hw.2.1
  have hng : ¬ gl k := fun q => by have := a1 k hk q; omega
  have hne : xej X e ≠ k := fun q => by rw [q] at h1 h2; omega
  have hmul : cntN g (xn X) * Wm ≤ 2000 * Wm := Nat.mul_le_mul_right _ (by omega)
  have hcnt : cntN g (xn X) ≤ cntN (va_up g k (g (xej X e) + W e)) (xn X) := by
    by_cases c : g k = 0
    · rw [cntN_up (by omega) c hk]; omega
    · rw [cntN_up2 (by omega) c]; exact Nat.le_refl _
  have hmul2 : cntN g (xn X) * Wm ≤ cntN (va_up g k (g (xej X e) + W e)) (xn X) * Wm := Nat.mul_le_mul_right _ hcnt
  refine ⟨⟨fun j hj2 q => ?_, fun j hj2 q => ⟨?_, fun z => ?_⟩, fun j hj2 => ?_⟩, phi_up (by omega) (by omega) hk⟩
  · rw [va_up_n (fun y => hng (by rw [← y]; exact q))]
    exact a1 j hj2 q
  · by_cases y : j = k
    · subst y
      rw [va_up_e]
      omega
    · rw [va_up_n y]
      exact (a2 j hj2 q).1
  · have dec : ∀ i, g i ≠ 0 → va_up g k (g (xej X e) + W e) i ≠ 0 ∧ va_up g k (g (xej X e) + W e) i ≤ g i := fun i hi => by
      by_cases y : i = k
      · subst y
        rw [va_up_e]
        omega
      · rw [va_up_n y]
        exact ⟨hi, Nat.le_refl _⟩
    by_cases y : j = k
    · subst y
      exact ⟨e, he, he2, by rw [va_up_n hne]; exact h1, by rw [va_up_e, va_up_n hne]; exact Nat.le_refl _⟩
    · rw [va_up_n y] at z ⊢
      obtain ⟨e', b1, b2, b3, b4⟩ := (a2 j hj2 q).2 z
      have := dec _ b3
      exact ⟨e', b1, b2, this.1, by omega⟩
  · by_cases y : j = k
    · subst y
      rw [va_up_e]
      by_cases c : g j = 0
      · rw [cntN_up (by omega) c hk, Nat.add_mul, Nat.one_mul]
        omega
      · have := a3 j hj2
        omega
    · rw [va_up_n y]
      have := a3 j hj2
      omega
theorem PRi.done {X : XT} {gl : Nat → Prop} {W g : Nat → Nat} {Wm : Nat} (h : PRi X gl W Wm g) (hd : ∀ k, k < xn X → ∀ e, xfs X k ≤ e → e < xfs X (k + 1) → g (xej X e) ≠ 0 → g k ≠ 0 ∧ g k ≤ g (xej X e) + W e) : EQd X gl W g := by
  obtain ⟨a1, a2, a3⟩ := h
  intro k hk
  refine ⟨a1 k hk, fun c => ⟨fun q e e1 e2 => ?_, fun q => ⟨?_, fun e e1 e2 e3 => (hd k hk e e1 e2 e3).2⟩⟩⟩
  · exact Classical.byContradiction fun z => (hd k hk e e1 e2 z).1 q
  · obtain ⟨e, e1, e2, e3, e4⟩ := (a2 k hk c).2 q
    have := (hd k hk e e1 e2 e3).2
    exact ⟨e, e1, e2, e3, by omega⟩
/-! two weights, one order -/
theorem EQd.scale {X : XT} {gl : Nat → Prop} {m f : Nat → Nat} {A B : Nat} (hw : XW X) (hA : 4096 ≤ A) (hB : 4096 ≤ B) (hf : EQd X gl (fun e => m e * A + 1) f) : EQd X gl (fun e => m e * B + 1) (fun k => if f k = 0 then 0 else (f k - 1) / A * B + (f k - 1) % A + 1) ∧ (∀ k, k < xn X → f k ≠ 0 → (f k - 1) % A < 2000) ∧ ∀ k, k < xn X → ∀ e, xfs X k ≤ e → e < xfs X (k + 1) → goodE X f (fun e => m e * A + 1) k e = goodE X (fun k => if f k = 0 then 0 else (f k - 1) / A * B + (f k - 1) % A + 1) (fun e => m e * B + 1) k e := by
  have hW : ∀ e, 0 < m e * A + 1 := fun e => by omega
  have hc : ∀ k, k < xn X → f k ≠ 0 → (f k - 1) % A < 2000 := fun k hk h0 => by
    have e1 := pathE_sum hf hw hW (n := f k) (k := k) hk h0 (Nat.le_refl _)
    have e2 := pathL_le hf hw hW (n := f k) hk
    rw [pathE_L, List.length_map] at e2
    rw [sumW_lin] at e1
    rw [e1, Nat.add_sub_cancel, Nat.add_comm, Nat.add_mul_mod_self_left, Nat.mod_eq_of_lt (by omega)]
    omega
  -- the parts of a sum
  have key : ∀ k j, k < xn X → j < xn X → f j ≠ 0 → f k ≠ 0 → ∃ M c M' c', f j = M * A + c + 1 ∧ f k = M' * A + c' + 1 ∧ c < 2000 ∧ c' < 2000 ∧ (f j - 1) / A = M ∧ (f j - 1) % A = c ∧ (f k - 1) / A = M' ∧ (f k - 1) % A = c' := fun k j hk hj h1 h2 => by
    have d1 := Nat.div_add_mod (f j - 1) A
    have d2 := Nat.div_add_mod (f k - 1) A
    refine ⟨(f j - 1) / A, (f j - 1) % A, (f k - 1) / A, (f k - 1) % A, ?_, ?_, hc j hj h1, hc k hk h2, rfl, rfl, rfl, rfl⟩
    · rw [Nat.mul_comm]; omega
    · rw [Nat.mul_comm]; omega
  -- order of two sums
  have cmp : ∀ (C M c M' c' x : Nat), 4096 ≤ C → c < 2000 → c' < 2000 → (M' * C + c' + 1 ≤ (M * C + c + 1) + (x * C + 1) ↔ (M' < M + x ∨ (M' = M + x ∧ c' ≤ c + 1))) ∧ (M' * C + c' + 1 = (M * C + c + 1) + (x * C + 1) ↔ (M' = M + x ∧ c' = c + 1)) := fun C M c M' c' x hC h1 h2 => by
    have e1 : (M + x) * C = M * C + x * C := Nat.add_mul _ _ _
    rcases Nat.lt_trichotomy M' (M + x) with q | q | q
    · have : (M' + 1) * C ≤ (M + x) * C := Nat.mul_le_mul_right _ (by omega)
      rw [Nat.add_mul] at this
      constructor
      · constructor <;> intro _ <;> omega
      · constructor <;> intro _ <;> omega
    · subst q
      rw [e1]
      constructor
      · constructor <;> intro _ <;> omega
      · constructor <;> intro _ <;> omega
    · have : (M + x + 1) * C ≤ M' * C := Nat.mul_le_mul_right _ (by omega)
      rw [Nat.add_mul] at this
      constructor
      · constructor <;> intro _ <;> omega
      · constructor <;> intro _ <;> omega
  have g0 : ∀ k, (if f k = 0 then 0 else (f k - 1) / A * B + (f k - 1) % A + 1) = 0 ↔ f k = 0 := fun k => by
    constructor
    · intro h
      split at h
      · assumption
      · omega
    · intro h
      rw [if_pos h]
  refine ⟨fun k hk => ⟨fun c => ?_, fun c => ⟨fun q e e1 e2 => ?_, fun q => ?_⟩⟩, hc, fun k hk e e1 e2 => ?_⟩
  · have := (hf k hk).1 c
    dsimp only
    rw [this, if_neg (by decide), Nat.sub_self, Nat.zero_div, Nat.zero_mod, Nat.zero_mul]
  · exact (g0 _).mpr (((hf k hk).2 c).1 ((g0 k).mp q) e e1 e2)
  · have q : f k ≠ 0 := fun z => q ((g0 k).mpr z)
    obtain ⟨⟨e, e1, e2, e3, e4⟩, h5⟩ := ((hf k hk).2 c).2 q
    refine ⟨⟨e, e1, e2, fun z => e3 ((g0 _).mp z), ?_⟩, fun e' b1 b2 b3 => ?_⟩
    · obtain ⟨M, cc, M', cc', r1, r2, r3, r4, r5, r6, r7, r8⟩ := key k (xej X e) hk (hw.ej hk e2) e3 q
      dsimp only
      rw [if_neg e3, if_neg q, r5, r6, r7, r8]
      rw [r1, r2] at e4
      exact (cmp B M cc M' cc' (m e) hB r3 r4).2.mpr ((cmp A M cc M' cc' (m e) hA r3 r4).2.mp e4)
    · have b3 : f (xej X e') ≠ 0 := fun z => b3 ((g0 _).mpr z)
      obtain ⟨M, cc, M', cc', r1, r2, r3, r4, r5, r6, r7, r8⟩ := key k (xej X e') hk (hw.ej hk b2) b3 q
      have h6 := h5 e' b1 b2 b3
      dsimp only
      rw [if_neg b3, if_neg q, r5, r6, r7, r8]
      rw [r1, r2] at h6
      exact (cmp B M cc M' cc' (m e') hB r3 r4).1.mpr ((cmp A M cc M' cc' (m e') hA r3 r4).1.mp h6)
  · unfold goodE
    by_cases z : f (xej X e) = 0
    · rw [decide_eq_decide]
      constructor
      · exact fun w => absurd z w.1
      · exact fun w => absurd ((g0 _).mpr z) w.1
    · rw [decide_eq_decide]
      by_cases y : f k = 0
      · constructor
        · intro w
          dsimp only at w
          omega
        · intro w
          have w2 := w.2
          dsimp only at w2
          rw [if_pos y] at w2
          omega
      · obtain ⟨M, cc, M', cc', r1, r2, r3, r4, r5, r6, r7, r8⟩ := key k (xej X e) hk (hw.ej hk e2) z y
        have cA := (cmp A M cc M' cc' (m e) hA r3 r4).2
        have cB := (cmp B M cc M' cc' (m e) hB r3 r4).2
        constructor
        · intro w
          refine ⟨fun q => z ((g0 _).mp q), ?_⟩
          have w2 := w.2
          dsimp only at w2 ⊢
          rw [if_neg z, if_neg y, r5, r6, r7, r8]
          rw [r1, r2] at w2
          exact (cB.mpr (cA.mp w2.symm)).symm
        · intro w
          refine ⟨z, ?_⟩
          have w2 := w.2
          dsimp only at w2 ⊢
          rw [if_neg z, if_neg y, r5, r6, r7, r8] at w2
          rw [r1, r2]
          exact (cA.mpr (cB.mp w2.symm)).symm
