/-! ===== a run's begin ===== -/
def τ0 : Td := (fun k => if k = 29 then 2 else 0, fun _ _ => 0, fun _ _ => 0)
def tp0 : Nat → Nat := fun _ => 0
noncomputable def A0 : AS := (τ0, tp0, 0, 0, none, [], 0)
theorem TB0 : TB τ0 := ⟨by decide, fun i hi => absurd hi (by show ¬ i < 0; omega), fun i hi => absurd hi (by show ¬ i < 0; omega), fun i _ => (by show 0 < 2; decide), fun i _ => rfl, fun i hi => absurd hi (by show ¬ i < 0; omega)⟩
/-- the fields as the constructor leaves them ahead of begins -/
def N0 (σ : MS) : Prop := (∀ k, k ∈ [2, 3, 4, 5, 13, 18, 20, 66] → gN σ k = 0) ∧ gN σ 1 = 2 ∧ ∀ k j, k = 12 ∨ k = 17 ∨ k = 40 → gA σ k j = 0
theorem MI0 {σ : MS} (h : N0 σ) : MI σ τ0 := by
  obtain ⟨h1, h2, h3⟩ := h
  refine ⟨TB0, ⟨h2, h1 2 (by decide), h1 3 (by decide), h1 4 (by decide), h1 5 (by decide), h1 13 (by decide)⟩, fun i hi => absurd hi (by show ¬ i < 0; omega), fun i hi => absurd hi (by show ¬ i < 0; omega), fun i _ => h3 12 i (by decide), ?_⟩
  unfold BarO
  rw [h2, h1 2 (by decide), h1 4 (by decide)]
  refine ⟨by decide, by decide, by decide, fun t ht => absurd ht (by omega), fun _ => 0, fun _ _ _ _ _ => 0, fun k hk => absurd hk (by omega), fun k hk => absurd hk (by omega), fun sh b l s => rfl⟩
theorem MG0 {σ : MS} {c : Nat → Nat} (h : N0 σ) (hc : ∀ j, j < 7680 → c j = 0) : MG roundT (BG σ c) A0 := by
  have k1 := MI0 h
  obtain ⟨h1, h2, h3⟩ := h
  have e17 : gA (BG σ c) 17 = tp0 := funext fun j => h3 17 j (by decide)
  refine ⟨⟨k1, fun s sh b l q1 q2 q3 q4 => Or.inl (hc _ (by omega)), rfl, by show 0 < 2; decide, by show gN σ 66 < 2; rw [h1 66 (by decide)]; decide, fun q => absurd (show 0 = 1 from q) (by decide)⟩, ⟨e17, h1 18 (by decide), by show 0 ≤ 700; decide, fun k _ => (by show 0 < 256; decide), fun t _ => (by show gA σ 40 t < 256; rw [h3 40 t (by decide)]; decide)⟩, ⟨h1 20 (by decide), trivial⟩, rfl, ⟨by show 0 < 3; decide, fun q => absurd (show 0 = 1 from q) (by decide), fun q => absurd (show 0 = 2 from q) (by decide)⟩, ⟨Or.inl (show va_up (va_up (gA σ 81) 0 0) 1 0 0 = 0 by rw [va_up_n (by decide), va_up_e]), Or.inl (show va_up (va_up (gA σ 81) 0 0) 1 0 1 = 0 from va_up_e)⟩, Or.inl rfl, ⟨rfl, by show 0 ≤ 60; decide, fun i hi => ?_, fun z hz => (by cases hz), fun i hi => absurd hi (by show ¬ i < 0; omega)⟩, rfl, by show 0 ≤ 12; decide⟩
  have hi : i ≤ 0 := hi
  have e : i = 0 := by omega
  subst e
  have e3 : st0 (gA σ 11) (gN σ 3) (gN σ 5) = stT τ0 := by
    rw [h1 3 (by decide), h1 5 (by decide)]
    rfl
  exact ⟨(show va_up (gA σ 86) 0 _ 0 = _ from va_up_e).trans e3, stT_lt TB0, show va_up (gA σ 87) 0 0 0 = 0 from va_up_e⟩
