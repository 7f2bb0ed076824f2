/-- the model half built: its fields F, the rows L laid so far -/
def MB (m : Nat) (F : Nat → Value) (ad : Nat → Nat) (σ : MS) (η0 : AH) (L : List Nat) : AH := fun q => if q = m then some (some m, ob 9 F) else mHf m ad σ η0 L q
theorem MB_m {m : Nat} {F : Nat → Value} {ad : Nat → Nat} {σ : MS} {η0 : AH} {L : List Nat} : MB m F ad σ η0 L m = some (some m, ob 9 F) := if_pos rfl
theorem mHf_up {m : Nat} {ad : Nat → Nat} {σ : MS} {η0 : AH} {k q : Nat} : ∀ {L : List Nat}, k ∉ L → ∀ p, mHf m (va_up ad k q) σ η0 L p = mHf m ad σ η0 L p
  | [], _, _ => rfl
  | j :: L, h, p => by
    have hj : j ≠ k := fun e => h (by rw [e]; exact List.mem_cons_self)
    unfold mHf
    rw [va_up_n hj, mHf_up (fun w => h (List.mem_cons_of_mem _ w)) p]
theorem MB_row {m : Nat} {F : Nat → Value} {ad : Nat → Nat} {σ : MS} {η0 : AH} {L : List Nat} {k q : Nat} {x : Option Nat × CE} (hk : k ∉ L) (hq : MB m F ad σ η0 L q = none) : up (up (MB m F ad σ η0 L) q x) q (some m, mC σ k) = MB m F (va_up ad k q) σ η0 (k :: L) := by
  have hqm : q ≠ m := fun e => by rw [e, MB_m] at hq; cases hq
  funext p
  unfold up MB
  by_cases c : p = q
  · rw [if_pos c, if_neg (fun e => hqm (c.symm.trans e))]
    unfold mHf
    rw [va_up_e, if_pos c]
  · rw [if_neg c, if_neg c]
    by_cases c2 : p = m
    · rw [if_pos c2, if_pos c2]
    · rw [if_neg c2, if_neg c2]
      show _ = if p = va_up ad k q k then _ else _
      rw [va_up_e, if_neg c]
      exact (mHf_up hk p).symm
theorem MB_none {m : Nat} {F : Nat → Value} {ad : Nat → Nat} {σ : MS} {η0 : AH} {L : List Nat} {q : Nat} (hq : MB m F ad σ η0 L q = none) : q ≠ m ∧ ∀ j ∈ L, ad j ≠ q := by
  have hqm : q ≠ m := fun e => by rw [e, MB_m] at hq; cases hq
  refine ⟨hqm, ?_⟩
  unfold MB at hq
  rw [if_neg hqm] at hq
  clear hqm
  induction L with
  | nil => intro j hj; cases hj
  | cons i L ih =>
    intro j hj
    unfold mHf at hq
    by_cases c : q = ad i
    · rw [if_pos c] at hq; cases hq
    · rw [if_neg c] at hq
      rcases List.mem_cons.mp hj with e | e
      · rw [e]; exact fun w => c w.symm
      · exact ih hq j e
theorem MB_put {m : Nat} {F F2 : Nat → Value} {ad : Nat → Nat} {σ : MS} {η0 : AH} {L : List Nat} : up (MB m F ad σ η0 L) m (some m, ob 9 F2) = MB m F2 ad σ η0 L := by
  funext p
  unfold up MB
  by_cases c : p = m
  · rw [if_pos c, if_pos c]
  · rw [if_neg c, if_neg c, if_neg c]
