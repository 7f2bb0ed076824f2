/-! ===== what is found: frames, data; the least ways by choice ===== -/
noncomputable def dsF (X : XT) (gl : Nat → Prop) (W : Nat → Nat) : Nat → Nat := @dite (Nat → Nat) (∃ f, EQd X gl W f) (Classical.propDecidable _) (fun h => Classical.choose h) (fun _ _ => 0)
theorem dsF_ok {X : XT} {gl : Nat → Prop} {W f : Nat → Nat} (h : EQd X gl W f) : EQd X gl W (dsF X gl W) := by
  unfold dsF
  rw [dif_pos ⟨f, h⟩]
  exact Classical.choose_spec (p := fun f => EQd X gl W f) ⟨f, h⟩
theorem dsF_eq {X : XT} {gl : Nat → Prop} {W f : Nat → Nat} (hw : XW X) (hW : ∀ e, 0 < W e) (h : EQd X gl W f) {k : Nat} (hk : k < xn X) : f k = dsF X gl W k := h.uniq hw hW (dsF_ok h) hk
def EG (σ σ2 : MS) : Prop := (∀ k, k ≠ 52 → k ≠ 54 → k ≠ 55 → k ≠ 66 → k ≠ 67 → gN σ2 k = gN σ k) ∧ (∀ k, (k < 56 ∧ k ≠ 50) ∨ k = 65 ∨ 69 < k → gA σ2 k = gA σ k) ∧ (∀ k, k ≠ 51 → gB σ2 k = gB σ k) ∧ gC σ2 = gC σ
theorem EG.rf (σ : MS) : EG σ σ := ⟨fun _ _ _ _ _ _ => rfl, fun _ _ => rfl, fun _ _ => rfl, rfl⟩
theorem EF.g {σ σ2 : MS} (h : EF σ σ2) : EG σ σ2 := ⟨fun k _ a b c d => h.1 k a b c d, fun k a => h.2.1 k (by omega), h.2.2.1, h.2.2.2⟩
theorem EG.n {σ σ2 : MS} (h : EG σ σ2) {k v : Nat} (hk : k = 52 ∨ k = 54 ∨ k = 55 ∨ k = 66 ∨ k = 67) : EG σ (sN σ2 k v) := ⟨fun j h1 h2 h3 h4 h5 => by rw [gN_sN, if_neg (by omega)]; exact h.1 j h1 h2 h3 h4 h5, h.2.1, h.2.2.1, h.2.2.2⟩
theorem EG.st59 {σ σ2 : MS} (h : EG σ σ2) {f : Nat → Nat} : EG σ (stA σ2 59 f) := ⟨h.1, fun j hj => by rw [gA_stA, if_neg (by omega)]; exact h.2.1 j hj, h.2.2.1, h.2.2.2⟩
theorem EG.cp {σ σ2 : MS} (h : EG σ σ2) {c : Nat → Nat} {p : Nat → Int32} : EG σ (sCP σ2 c p) := ⟨h.1, fun j hj => by show gA (stA σ2 50 c) j = _; rw [gA_stA, if_neg (by omega)]; exact h.2.1 j hj, fun k hk => by show (if k = 51 then p else gB (stA σ2 50 c) k) = _; rw [if_neg hk]; exact h.2.2.1 k hk, h.2.2.2⟩
theorem EG.trans {σ σ1 σ2 : MS} (h : EG σ σ1) (h2 : EG σ1 σ2) : EG σ σ2 := ⟨fun k a b c d e => (h2.1 k a b c d e).trans (h.1 k a b c d e), fun k a => (h2.2.1 k a).trans (h.2.1 k a), fun k a => (h2.2.2.1 k a).trans (h.2.2.1 k a), h2.2.2.2.trans h.2.2.2⟩
theorem EG.mi {σ σ2 : MS} (h : EG σ σ2) {τ : Td} (hM : MI σ τ) : MI σ2 τ := by
  have n : ∀ k, k < 52 → gN σ2 k = gN σ k := fun k a => h.1 k (by omega) (by omega) (by omega) (by omega) (by omega)
  have a : ∀ k, k < 50 → gA σ2 k = gA σ k := fun k a => h.2.1 k (by omega)
  obtain ⟨h1, h2, h3, h4, h5, h6⟩ := hM
  refine ⟨h1, ?_, ?_, ?_, ?_, ?_⟩
  · rw [n 1 (by decide), n 2 (by decide), n 3 (by decide), n 4 (by decide), n 5 (by decide), n 13 (by decide)]
    exact h2
  · rw [a 6 (by decide), a 7 (by decide), a 8 (by decide)]
    exact h3
  · rw [a 9 (by decide), a 10 (by decide), a 11 (by decide)]
    exact h4
  · rw [a 12 (by decide)]
    exact h5
  · unfold BarO
    rw [n 1 (by decide), n 2 (by decide), n 4 (by decide), a 6 (by decide), a 7 (by decide), a 15 (by decide), a 16 (by decide), h.2.2.1 14 (by decide)]
    exact h6
theorem EG.wx {σ σ2 : MS} (h : EG σ σ2) {τ : Td} {hd ld : Nat → Nat} {w w2 : Nat} (hW : WX σ τ hd ld w) (hc : Cch (bfT τ) (gA σ2 50)) (h52 : gN σ2 52 = w2) (hw2 : w2 ≤ 12) : WX σ2 τ hd ld w2 := by
  have n : ∀ k, k < 52 → gN σ2 k = gN σ k := fun k a => h.1 k (by omega) (by omega) (by omega) (by omega) (by omega)
  have a : ∀ k, k < 50 → gA σ2 k = gA σ k := fun k a => h.2.1 k (by omega)
  obtain ⟨h1, h2, h3, h4, h5, h6, h7, h8, h9⟩ := hW
  refine ⟨h1, ?_, ?_, ?_, ?_, ?_, hc, h52, hw2⟩
  · rw [n 1 (by decide), n 2 (by decide), n 3 (by decide), n 4 (by decide), n 5 (by decide), n 13 (by decide)]
    exact h2
  · rw [a 6 (by decide), a 7 (by decide)]
    exact h3
  · rw [a 9 (by decide), a 10 (by decide), a 11 (by decide)]
    exact h4
  · rw [a 12 (by decide)]
    exact h5
  · unfold BarO
    rw [n 1 (by decide), n 2 (by decide), n 4 (by decide), a 6 (by decide), a 7 (by decide), a 15 (by decide), a 16 (by decide), h.2.2.1 14 (by decide)]
    exact h6
/-- what the model has found -/
def FD (σ : MS) (τ : Td) (hd ld : Nat → Nat) (w : Nat) : Prop := (expl (τ, hd, ld, w) = none → gN σ 66 = 1) ∧ ∀ X, expl (τ, hd, ld, w) = some X → gN σ 66 = 0 ∧ XM σ X ∧ FSA σ X ∧ EQd X (glT τ X) (fun _ => 1) (gA σ 59) ∧ ∀ k, k < xn X → gA σ 59 k ≤ 2003
/-- crossings that were sought: (0: spent), 1 + (0: none; 1 + crossings) -/
noncomputable def skS (τ : Td) (hd ld : Nat → Nat) (w : Nat) : Nat := match expl (τ, hd, ld, w) with
  | none => 0
  | some X => dsF X (glT τ X) (fun _ => 1) 0 + 1
/-- a number less 2 -/
def pI (n : Nat) : Int32 := match n with
  | 0 => -2
  | k + 1 => oI k
theorem FD.sk {σ : MS} {τ : Td} {hd ld : Nat → Nat} {w : Nat} (h : FD σ τ hd ld w) : (skS τ hd ld w = 0 → gN σ 66 = 1) ∧ (skS τ hd ld w ≠ 0 → gN σ 66 = 0 ∧ skS τ hd ld w = gA σ 59 0 + 1) := by
  unfold skS
  cases hx : expl (τ, hd, ld, w) with
  | none => exact ⟨fun _ => h.1 hx, fun q => absurd rfl q⟩
  | some X =>
    obtain ⟨a, b, c, d, e⟩ := h.2 X hx
    have hw := expl_w hx
    exact ⟨fun q => absurd q (by dsimp only; omega), fun _ => ⟨a, by dsimp only; rw [dsF_eq hw (fun _ => by decide) d (show 0 < xn X by have := hw.1; omega)]⟩⟩
def MF (σ : MS) (τ : Td) : Prop := MI σ τ ∧ Cch (bfT τ) (gA σ 50) ∧ gN σ 52 = 0 ∧ gN σ 67 < 2 ∧ gN σ 66 < 2 ∧ (gN σ 67 = 1 → FD σ τ (tA τ 41) (tA τ 42) 0)
theorem MF.wx {σ : MS} {τ : Td} (h : MF σ τ) : WX σ τ (tA τ 41) (tA τ 42) 0 := WX.of h.1 h.2.1 h.2.2.1
