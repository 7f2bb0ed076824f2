set_option maxRecDepth 100000
/-! ===== expressions that are built are frozen ===== -/
/-- the tags t .. t + n - 1 are frozen -/
def fzn (t n : Nat) : Nat → Option Nat := fun w => if t ≤ w ∧ w < t + n then none else some w
theorem fzn_kp {t n : Nat} {η : AH} : Kp t (t + n) η (rtg (fzn t n) η) := fun a o e h w => by
  cases o with
  | none => exact rtg_n h
  | some u =>
    have hu := w u rfl
    rw [rtg_s h]
    unfold fzn
    rw [if_neg (by omega)]
theorem fzn_t {t n w : Nat} (h1 : t ≤ w) (h2 : w < t + n) : fzn t n w = none := if_pos ⟨h1, h2⟩
theorem GO.fz {S : Sc} {η : AH} {t n w a : Nat} {ad : Nat → Nat} {σ : MS} (h : GO S η (some w) a ad σ) (h1 : t ≤ w) (h2 : w < t + n) : GO S (rtg (fzn t n) η) none a ad σ := by
  have h3 := h.rt (g := fzn t n)
  rw [fzn_t h1 h2] at h3
  exact h3
theorem CHb.fz {G : Gl} {η : AH} {t q cap capS k : Nat} {xs cs : List Nat} {fs : Nat → Fn} (h : CHb G η t q xs cs cap capS) (hl : xs.length = cs.length + 1) (hcs : ∀ c ∈ cs, sgn c) (hx : ∀ i x, xs[i]? = some x → EX G η k x (fs i)) : EX G (rtg (fzn t 3) η) (k + 1) q (chF fs cs) := by
  obtain ⟨ad, σ, pl, sb, h1, h2, h3, h4, h5⟩ := h
  have h4' := h4.rt (g := fzn t 3)
  have h5' := h5.rt (g := fzn t 3)
  rw [fzn_t (by omega) (by omega)] at h4' h5'
  exact Or.inr (Or.inr ⟨pl, sb, cap, capS, xs, cs, fs, ad, σ, h1.fz (by omega) (by omega), h2, h3, h4', h5', hl, hcs, fun i x hi => EX.kp fzn_kp (hx i x hi), rfl⟩)
/-- a leaf, a negation -/
theorem fzX_num {G : Gl} {η : AH} {t q n k : Nat} {ad : Nat → Nat} {σ : MS} (h : GO scX13 η (some t) q ad σ) (h1 : gN σ 0 = n) : EX G (rtg (fzn t 1) η) k q (fK n) := EX.leaf (Or.inl ⟨n, ad, σ, h.fz (by omega) (by omega), h1, rfl⟩) k
theorem fzX_mem {G : Gl} {η : AH} {t q n k : Nat} {ad : Nat → Nat} {σ : MS} (h : GO scX14 η (some t) q ad σ) (h1 : gN σ 0 = n) (h2 : n < 8) : EX G (rtg (fzn t 1) η) k q (fV n) := EX.leaf (Or.inr (Or.inl ⟨n, ad, σ, h.fz (by omega) (by omega), h1, h2, rfl⟩)) k
theorem fzX_word {G : Gl} {η : AH} {t q n k : Nat} {ad : Nat → Nat} {σ : MS} (h : GO scX15 η (some t) q ad σ) (h1 : gN σ 0 = n) (h2 : n < 6) : EX G (rtg (fzn t 1) η) k q (fV (wcd n)) := EX.leaf (Or.inr (Or.inr ⟨n, ad, σ, h.fz (by omega) (by omega), h1, h2, rfl⟩)) k
theorem fzX_no {G : Gl} {η : AH} {t q e k : Nat} {f : Fn} {ad : Nat → Nat} {σ : MS} (h : GO scX16 η (some t) q ad σ) (h1 : gN σ 0 = e + 1) (hE : EX G η k e f) : EX G (rtg (fzn t 1) η) (k + 1) q (fNo f) := Or.inr (Or.inl ⟨e, f, ad, σ, h.fz (by omega) (by omega), h1, EX.kp fzn_kp hE, rfl⟩)
