/-! ===== two boats at once: states of two shores by bits, rounds, levels ===== -/
def smT (τ : Td) (x : Nat) : Nat := setN x 1 (tN τ 30) ||| bo x 0 * 2 ^ 8 ||| bo x 1 * 2 ^ 9
def lgN (k : Nat) : Nat → Nat
  | 0 => k / 2 ^ 8 % 2 * 2 ^ 16 ||| k / 2 ^ 9 % 2 * 2 ^ 18
  | n + 1 => lgN k n ||| k / 2 ^ n % 2 * 2 ^ (2 * n)
def lgT (τ : Td) (k : Nat) : Nat := lgN k (tN τ 30)
theorem tb1 {v p i : Nat} (hv : v < 2) : (v * 2 ^ p).testBit i = true ↔ i = p ∧ v = 1 := by
  rcases (show v = 0 ∨ v = 1 by omega) with rfl | rfl
  · rw [Nat.zero_mul, Nat.zero_testBit]
    exact ⟨fun q => absurd q (by decide), fun q => absurd q.2 (by decide)⟩
  · rw [Nat.one_mul, Nat.testBit_two_pow, decide_eq_true_eq]
    omega
theorem tb_m (k n : Nat) : k / 2 ^ n % 2 = 1 ↔ k.testBit n = true := by
  rw [Nat.testBit_eq_decide_div_mod_eq, decide_eq_true_eq]
theorem tb_or {a b i : Nat} : (a ||| b).testBit i = true ↔ a.testBit i = true ∨ b.testBit i = true := by
  rw [Nat.testBit_or, Bool.or_eq_true]
theorem lgN_tb (k i : Nat) : ∀ n, (lgN k n).testBit i = true ↔ (i = 16 ∧ k.testBit 8 = true) ∨ (i = 18 ∧ k.testBit 9 = true) ∨ ∃ t, t < n ∧ i = 2 * t ∧ k.testBit t = true
  | 0 => by
    unfold lgN
    rw [tb_or, tb1 (Nat.mod_lt _ (by decide)), tb1 (Nat.mod_lt _ (by decide)), tb_m, tb_m]
    refine ⟨fun h => h.elim Or.inl (fun h => Or.inr (Or.inl h)), fun h => ?_⟩
    rcases h with h | h | ⟨t, h, -⟩
    · exact Or.inl h
    · exact Or.inr h
    · exact absurd h (by omega)
  | n + 1 => by
    unfold lgN
    rw [tb_or, lgN_tb k i n, tb1 (Nat.mod_lt _ (by decide)), tb_m]
    constructor
    · rintro ((h | h | ⟨t, h1, h2⟩) | h)
      · exact Or.inl h
      · exact Or.inr (Or.inl h)
      · exact Or.inr (Or.inr ⟨t, by omega, h2⟩)
      · exact Or.inr (Or.inr ⟨n, by omega, h⟩)
    · rintro (h | h | ⟨t, h1, h2, h3⟩)
      · exact Or.inl (Or.inl h)
      · exact Or.inl (Or.inr (Or.inl h))
      · rcases (show t = n ∨ t < n by omega) with rfl | h4
        · exact Or.inr ⟨h2, h3⟩
        · exact Or.inl (Or.inr (Or.inr ⟨t, h4, h2, h3⟩))
theorem setN_tb (x s i : Nat) : ∀ n, (setN x s n).testBit i = true ↔ i < n ∧ th x i = s
  | 0 => by
    unfold setN
    rw [Nat.zero_testBit]
    exact ⟨fun q => absurd q (by decide), fun q => absurd q.1 (by omega)⟩
  | n + 1 => by
    unfold setN
    by_cases c : th x n = s
    · rw [if_pos c, tb_or, setN_tb x s i n, tb1 (by decide)]
      constructor
      · rintro (h | h)
        · exact ⟨by omega, h.2⟩
        · rw [h.1]; exact ⟨by omega, c⟩
      · rintro ⟨h1, h2⟩
        rcases (show i = n ∨ i < n by omega) with h | h
        · exact Or.inr ⟨h, rfl⟩
        · exact Or.inl ⟨h, h2⟩
    · rw [if_neg c, setN_tb x s i n]
      constructor
      · exact fun h => ⟨by omega, h.2⟩
      · rintro ⟨h1, h2⟩
        rcases (show i = n ∨ i < n by omega) with h | h
        · rw [h] at h2; exact absurd h2 c
        · exact ⟨h, h2⟩
/-- two bits of which the upper is 0 -/
theorem d4_1 {x p : Nat} (h : ¬ x.testBit (p + 1) = true) : x / 2 ^ p % 4 < 2 ∧ (x / 2 ^ p % 4 = 1 ↔ x.testBit p = true) := by
  rw [← tb_m, Nat.pow_succ, ← Nat.div_div_eq_div_mul] at h
  rw [← tb_m]
  omega
/-- a state of two shores, no lamp -/
def VL (τ : Td) (x : Nat) : Prop := ∀ i, x.testBit i = true → i = 16 ∨ i = 18 ∨ ∃ t, t < tN τ 30 ∧ i = 2 * t
theorem VL.t2 {τ : Td} {x : Nat} (h : VL τ x) (t : Nat) (ht : t < 8) : th x t < 2 ∧ (th x t = 1 ↔ x.testBit (2 * t) = true) := d4_1 (p := 2 * t) fun q => by
  rcases h _ q with e | e | ⟨u, -, e⟩ <;> omega
theorem VL.b2 {τ : Td} {x : Nat} (h : VL τ x) (b : Nat) : bo x b < 2 ∧ (bo x b = 1 ↔ x.testBit (16 + 2 * b) = true) := d4_1 (p := 16 + 2 * b) fun q => by
  rcases h _ q with e | e | ⟨u, -, e⟩ <;> omega
theorem smT_tb {τ : Td} (hT : tN τ 30 ≤ 8) {x : Nat} (h : VL τ x) (i : Nat) : (smT τ x).testBit i = true ↔ (i < tN τ 30 ∧ x.testBit (2 * i) = true) ∨ (i = 8 ∧ x.testBit 16 = true) ∨ (i = 9 ∧ x.testBit 18 = true) := by
  unfold smT
  rw [tb_or, tb_or, setN_tb, tb1 (h.b2 0).1, tb1 (h.b2 1).1, (h.b2 0).2, (h.b2 1).2]
  constructor
  · rintro ((h1 | h1) | h1)
    · exact Or.inl ⟨h1.1, ((h.t2 i (by omega)).2).mp h1.2⟩
    · exact Or.inr (Or.inl h1)
    · exact Or.inr (Or.inr h1)
  · rintro (h1 | h1 | h1)
    · exact Or.inl (Or.inl ⟨h1.1, ((h.t2 i (by omega)).2).mpr h1.2⟩)
    · exact Or.inl (Or.inr h1)
    · exact Or.inr h1
theorem smT_lt {τ : Td} (hT : tN τ 30 ≤ 8) {x : Nat} (h : VL τ x) : smT τ x < 1024 := by
  have h1 := setN_256 x 1 hT
  have h2 := (h.b2 0).1
  have h3 := (h.b2 1).1
  unfold smT
  exact Nat.or_lt_two_pow (n := 10) (Nat.or_lt_two_pow (n := 10) (by omega) (by omega)) (by omega)
theorem lg_sm {τ : Td} (hT : tN τ 30 ≤ 8) {x : Nat} (h : VL τ x) : lgT τ (smT τ x) = x := by
  refine Nat.eq_of_testBit_eq fun i => Bool.eq_iff_iff.mpr ?_
  unfold lgT
  simp only [lgN_tb, smT_tb hT h]
  constructor
  · rintro (⟨rfl, h1 | h1 | h1⟩ | ⟨rfl, h1 | h1 | h1⟩ | ⟨t, h0, rfl, h1 | h1 | h1⟩)
    · omega
    · exact h1.2
    · omega
    · omega
    · omega
    · exact h1.2
    · exact h1.2
    · omega
    · omega
  · intro q
    rcases h i q with rfl | rfl | ⟨t, ht, rfl⟩
    · exact Or.inl ⟨rfl, Or.inr (Or.inl ⟨trivial, q⟩)⟩
    · exact Or.inr (Or.inl ⟨rfl, Or.inr (Or.inr ⟨trivial, q⟩)⟩)
    · exact Or.inr (Or.inr ⟨t, ht, rfl, Or.inl ⟨ht, q⟩⟩)
theorem sm_inj {τ : Td} (hT : tN τ 30 ≤ 8) {x y : Nat} (hx : VL τ x) (hy : VL τ y) (e : smT τ x = smT τ y) : x = y := by
  rw [← lg_sm hT hx, e, lg_sm hT hy]
theorem VL.lt {τ : Td} (hT : tN τ 30 ≤ 8) {x : Nat} (h : VL τ x) : x < 4194304 := by
  refine Nat.lt_of_not_le fun q => ?_
  obtain ⟨i, hi, h1⟩ := Nat.exists_ge_and_testBit_of_ge_two_pow (n := 22) (x := x) q
  rcases h i h1 with e | e | ⟨u, hu, e⟩ <;> omega
theorem set2_tb {y p v i : Nat} (hv : v < 2) (h : (set2 y p v).testBit i = true) : y.testBit i = true ∨ i = p := by
  unfold set2 at h
  rw [tb_or, tb1 hv, ndf_tb, Bool.and_eq_true] at h
  rcases h with h | h
  · exact Or.inl h.1
  · exact Or.inr h.1
theorem VL.set {τ : Td} {x p v : Nat} (h : VL τ x) (hv : v < 2) (hp : p = 16 ∨ p = 18 ∨ ∃ t, t < tN τ 30 ∧ p = 2 * t) : VL τ (set2 x p v) := fun i hi => by
  rcases set2_tb hv hi with q | q
  · exact h i q
  · rw [q]; exact hp
theorem VL.mvN {τ : Td} {x to s : Nat} (h : VL τ x) (ht : to < 2) : ∀ n, n ≤ tN τ 30 → VL τ (bhN x to s n)
  | 0, _ => h
  | n + 1, hn => by
    have h1 := VL.mvN (s := s) h ht n (by omega)
    show VL τ (if bt s n = 1 then set2 (bhN x to s n) (2 * n) to else bhN x to s n)
    split
    · exact h1.set ht (Or.inr (Or.inr ⟨n, by omega, rfl⟩))
    · exact h1
theorem VL.mv {τ : Td} (hlm : tN τ 33 = 0) {x b to s : Nat} (h : VL τ x) (hb : b < 2) (ht : to < 2) : VL τ (bhT τ x b to s) := by
  unfold bhT bh
  dsimp only
  rw [if_pos hlm]
  exact (h.set ht (by omega)).mvN ht _ (Nat.le_refl _)
theorem VL.st {τ : Td} (hlm : tN τ 33 = 0) (hB : tN τ 31 = 2) (ha : ∀ b, b < 2 → tA τ 43 b < 2) : VL τ (stT τ) := by
  intro i hi
  unfold stT st0 at hi
  rw [if_pos hlm, hB] at hi
  have e : stN (tA τ 43) 2 = (0 ||| tA τ 43 0 * 2 ^ (16 + 2 * 0)) ||| tA τ 43 1 * 2 ^ (16 + 2 * 1) := rfl
  rw [e, tb_or, tb_or, Nat.zero_testBit, tb1 (ha 0 (by decide)), tb1 (ha 1 (by decide))] at hi
  rcases hi with (h | h) | h
  · exact absurd h (by decide)
  · exact Or.inl h.1
  · exact Or.inr (Or.inl h.1)
/-- a round with one boat -/
def rd1 (τ : Td) (x y : Nat) : Prop := ∃ b s, b < 2 ∧ s ∈ mayL τ (tA τ 41) (tA τ 42) b ∧ ¬ flT τ (bo x b) (1 - bo x b) = 0 ∧ ndf s (setN x (bo x b) (tN τ 30)) = 0 ∧ abT τ 0 s = 0 ∧ bsT τ 0 x s (1 * 2 ^ b) 1 = 0 ∧ y = bhT τ x b (1 - bo x b) s
/-- a round with both -/
def rd2 (τ : Td) (x y : Nat) : Prop := ∃ s q, s ∈ mayL τ (tA τ 41) (tA τ 42) 0 ∧ ¬ flT τ (bo x 0) (1 - bo x 0) = 0 ∧ ndf s (setN x (bo x 0) (tN τ 30)) = 0 ∧ abT τ 0 s = 0 ∧ q ∈ mayL τ (tA τ 41) (tA τ 42) 1 ∧ ¬ flT τ (bo x 1) (1 - bo x 1) = 0 ∧ ndf q (setN x (bo x 1) (tN τ 30)) = 0 ∧ q &&& s = 0 ∧ abT τ 0 q = 0 ∧ bsT τ 0 x (s ||| q) 3 1 = 0 ∧ y = bhT τ (bhT τ x 0 (1 - bo x 0) s) 1 (1 - bo x 1) q
def rdS (τ : Td) (x y : Nat) : Prop := bsT τ 0 (stT τ) 0 0 0 = 0 ∧ bsT τ 0 y 0 0 0 = 0 ∧ (rd1 τ x y ∨ rd2 τ x y)
theorem rdS.vl {τ : Td} (hlm : tN τ 33 = 0) {x y : Nat} (h : rdS τ x y) (hx : VL τ x) : VL τ y := by
  rcases h.2.2 with ⟨b, s, hb, -, -, -, -, -, rfl⟩ | ⟨s, q, -, -, -, -, -, -, -, -, -, -, rfl⟩
  · exact hx.mv hlm hb (by omega)
  · exact (hx.mv hlm (by decide) (by omega)).mv hlm (by decide) (by omega)
def rdR (τ : Td) : Nat → Nat → Prop
  | 0, x => x = stT τ
  | d + 1, x => ∃ y, rdR τ d y ∧ rdS τ y x
def rdG (τ : Td) (d : Nat) : Prop := ∃ x, rdR τ d x ∧ goalT τ x
noncomputable def roundT (τ : Td) : Nat := @dite Nat (∃ d, rdG τ d ∧ ∀ e, e < d → ¬ rdG τ e) (Classical.propDecidable _) (fun h => Classical.choose h + 1) (fun _ => 0)
theorem roundT_y {τ : Td} {d : Nat} (h1 : rdG τ d) (h2 : ∀ e, e < d → ¬ rdG τ e) : roundT τ = d + 1 := by
  unfold roundT
  have hx : ∃ d, rdG τ d ∧ ∀ e, e < d → ¬ rdG τ e := ⟨d, h1, h2⟩
  rw [dif_pos hx]
  obtain ⟨h3, h4⟩ := Classical.choose_spec hx
  have h5 := h2 (Classical.choose hx)
  have h6 := h4 d
  rcases Nat.lt_trichotomy (Classical.choose hx) d with q | q | q
  · exact absurd h3 (h5 q)
  · rw [q]
  · exact absurd h1 (h6 q)
theorem roundT_n {τ : Td} (h : ∀ d, ¬ rdG τ d) : roundT τ = 0 := by
  unfold roundT
  rw [dif_neg]
  exact fun ⟨d, q, _⟩ => h d q
/-- what is known while the level d is gone through, up to the number k -/
def RAk (τ : Td) (ra : Nat → Nat) (d k : Nat) : Prop := (∀ j, j < 1024 → ra j ≠ 0 → ra j ≤ d + 2 ∧ ∃ x, VL τ x ∧ smT τ x = j ∧ rdR τ (ra j - 1) x) ∧ ra (smT τ (stT τ)) = 1 ∧ ∀ x, VL τ x → ra (smT τ x) ≠ 0 → (ra (smT τ x) ≤ d ∨ (ra (smT τ x) = d + 1 ∧ smT τ x < k)) → ¬ goalT τ x ∧ ∀ y, rdS τ x y → ra (smT τ y) ≠ 0 ∧ ra (smT τ y) ≤ ra (smT τ x) + 1
theorem RAk.near {τ : Td} (hlm : tN τ 33 = 0) (hst : VL τ (stT τ)) {ra : Nat → Nat} {d k : Nat} (h : RAk τ ra d k) : ∀ e, e ≤ d → ∀ z, rdR τ e z → VL τ z ∧ ra (smT τ z) ≠ 0 ∧ ra (smT τ z) ≤ e + 1
  | 0, _, z, hz => by
    have e : z = stT τ := hz
    rw [e, h.2.1]
    exact ⟨hst, by decide, by decide⟩
  | e + 1, he, z, ⟨y, hy, hs⟩ => by
    obtain ⟨h1, h2, h3⟩ := RAk.near hlm hst h e (by omega) y hy
    have h4 := (h.2.2 y h1 h2 (Or.inl (by omega))).2 z hs
    exact ⟨hs.vl hlm h1, h4.1, by omega⟩
theorem RAk.found {τ : Td} (hT : tN τ 30 ≤ 8) (hlm : tN τ 33 = 0) (hst : VL τ (stT τ)) {ra : Nat → Nat} {d k : Nat} (h : RAk τ ra d k) (hk : k < 1024) (e : ra k = d + 1) (hg : goalT τ (lgT τ k)) : roundT τ = d + 1 := by
  obtain ⟨-, x, h1, h2, h3⟩ := h.1 k hk (by omega)
  rw [e] at h3
  rw [← h2, lg_sm hT h1] at hg
  refine roundT_y ⟨x, h3, hg⟩ fun e2 he2 => ?_
  rintro ⟨z, hz, hgz⟩
  obtain ⟨z1, z2, z3⟩ := h.near hlm hst e2 (by omega) z hz
  exact (h.2.2 z z1 z2 (Or.inl (by omega))).1 hgz
theorem RAk.done {τ : Td} (hT : tN τ 30 ≤ 8) (hlm : tN τ 33 = 0) (hst : VL τ (stT τ)) {ra : Nat → Nat} {d k : Nat} (h : RAk τ ra d k) (hn : ∀ j, j < 1024 → ra j ≤ d) : roundT τ = 0 := by
  have hA : ∀ e z, rdR τ e z → VL τ z ∧ ra (smT τ z) ≠ 0 := by
    intro e
    induction e with
    | zero =>
      intro z hz
      have e : z = stT τ := hz
      rw [e, h.2.1]
      exact ⟨hst, by decide⟩
    | succ e ih =>
      rintro z ⟨y, hy, hs⟩
      obtain ⟨h1, h2⟩ := ih y hy
      exact ⟨hs.vl hlm h1, ((h.2.2 y h1 h2 (Or.inl (hn _ (smT_lt hT h1)))).2 z hs).1⟩
  refine roundT_n fun d2 => ?_
  rintro ⟨x, hx, hg⟩
  obtain ⟨h1, h2⟩ := hA d2 x hx
  exact (h.2.2 x h1 h2 (Or.inl (hn _ (smT_lt hT h1)))).1 hg
theorem RAk.next {τ : Td} (hT : tN τ 30 ≤ 8) {ra : Nat → Nat} {d : Nat} (h : RAk τ ra d 1024) : RAk τ ra (d + 1) 0 := ⟨fun j h1 h2 => ⟨by have := (h.1 j h1 h2).1; omega, (h.1 j h1 h2).2⟩, h.2.1, fun x h1 h2 h3 => h.2.2 x h1 h2 (by
  have := smT_lt hT h1
  omega)⟩
/-- rows that a state's rounds put in -/
def UpR (τ : Td) (v : Nat) (Q : Nat → Prop) (ra ra2 : Nat → Nat) : Prop := ∀ j, ra2 j = ra j ∨ (ra j = 0 ∧ ra2 j = v ∧ ∃ y, Q y ∧ VL τ y ∧ smT τ y = j)
theorem UpR.rf {τ : Td} {v : Nat} {Q : Nat → Prop} {ra : Nat → Nat} : UpR τ v Q ra ra := fun _ => Or.inl rfl
theorem UpR.trans {τ : Td} {v : Nat} (hv : v ≠ 0) {Q : Nat → Prop} {ra rb rc : Nat → Nat} (h1 : UpR τ v Q ra rb) (h2 : UpR τ v Q rb rc) : UpR τ v Q ra rc := fun j => by
  rcases h1 j with a | ⟨a1, a2, a3⟩
  · rw [← a]
    exact h2 j
  · rcases h2 j with b | ⟨b1, b2, b3⟩
    · exact Or.inr ⟨a1, b.trans a2, a3⟩
    · exact absurd (b1.symm.trans a2) (fun q => hv q.symm)
theorem UpR.put {τ : Td} {v : Nat} {Q : Nat → Prop} {ra : Nat → Nat} {y : Nat} (hQ : Q y) (hy : VL τ y) (h0 : ra (smT τ y) = 0) : UpR τ v Q ra (va_up ra (smT τ y) v) := fun j => by
  by_cases c : j = smT τ y
  · rw [c, va_up_e]
    exact Or.inr ⟨h0, rfl, y, hQ, hy, rfl⟩
  · rw [va_up_n c]
    exact Or.inl rfl
theorem UpR.keep {τ : Td} {v : Nat} {Q : Nat → Prop} {ra rb : Nat → Nat} (h : UpR τ v Q ra rb) {j : Nat} (hj : ra j ≠ 0) : rb j ≠ 0 := by
  rcases h j with a | ⟨a, -⟩
  · rw [a]; exact hj
  · exact absurd a hj
/-- the number k done -/
theorem RAk.step {τ : Td} (hT : tN τ 30 ≤ 8) (hlm : tN τ 33 = 0) {ra rb : Nat → Nat} {d k : Nat} (h : RAk τ ra d k) (hk : k < 1024) {x : Nat} (hx : VL τ x) (hxk : smT τ x = k) (hR : rdR τ d x) (e : ra k = d + 1) (hg : ¬ goalT τ x) (hU : UpR τ (d + 2) (fun y => rdS τ x y) ra rb) (hA : ∀ y, rdS τ x y → rb (smT τ y) ≠ 0) : RAk τ rb d (k + 1) := by
  obtain ⟨h1, h2, h3⟩ := h
  have le : ∀ j, j < 1024 → rb j ≤ d + 2 := fun j hj => by
    rcases hU j with a | ⟨-, a, -⟩
    · rw [a]
      by_cases c : ra j = 0
      · omega
      · exact (h1 j hj c).1
    · omega
  refine ⟨fun j hj hn => ⟨le j hj, ?_⟩, ?_, fun z hz hn hc => ?_⟩
  · rcases hU j with a | ⟨a1, a2, y, a3, a4, a5⟩
    · rw [a] at hn ⊢
      exact (h1 j hj hn).2
    · rw [a2]
      exact ⟨y, a4, a5, x, hR, a3⟩
  · rcases hU (smT τ (stT τ)) with a | ⟨a, -⟩
    · rw [a]; exact h2
    · rw [h2] at a; exact absurd a (by decide)
  · have hzr : rb (smT τ z) = ra (smT τ z) := by
      rcases hU (smT τ z) with a | ⟨a1, a2, -⟩
      · exact a
      · omega
    by_cases c : smT τ z = k
    · have ez : z = x := sm_inj hT hz hx (c.trans hxk.symm)
      subst ez
      refine ⟨hg, fun y hy => ⟨hA y hy, ?_⟩⟩
      rw [hzr, c, e]
      exact le _ (smT_lt hT (hy.vl hlm hx))
    · rw [hzr] at hn hc ⊢
      obtain ⟨g1, g2⟩ := h3 z hz hn (by omega)
      refine ⟨g1, fun y hy => ?_⟩
      obtain ⟨g3, g4⟩ := g2 y hy
      refine ⟨hU.keep g3, ?_⟩
      rcases hU (smT τ y) with a | ⟨a, -⟩
      · rw [a]; exact g4
      · exact absurd a g3
