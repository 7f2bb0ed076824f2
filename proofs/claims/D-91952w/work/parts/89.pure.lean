/-! ===== states by their fields; their codes ===== -/
set_option maxRecDepth 100000
/-- two bits of x at the place p -/
def f2 (x p : Nat) : Nat := x / 2 ^ p % 4
theorem f2_lt (x p : Nat) : f2 x p < 4 := Nat.mod_lt _ (by decide)
theorem f2_tb (x p i : Nat) : (f2 x p).testBit i = (decide (i < 2) && x.testBit (i + p)) := by
  unfold f2
  rw [show (4 : Nat) = 2 ^ 2 from rfl, Nat.testBit_mod_two_pow, Nat.testBit_div_two_pow]
theorem f2_ext {x y p q : Nat} (h : ∀ i, i < 2 → x.testBit (i + p) = y.testBit (i + q)) : f2 x p = f2 y q := by
  apply Nat.eq_of_testBit_eq
  intro i
  rw [f2_tb, f2_tb]
  by_cases c : i < 2
  · rw [h i c]
  · simp [c]
theorem f2_v {v : Nat} (hv : v < 4) : f2 v 0 = v := by
  unfold f2
  rw [Nat.pow_zero, Nat.div_one]
  exact Nat.mod_eq_of_lt hv
theorem v_ext {x p v : Nat} (hv : v < 4) (h : ∀ i, i < 2 → x.testBit (i + p) = v.testBit i) : f2 x p = v := by
  rw [← f2_v hv]
  exact f2_ext (fun i hi => by rw [h i hi, Nat.add_zero])
theorem set2_tbf {x p v i : Nat} (hv : v < 4) : (set2 x p v).testBit i = if p ≤ i ∧ i < p + 2 then v.testBit (i - p) else x.testBit i := by
  unfold set2
  rw [Nat.testBit_or, ndf_tb, Nat.testBit_mul_two_pow, Nat.testBit_mul_two_pow]
  by_cases c : p ≤ i
  · by_cases c2 : i < p + 2
    · rw [if_pos ⟨c, c2⟩]
      have h3 : (3 : Nat).testBit (i - p) = true := by
        rcases (show i - p = 0 ∨ i - p = 1 by omega) with e | e <;> rw [e] <;> rfl
      simp [c, h3]
    · rw [if_neg (by omega)]
      have h3 : (3 : Nat).testBit (i - p) = false := Nat.testBit_lt_two_pow (Nat.lt_of_lt_of_le (show 3 < 2 ^ 2 by decide) (p2_le (by omega)))
      have hv' : v.testBit (i - p) = false := Nat.testBit_lt_two_pow (Nat.lt_of_lt_of_le (show v < 2 ^ 2 from hv) (p2_le (by omega)))
      simp [c, h3, hv']
  · rw [if_neg (by omega)]
    simp [c]
theorem f2_set2 {x p q v : Nat} (hv : v < 4) (h : q = p ∨ q + 2 ≤ p ∨ p + 2 ≤ q) : f2 (set2 x p v) q = if q = p then v else f2 x q := by
  by_cases c : q = p
  · subst c
    rw [if_pos rfl]
    refine v_ext hv fun i hi => ?_
    rw [set2_tbf hv, if_pos (by omega), Nat.add_sub_cancel]
  · rw [if_neg c]
    refine f2_ext fun i hi => ?_
    rw [set2_tbf hv, if_neg (by omega)]
theorem f2_or {a p q v : Nat} (hv : v < 4) (h : q = p ∨ q + 2 ≤ p ∨ p + 2 ≤ q) : f2 (a ||| v * 2 ^ p) q = if q = p then f2 a p ||| v else f2 a q := by
  by_cases c : q = p
  · subst c
    rw [if_pos rfl]
    apply Nat.eq_of_testBit_eq
    intro i
    rw [f2_tb, Nat.testBit_or, Nat.testBit_or, f2_tb, Nat.testBit_mul_two_pow, Nat.add_sub_cancel]
    by_cases c2 : i < 2
    · simp [c2]
    · have hv' : v.testBit i = false := Nat.testBit_lt_two_pow (Nat.lt_of_lt_of_le (show v < 2 ^ 2 from hv) (p2_le (by omega)))
      simp [c2, hv']
  · rw [if_neg c]
    refine f2_ext fun i hi => ?_
    rw [Nat.testBit_or, Nat.testBit_mul_two_pow]
    by_cases c2 : p ≤ i + q
    · have hv' : v.testBit (i + q - p) = false := Nat.testBit_lt_two_pow (Nat.lt_of_lt_of_le (show v < 2 ^ 2 from hv) (p2_le (by omega)))
      simp [hv']
    · simp [c2]
theorem f2_0 (q : Nat) : f2 0 q = 0 := by
  unfold f2
  rw [Nat.zero_div]
theorem th_bhN {x to s : Nat} (ht : to < 4) : ∀ n t, th (bhN x to s n) t = if t < n ∧ bt s t = 1 then to else th x t
  | 0, t => by
    rw [if_neg (by omega)]
    rfl
  | n + 1, t => by
    have ih := th_bhN (x := x) (s := s) ht n t
    unfold bhN
    by_cases c : bt s n = 1
    · rw [if_pos c]
      show f2 (set2 (bhN x to s n) (2 * n)  to) (2 * t) = _
      rw [f2_set2 ht (by omega)]
      by_cases e : t = n
      · subst e
        rw [if_pos rfl, if_pos ⟨Nat.lt_succ_self _, c⟩]
      · rw [if_neg (by omega)]
        refine ih.trans ?_
        by_cases e2 : t < n ∧ bt s t = 1
        · rw [if_pos e2, if_pos ⟨by omega, e2.2⟩]
        · rw [if_neg e2, if_neg (fun q => e2 ⟨by omega, q.2⟩)]
    · rw [if_neg c, ih]
      by_cases e : t = n
      · subst e
        rw [if_neg (by omega), if_neg (fun q => c q.2)]
      · by_cases e2 : t < n ∧ bt s t = 1
        · rw [if_pos e2, if_pos ⟨by omega, e2.2⟩]
        · rw [if_neg e2, if_neg (fun q => e2 ⟨by omega, q.2⟩)]
theorem hi_bhN {x to s q : Nat} (ht : to < 4) (hq : 16 ≤ q) : ∀ n, n ≤ 8 → f2 (bhN x to s n) q = f2 x q
  | 0, _ => rfl
  | n + 1, h => by
    have ih := hi_bhN (x := x) (s := s) ht hq n (by omega)
    unfold bhN
    split
    · rw [f2_set2 ht (by omega), if_neg (by omega), ih]
    · exact ih
theorem bh_def (T lamp x b to s : Nat) : bh T lamp x b to s = if lamp = 0 then bhN (set2 x (16 + 2 * b) to) to s T else set2 (bhN (set2 x (16 + 2 * b) to) to s T) 20 to := rfl
theorem th_bh {T lamp x b to s t : Nat} (hto : to < 4) (hb : b < 2) (ht : t < 8) : th (bh T lamp x b to s) t = if t < T ∧ bt s t = 1 then to else th x t := by
  have e : th (bhN (set2 x (16 + 2 * b) to) to s T) t = if t < T ∧ bt s t = 1 then to else th x t := by
    rw [th_bhN hto]
    by_cases c : t < T ∧ bt s t = 1
    · rw [if_pos c, if_pos c]
    · rw [if_neg c, if_neg c]
      show f2 (set2 x (16 + 2 * b) to) (2 * t) = _
      rw [f2_set2 hto (by omega), if_neg (by omega)]
      rfl
  rw [bh_def]
  by_cases c : lamp = 0
  · rw [if_pos c]
    exact e
  · rw [if_neg c]
    show f2 (set2 _ 20 to) (2 * t) = _
    rw [f2_set2 hto (by omega), if_neg (by omega)]
    exact e
theorem bo_bh {T lamp x b to s c : Nat} (hto : to < 4) (hb : b < 2) (hc : c < 2) (hT : T ≤ 8) : bo (bh T lamp x b to s) c = if c = b then to else bo x c := by
  have e : bo (bhN (set2 x (16 + 2 * b) to) to s T) c = if c = b then to else bo x c := by
    show f2 _ (16 + 2 * c) = _
    rw [hi_bhN hto (by omega) T hT, f2_set2 hto (by omega)]
    by_cases k : c = b
    · rw [if_pos (by omega), if_pos k]
    · rw [if_neg (by omega), if_neg k]
      rfl
  rw [bh_def]
  by_cases k : lamp = 0
  · rw [if_pos k]
    exact e
  · rw [if_neg k]
    show f2 (set2 _ 20 to) (16 + 2 * c) = _
    rw [f2_set2 hto (by omega), if_neg (by omega)]
    exact e
theorem la_bh {T lamp x b to s : Nat} (hto : to < 4) (hb : b < 2) (hT : T ≤ 8) : la (bh T lamp x b to s) = if lamp = 0 then la x else to := by
  rw [bh_def]
  by_cases k : lamp = 0
  · rw [if_pos k, if_pos k]
    show f2 _ 20 = _
    rw [hi_bhN hto (by omega) T hT, f2_set2 hto (by omega), if_neg (by omega)]
    rfl
  · rw [if_neg k, if_neg k]
    show f2 _ 20 = _
    rw [f2_set2 hto (Or.inl rfl), if_pos rfl]
theorem f2_stN {at_ : Nat → Nat} {q : Nat} : ∀ n, n ≤ 2 → (∀ b, b < n → at_ b < 4) → (∀ b, b < 2 → q ≠ 16 + 2 * b) → (q + 2 ≤ 16 ∨ 20 ≤ q) → f2 (stN at_ n) q = 0
  | 0, _, _, _, _ => f2_0 q
  | n + 1, h, ha, hq, hr => by
    unfold stN
    have := hq n (by omega)
    rw [f2_or (ha n (Nat.lt_succ_self _)) (by omega), if_neg this]
    exact f2_stN n (by omega) (fun b hb => ha b (by omega)) hq hr
theorem bo_stN {at_ : Nat → Nat} (b : Nat) : ∀ n, (∀ b, b < n → at_ b < 4) → bo (stN at_ n) b = if b < n then at_ b else 0
  | 0, _ => by
    rw [if_neg (by omega)]
    exact f2_0 _
  | n + 1, ha => by
    have ih := bo_stN (at_ := at_) b n (fun b hb => ha b (by omega))
    unfold stN
    show f2 _ (16 + 2 * b) = _
    rw [f2_or (ha n (Nat.lt_succ_self _)) (by omega)]
    by_cases c : b = n
    · subst c
      rw [if_pos rfl, if_pos (Nat.lt_succ_self _)]
      have e : f2 (stN at_ b) (16 + 2 * b) = 0 := ih.trans (if_neg (by omega))
      rw [e, Nat.zero_or]
    · rw [if_neg (by omega)]
      refine ih.trans ?_
      by_cases k : b < n
      · rw [if_pos k, if_pos (by omega)]
      · rw [if_neg k, if_neg (by omega)]
theorem th_st0 {at_ : Nat → Nat} {B lamp t : Nat} (hB : B ≤ 2) (ha : ∀ b, b < B → at_ b < 4) (hl : lamp ≤ 4) (ht : t < 8) : th (st0 at_ B lamp) t = 0 := by
  have e : f2 (stN at_ B) (2 * t) = 0 := f2_stN B hB ha (fun b hb => by omega) (by omega)
  unfold st0
  split
  · exact e
  · show f2 _ (2 * t) = _
    rw [f2_or (by omega) (by omega), if_neg (by omega)]
    exact e
theorem bo_st0 {at_ : Nat → Nat} {B lamp b : Nat} (ha : ∀ b, b < B → at_ b < 4) (hl : lamp ≤ 4) (hb : b < 2) : bo (st0 at_ B lamp) b = if b < B then at_ b else 0 := by
  have e := bo_stN b B ha
  unfold st0
  split
  · exact e
  · show f2 _ (16 + 2 * b) = _
    rw [f2_or (by omega) (by omega), if_neg (by omega)]
    exact e
theorem la_st0 {at_ : Nat → Nat} {B lamp : Nat} (hB : B ≤ 2) (ha : ∀ b, b < B → at_ b < 4) (hl : lamp ≤ 4) : la (st0 at_ B lamp) = lamp - 1 := by
  have e : f2 (stN at_ B) 20 = 0 := f2_stN B hB ha (fun b hb => by omega) (by omega)
  unfold st0
  split
  · next h =>
    rw [h]
    exact e
  · show f2 _ 20 = _
    rw [f2_or (by omega) (Or.inl rfl), if_pos rfl, e, Nat.zero_or]
/-- a state without other bits than those of things, boats, lamp -/
def nrm (T B lamp x : Nat) : Prop := x < 4194304 ∧ (∀ t, T ≤ t → t < 8 → th x t = 0) ∧ (∀ b, B ≤ b → b < 2 → bo x b = 0) ∧ (lamp = 0 → la x = 0)
theorem nrm_ext {T B lamp x y : Nat} (hx : nrm T B lamp x) (hy : nrm T B lamp y) (h1 : ∀ t, t < T → th x t = th y t) (h2 : ∀ b, b < B → bo x b = bo y b) (h3 : lamp ≠ 0 → la x = la y) : x = y := by
  have hth : ∀ t, t < 8 → f2 x (2 * t) = f2 y (2 * t) := fun t ht => by
    by_cases c : t < T
    · exact h1 t c
    · exact (hx.2.1 t (by omega) ht).trans (hy.2.1 t (by omega) ht).symm
  have hbo : ∀ b, b < 2 → f2 x (16 + 2 * b) = f2 y (16 + 2 * b) := fun b hb => by
    by_cases c : b < B
    · exact h2 b c
    · exact (hx.2.2.1 b (by omega) hb).trans (hy.2.2.1 b (by omega) hb).symm
  have hla : f2 x 20 = f2 y 20 := by
    by_cases c : lamp = 0
    · exact (hx.2.2.2 c).trans (hy.2.2.2 c).symm
    · exact h3 c
  have hall : ∀ t, t < 11 → f2 x (2 * t) = f2 y (2 * t) := fun t ht => by
    by_cases c : t < 8
    · exact hth t c
    · by_cases c2 : t < 10
      · have := hbo (t - 8) (by omega)
        rw [show 16 + 2 * (t - 8) = 2 * t by omega] at this
        exact this
      · rw [show 2 * t = 20 by omega]
        exact hla
  apply Nat.eq_of_testBit_eq
  intro i
  by_cases c : i < 22
  · have z := congrArg (fun v => Nat.testBit v (i % 2)) (hall (i / 2) (by omega))
    simp only [f2_tb] at z
    rw [decide_eq_true (Nat.mod_lt i (by decide)), Bool.true_and, Bool.true_and, show i % 2 + 2 * (i / 2) = i by omega] at z
    exact z
  · rw [Nat.testBit_lt_two_pow (Nat.lt_of_lt_of_le hx.1 (p2_le (a := 22) (by omega))), Nat.testBit_lt_two_pow (Nat.lt_of_lt_of_le hy.1 (p2_le (a := 22) (by omega)))]
abbrev NR (τ : Td) (x : Nat) : Prop := nrm (tN τ 30) (tN τ 31) (tN τ 33) x
theorem TB.at4 {τ : Td} (h : TB τ) : ∀ b, b < tN τ 31 → tA τ 43 b < 4 := fun b hb => by
  have h1 := (h.2.2.1 b hb).2.2.2
  have h2 := h.1.2.1
  omega
theorem NR_st {τ : Td} (h : TB τ) : NR τ (stT τ) := by
  have h4 := h.at4
  obtain ⟨⟨b1, b2, b3, b4, b5, b6, b7⟩, -⟩ := h
  refine ⟨st0_lt b4 h4 (by omega), fun t _ ht => th_st0 b4 h4 (by omega) ht, fun b hb hb2 => ?_, fun hl => ?_⟩
  · show bo (st0 _ _ _) b = 0
    rw [bo_st0 h4 (by omega) hb2, if_neg (by omega)]
  · show la (st0 _ _ _) = 0
    rw [la_st0 b4 h4 (by omega), hl]
theorem NR_bh {τ : Td} (h : TB τ) {x b to s : Nat} (hx : NR τ x) (hb : b < tN τ 31) (hto : to < 4) : NR τ (bhT τ x b to s) := by
  have q := h
  obtain ⟨⟨b1, b2, b3, b4, b5, b6, b7⟩, -⟩ := h
  refine ⟨bhT_lt q hx.1 (by omega) hto, fun t h1 h2 => ?_, fun c h1 h2 => ?_, fun hl => ?_⟩
  · show th (bh _ _ _ _ _ _) t = 0
    rw [th_bh hto (by omega) h2, if_neg (by omega)]
    exact hx.2.1 t h1 h2
  · show bo (bh _ _ _ _ _ _) c = 0
    rw [bo_bh hto (by omega) h2 b3, if_neg (by omega)]
    exact hx.2.2.1 c h1 h2
  · show la (bh _ _ _ _ _ _) = 0
    rw [la_bh hto (by omega) b3, if_pos hl]
    exact hx.2.2.2 hl
/-- the code of a state -/
def cdA (x : Nat) : Nat → Nat
  | 0 => 0
  | k + 1 => cdA x k * 4 + th x k
def cdB (x v : Nat) : Nat → Nat
  | 0 => v
  | b + 1 => cdB x v b * 4 + bo x b
def cdT (τ : Td) (x : Nat) : Nat := cdB x (cdA x (tN τ 30)) (tN τ 31) * 4 + if tN τ 33 = 0 then 0 else la x
theorem th4 (x t : Nat) : th x t < 4 := f2_lt x _
theorem cdA_lt (x : Nat) : ∀ k, cdA x k < 4 ^ k
  | 0 => (by decide : (0 : Nat) < 1)
  | k + 1 => by
    unfold cdA
    have h1 := cdA_lt x k
    have h2 := th4 x k
    rw [Nat.pow_succ]
    omega
theorem cdB_lt (x v T : Nat) (hv : v < 4 ^ T) : ∀ k, cdB x v k < 4 ^ (T + k)
  | 0 => hv
  | k + 1 => by
    unfold cdB
    have h1 := cdB_lt x v T hv k
    have h2 := bo_lt x k
    rw [show T + (k + 1) = (T + k) + 1 by omega, Nat.pow_succ]
    omega
theorem cdT_lt {τ : Td} (h : TB τ) (x : Nat) : cdT τ x < 4194304 := by
  obtain ⟨⟨b1, b2, b3, b4, b5, b6, b7⟩, -⟩ := h
  have h1 := cdB_lt x _ _ (cdA_lt x (tN τ 30)) (tN τ 31)
  have h2 : 4 ^ (tN τ 30 + tN τ 31) ≤ 4 ^ 10 := Nat.pow_le_pow_right (by decide) (by omega)
  have h3 : (4 : Nat) ^ 10 = 1048576 := by decide
  have h4 := la_lt x
  unfold cdT
  split <;> omega
theorem cdA_inj {x y : Nat} : ∀ k, cdA x k = cdA y k → ∀ t, t < k → th x t = th y t
  | 0, _, t, h => absurd h (by omega)
  | k + 1, e, t, h => by
    unfold cdA at e
    have h1 := th4 x k
    have h2 := th4 y k
    by_cases c : t = k
    · subst c
      omega
    · exact cdA_inj k (by omega) t (by omega)
theorem cdB_inj {x y v w : Nat} : ∀ k, cdB x v k = cdB y w k → v = w ∧ ∀ b, b < k → bo x b = bo y b
  | 0, e => ⟨e, fun b h => absurd h (by omega)⟩
  | k + 1, e => by
    unfold cdB at e
    have h1 := bo_lt x k
    have h2 := bo_lt y k
    obtain ⟨g1, g2⟩ := cdB_inj (x := x) (y := y) (v := v) (w := w) k (by omega)
    refine ⟨g1, fun b h => ?_⟩
    by_cases c : b = k
    · subst c
      omega
    · exact g2 b (by omega)
theorem cdT_inj {τ : Td} {x y : Nat} (hx : NR τ x) (hy : NR τ y) (e : cdT τ x = cdT τ y) : x = y := by
  unfold cdT at e
  have h1 := la_lt x
  have h2 := la_lt y
  have e1 : cdB x (cdA x (tN τ 30)) (tN τ 31) = cdB y (cdA y (tN τ 30)) (tN τ 31) := by
    split at e <;> omega
  obtain ⟨g1, g2⟩ := cdB_inj _ e1
  refine nrm_ext hx hy (cdA_inj _ g1) g2 fun hl => ?_
  rw [if_neg hl, if_neg hl] at e
  omega
theorem btb {s t : Nat} : bt s t = 1 ↔ s.testBit t = true := tb_m s t
/-- the sets behind a crossing -/
theorem mv_set {x y p to s T sh : Nat} {g : Nat → Nat} (hg : ∀ i, i < 4 → g i = setN x i T) (hp : p < 4) (hto : to < 4) (hs : ndf s (setN x p T) = 0) (hsh : sh < 4) (hth : ∀ t, t < T → th y t = if bt s t = 1 then to else th x t) : va_up (va_up g p (ndf (g p) s)) to (va_up g p (ndf (g p) s) to ||| s) sh = setN y sh T := by
  have hsb : ∀ i, s.testBit i = true → i < T ∧ th x i = p := fun i hi => by
    have h1 := ndf_tb s (setN x p T) i
    rw [hs, Nat.zero_testBit, hi, Bool.true_and] at h1
    have h2 : (setN x p T).testBit i = true := by
      cases h : (setN x p T).testBit i
      · rw [h] at h1; cases h1
      · rfl
    exact (setN_tb x p i T).mp h2
  have e1 : ∀ sh i, sh < 4 → ((va_up g p (ndf (g p) s) sh).testBit i = true ↔ (i < T ∧ th x i = sh) ∧ ¬ (sh = p ∧ s.testBit i = true)) := fun sh i h4 => by
    by_cases c : sh = p
    · subst c
      rw [va_up_e, ndf_tb, hg sh h4, Bool.and_eq_true, setN_tb, Bool.not_eq_true']
      constructor
      · rintro ⟨h1, h2⟩
        exact ⟨h1, fun q => by rw [q.2] at h2; cases h2⟩
      · rintro ⟨h1, h2⟩
        refine ⟨h1, ?_⟩
        cases h : s.testBit i
        · rfl
        · exact absurd ⟨rfl, h⟩ h2
    · rw [va_up_n c, hg sh h4, setN_tb]
      exact ⟨fun h => ⟨h, fun q => c q.1⟩, fun h => h.1⟩
  have hy : ∀ i, i < T → s.testBit i = true → th y i = to := fun i h1 h2 => by rw [hth i h1, if_pos (btb.mpr h2)]
  have hn : ∀ i, i < T → ¬ s.testBit i = true → th y i = th x i := fun i h1 h2 => by rw [hth i h1, if_neg (fun q => h2 (btb.mp q))]
  apply Nat.eq_of_testBit_eq
  intro i
  rw [Bool.eq_iff_iff, setN_tb]
  by_cases c : sh = to
  · subst c
    rw [va_up_e, tb_or, e1 sh i hsh]
    constructor
    · rintro (⟨⟨h1, h2⟩, h3⟩ | h1)
      · refine ⟨h1, ?_⟩
        by_cases k : s.testBit i = true
        · exact hy i h1 k
        · rw [hn i h1 k]; exact h2
      · exact ⟨(hsb i h1).1, hy i (hsb i h1).1 h1⟩
    · rintro ⟨h1, h2⟩
      by_cases k : s.testBit i = true
      · exact Or.inr k
      · rw [hn i h1 k] at h2
        exact Or.inl ⟨⟨h1, h2⟩, fun q => k q.2⟩
  · rw [va_up_n c, e1 sh i hsh]
    constructor
    · rintro ⟨⟨h1, h2⟩, h3⟩
      refine ⟨h1, ?_⟩
      by_cases k : s.testBit i = true
      · exact absurd ⟨h2.symm.trans (hsb i k).2, k⟩ h3
      · rw [hn i h1 k]; exact h2
    · rintro ⟨h1, h2⟩
      by_cases k : s.testBit i = true
      · exact absurd ((hy i h1 k).symm.trans h2).symm c
      · rw [hn i h1 k] at h2
        exact ⟨⟨h1, h2⟩, fun q => k q.2⟩
theorem mv_setT {τ : Td} (h : TB τ) {x b to s sh : Nat} {g : Nat → Nat} (hg : ∀ i, i < 4 → g i = setN x i (tN τ 30)) (hb : b < 2) (hto : to < 4) (hs : ndf s (setN x (bo x b) (tN τ 30)) = 0) (hsh : sh < 4) : va_up (va_up g (bo x b) (ndf (g (bo x b)) s)) to (va_up g (bo x b) (ndf (g (bo x b)) s) to ||| s) sh = setN (bhT τ x b to s) sh (tN τ 30) :=
  mv_set hg (bo_lt x b) hto hs hsh (fun t ht => by
    have h8 := h.1.2.2.1
    show th (bh _ _ _ _ _ _) t = _
    rw [th_bh hto hb (by omega)]
    by_cases c : bt s t = 1
    · rw [if_pos ⟨ht, c⟩, if_pos c]
    · rw [if_neg (fun q => c q.2), if_neg c])
/-! ===== subsets, one after the other ===== -/
/-- the least subset of t but the empty one; the next behind s -/
def sbF (t : Nat) : Nat := t &&& (256 - t) % 256
def sbN (t s : Nat) : Nat := (256 + s - t) % 256 &&& t
def sbL (t : Nat) : List Nat := (List.range' 1 255).filter fun s => ndf s t == 0
def sbC (t : Nat) : Nat → List Nat → Bool
  | a, [] => a == 0
  | a, b :: l => a == b && sbC t (sbN t b) l
theorem sb_ok : ∀ t, t < 256 → sbC t (sbF t) (sbL t) = true := by decide +kernel
