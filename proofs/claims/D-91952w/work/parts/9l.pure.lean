set_option maxRecDepth 100000
/-! ===== rounds as the component goes through them: by lists, a number of its own for each state ===== -/
def ixT (τ : Td) (x : Nat) : Nat := setN x 1 (tN τ 30) * 2 ^ 2 ||| bo x 0 * 2 ^ 1 ||| bo x 1
theorem ixT_eq {τ : Td} {x : Nat} (h : VL τ x) : ixT τ x = 4 * setN x 1 (tN τ 30) + (2 * bo x 0 + bo x 1) := by
  have h0 := (h.b2 0).1
  have h1 := (h.b2 1).1
  unfold ixT
  rw [Nat.or_assoc, Nat.mul_comm (bo x 0), ← Nat.two_pow_add_eq_or_of_lt (i := 1) (b := bo x 1) (by omega), Nat.mul_comm (setN x 1 (tN τ 30)), ← Nat.two_pow_add_eq_or_of_lt (i := 2) (by omega)]
theorem ixT_lt {τ : Td} (hT : tN τ 30 ≤ 8) {x : Nat} (h : VL τ x) : ixT τ x < 1024 := by
  have h0 := (h.b2 0).1
  have h1 := (h.b2 1).1
  have h2 := setN_256 x 1 hT
  rw [ixT_eq h]
  omega
theorem ix_inj {τ : Td} (hT : tN τ 30 ≤ 8) {x y : Nat} (hx : VL τ x) (hy : VL τ y) (e : ixT τ x = ixT τ y) : x = y := by
  have a0 := (hx.b2 0).1
  have a1 := (hx.b2 1).1
  have b0 := (hy.b2 0).1
  have b1 := (hy.b2 1).1
  rw [ixT_eq hx, ixT_eq hy] at e
  refine sm_inj hT hx hy ?_
  unfold smT
  rw [show setN x 1 (tN τ 30) = setN y 1 (tN τ 30) by omega, show bo x 0 = bo y 0 by omega, show bo x 1 = bo y 1 by omega]
/-- RAk with any set of numbers that are done -/
def RAd (τ : Td) (ra : Nat → Nat) (d : Nat) (D : Nat → Prop) : Prop := (∀ j, j < 1024 → ra j ≠ 0 → ra j ≤ d + 2 ∧ ∃ x, VL τ x ∧ smT τ x = j ∧ rdR τ (ra j - 1) x) ∧ ra (smT τ (stT τ)) = 1 ∧ ∀ x, VL τ x → ra (smT τ x) ≠ 0 → (ra (smT τ x) ≤ d ∨ (ra (smT τ x) = d + 1 ∧ D (smT τ x))) → ¬ goalT τ x ∧ ∀ y, rdS τ x y → ra (smT τ y) ≠ 0 ∧ ra (smT τ y) ≤ ra (smT τ x) + 1
theorem RAd.k0 {τ : Td} {ra : Nat → Nat} {d : Nat} {D : Nat → Prop} (h : RAd τ ra d D) : RAk τ ra d 0 := ⟨h.1, h.2.1, fun x h1 h2 h3 => h.2.2 x h1 h2 (h3.elim Or.inl (fun q => absurd q.2 (by omega)))⟩
theorem RAd.of {τ : Td} {ra : Nat → Nat} {d : Nat} (h : RAk τ ra d 0) : RAd τ ra d (fun _ => False) := ⟨h.1, h.2.1, fun x h1 h2 h3 => h.2.2 x h1 h2 (h3.elim Or.inl (fun q => q.2.elim))⟩
theorem RAd.weak {τ : Td} {ra : Nat → Nat} {d : Nat} {D D2 : Nat → Prop} (h : RAd τ ra d D) (q : ∀ j, D2 j → D j) : RAd τ ra d D2 := ⟨h.1, h.2.1, fun x h1 h2 h3 => h.2.2 x h1 h2 (h3.imp id (fun z => ⟨z.1, q _ z.2⟩))⟩
theorem RAd.next {τ : Td} {ra : Nat → Nat} {d : Nat} {D : Nat → Prop} (h : RAd τ ra d D) (hD : ∀ x, VL τ x → ra (smT τ x) = d + 1 → D (smT τ x)) : RAd τ ra (d + 1) (fun _ => False) := ⟨fun j h1 h2 => ⟨by have := (h.1 j h1 h2).1; omega, (h.1 j h1 h2).2⟩, h.2.1, fun x h1 h2 h3 => h.2.2 x h1 h2 (by
  rcases h3 with q | q
  · by_cases c : ra (smT τ x) = d + 1
    · exact Or.inr ⟨c, hD x h1 c⟩
    · exact Or.inl (by omega)
  · exact q.2.elim)⟩
theorem RAd.step {τ : Td} (hT : tN τ 30 ≤ 8) (hlm : tN τ 33 = 0) {ra rb : Nat → Nat} {d : Nat} {D : Nat → Prop} (h : RAd τ ra d D) {x : Nat} (hx : VL τ x) (e : ra (smT τ x) = d + 1) (hg : ¬ goalT τ x) (hU : UpR τ (d + 2) (fun y => rdS τ x y) ra rb) (hA : ∀ y, rdS τ x y → rb (smT τ y) ≠ 0) : RAd τ rb d (fun j => D j ∨ j = smT τ x) := by
  obtain ⟨h1, h2, h3⟩ := h
  have hR : rdR τ d x := by
    obtain ⟨-, z, z1, z2, z3⟩ := h1 _ (smT_lt hT hx) (by omega)
    rw [e, sm_inj hT z1 hx z2] at z3
    exact z3
  have le : ∀ j, j < 1024 → rb j ≤ d + 2 := fun j hj => by
    rcases hU j with a | ⟨-, a, -⟩
    · rw [a]
      by_cases c : ra j = 0
      · omega
      · exact (h1 j hj c).1
    · omega
  refine ⟨fun j hj hn => ⟨le j hj, ?_⟩, ?_, fun z hz hn hc => ?_⟩
  · rcases hU j with a | ⟨a1, a2, y, a3, a4, a5⟩
    · rw [a] at hn ⊢
      exact (h1 j hj hn).2
    · rw [a2]
      exact ⟨y, a4, a5, x, hR, a3⟩
  · rcases hU (smT τ (stT τ)) with a | ⟨a, -⟩
    · rw [a]; exact h2
    · rw [h2] at a; exact absurd a (by decide)
  · have hzr : rb (smT τ z) = ra (smT τ z) := by
      rcases hU (smT τ z) with a | ⟨a1, a2, -⟩
      · exact a
      · omega
    by_cases c : smT τ z = smT τ x
    · have ez : z = x := sm_inj hT hz hx c
      subst ez
      refine ⟨hg, fun y hy => ⟨hA y hy, ?_⟩⟩
      rw [hzr, e]
      exact le _ (smT_lt hT (hy.vl hlm hx))
    · rw [hzr] at hn hc ⊢
      obtain ⟨g1, g2⟩ := h3 z hz hn (hc.imp id (fun q => ⟨q.1, q.2.resolve_right c⟩))
      refine ⟨g1, fun y hy => ?_⟩
      obtain ⟨g3, g4⟩ := g2 y hy
      refine ⟨hU.keep g3, ?_⟩
      rcases hU (smT τ y) with a | ⟨a, -⟩
      · rw [a]; exact g4
      · exact absurd a g3
/-- the numbers that were come to, and the list of those that are new -/
def RIv (τ : Td) (ra : Nat → Nat) (v c : Nat) (g3 : Nat → Nat) (n : Nat) (gx : Nat → Nat) : Prop :=
  (∀ x, VL τ x → g3 (ixT τ x) = if ra (smT τ x) = 0 then 0 else 1) ∧ (∀ j, g3 j < 2) ∧ n + c ≤ cntN ra 1024 ∧
  ∃ nx : Nat → Nat, (∀ i, i < n → VL τ (nx i) ∧ gx i = cdT τ (nx i) ∧ ra (smT τ (nx i)) = v) ∧ ∀ x, VL τ x → ra (smT τ x) = v → ∃ i, i < n ∧ nx i = x
theorem RIv.room {τ : Td} {ra : Nat → Nat} {v c n : Nat} {g3 gx : Nat → Nat} (h : RIv τ ra v c g3 n gx) {k : Nat} (hk : k < 1024) (h0 : ra k = 0) : n + c < 1024 := by
  have h1 := h.2.2.1
  have h2 := cntN_up (f := ra) (v := 1) (by decide) h0 hk
  have h3 := cntN_le (va_up ra k 1) 1024
  omega
theorem RIv.put {τ : Td} (hT : tN τ 30 ≤ 8) {ra : Nat → Nat} {v c n : Nat} {g3 gx : Nat → Nat} (h : RIv τ ra v c g3 n gx) (hv : v ≠ 0) {y : Nat} (hy : VL τ y) (h0 : ra (smT τ y) = 0) : RIv τ (va_up ra (smT τ y) v) v c (va_up g3 (ixT τ y) 1) (n + 1) (va_up gx n (cdT τ y)) := by
  obtain ⟨h1, h2, h3, nx, h4, h5⟩ := h
  refine ⟨fun x hx => ?_, fun j => ?_, ?_, va_up nx n y, fun i hi => ?_, fun x hx hr => ?_⟩
  · by_cases c1 : x = y
    · subst c1
      rw [va_up_e, va_up_e, if_neg hv]
    · rw [va_up_n (fun q => c1 (ix_inj hT hx hy q)), va_up_n (fun q => c1 (sm_inj hT hx hy q))]
      exact h1 x hx
  · by_cases c1 : j = ixT τ y
    · rw [c1, va_up_e]; decide
    · rw [va_up_n c1]; exact h2 j
  · rw [cntN_up hv h0 (smT_lt hT hy)]
    omega
  · by_cases c1 : i = n
    · rw [c1]
      simp only [va_up_e]
      exact ⟨hy, trivial, trivial⟩
    · obtain ⟨g1, g2, g3'⟩ := h4 i (by omega)
      have c2 : smT τ (nx i) ≠ smT τ y := fun q => by rw [q, h0] at g3'; exact hv g3'.symm
      rw [va_up_n c1, va_up_n c1, va_up_n c2]
      exact ⟨g1, g2, g3'⟩
  · by_cases c1 : x = y
    · exact ⟨n, Nat.lt_succ_self _, by rw [va_up_e, c1]⟩
    · rw [va_up_n (fun q => c1 (sm_inj hT hx hy q))] at hr
      obtain ⟨i, g1, g2⟩ := h5 x hx hr
      exact ⟨i, by omega, by rw [va_up_n (by omega)]; exact g2⟩
/-- a level begins: nothing is new -/
theorem RIv.lev {τ : Td} {ra : Nat → Nat} {d c n : Nat} {g3 gx gz : Nat → Nat} (h : RIv τ ra (d + 1) c g3 n gx) (hl : ∀ j, j < 1024 → ra j ≤ d + 1) (hT : tN τ 30 ≤ 8) : RIv τ ra (d + 2) (cntN ra 1024) g3 0 gz := ⟨h.1, h.2.1, by omega, fun _ => 0, fun i hi => absurd hi (by omega), fun x hx hr => absurd hr (by have := hl _ (smT_lt hT hx); omega)⟩
theorem kp_0 (v : Nat) : kp 0 v = v := if_pos rfl
/-- what the component's judge says of a crossing to the other shore -/
theorem why_0 {τ : Td} (hTB : TB τ) (hS : tN τ 29 = 2) (hB : tN τ 31 = 2) (hlm : tN τ 33 = 0) {x b s : Nat} (hx : VL τ x) (hb : b < 2) (hs : 0 < s) (hst : bsT τ 0 (stT τ) 0 0 0 = 0) : (jgN τ (tA τ 41) (tA τ 42) 0 x (nI b) (nI (1 - bo x b)) s).1 = 0 ↔ R0 τ x b s ∧ bsT τ 0 x s (1 * 2 ^ b) 1 = 0 ∧ bsT τ 0 (Y1 τ x b s) 0 0 0 = 0 := by
  have hbl := (hx.b2 b).1
  have hb' : b < tN τ 31 := by omega
  have ht' : 1 - bo x b < tN τ 29 := by omega
  by_cases hf : flT τ (bo x b) (1 - bo x b) = 0
  · refine ⟨fun h => ?_, fun h => absurd hf h.1.2.1⟩
    exfalso
    have e1 : (nI b).toInt.toNat = b := by rw [nI_toInt (by omega)]; rfl
    have e2 : (nI (1 - bo x b)).toInt.toNat = 1 - bo x b := by rw [nI_toInt (by omega)]; rfl
    have ep : plN τ (tA τ 41) (tA τ 42) x (nI b) (nI (1 - bo x b)) s = 1 := by
      unfold plN
      rw [inB_n hb' (by omega), inB_n ht' (by omega), if_neg (by decide), e1, e2]
      unfold brN
      rw [if_pos hf]
    unfold jgN jd at h
    rw [ep, if_pos (by decide)] at h
    exact absurd (show (1 : Nat) = 0 from h) (by decide)
  · rw [jgN_0 hb' ht' (by omega) (by omega) hf]
    constructor
    · rintro ⟨-, -, h3, h4, h5, h6, h7⟩
      exact ⟨⟨mem_mayL h3 (ndf_0 (setN_lt _ _ _) h4) (by omega), hf, h4, h5⟩, h6, h7⟩
    · rintro ⟨⟨h1, h2, h3, h4⟩, h5, h6⟩
      have h7 := (List.mem_filter.mp h1).2
      unfold mayB at h7
      exact ⟨hst, Or.inl hlm, of_decide_eq_true h7, h3, h4, h5, h6⟩
theorem plN_R0 {τ : Td} (hS : tN τ 29 = 2) (hB : tN τ 31 = 2) (hlm : tN τ 33 = 0) {x b s : Nat} (hx : VL τ x) (hb : b < 2) (hs : 0 < s) : (plN τ (tA τ 41) (tA τ 42) x (nI b) (nI (1 - bo x b)) s = 0 → ∀ h : abT τ 0 s = 0, R0 τ x b s) ∧ (R0 τ x b s → plN τ (tA τ 41) (tA τ 42) x (nI b) (nI (1 - bo x b)) s = 0) ∧ (plN τ (tA τ 41) (tA τ 42) x (nI b) (nI (1 - bo x b)) s = 0 → ndf s (setN x (bo x b) (tN τ 30)) = 0) := by
  have hbl := (hx.b2 b).1
  have e1 : (nI b).toInt.toNat = b := by rw [nI_toInt (by omega)]; rfl
  have e2 : (nI (1 - bo x b)).toInt.toNat = 1 - bo x b := by rw [nI_toInt (by omega)]; rfl
  have ep : plN τ (tA τ 41) (tA τ 42) x (nI b) (nI (1 - bo x b)) s = brN (tN τ 29) (tN τ 30) (tN τ 33) (tA τ 38) (tA τ 39) (tA τ 41) (tA τ 42) (flT τ) x b (1 - bo x b) s := by
    unfold plN
    rw [inB_n (show b < tN τ 31 by omega) (by omega), inB_n (show 1 - bo x b < tN τ 29 by omega) (by omega), if_neg (by decide), e1, e2]
  rw [ep]
  refine ⟨fun h h2 => ?_, fun h => ?_, fun h => (brN_0 h).2.1⟩
  · obtain ⟨q1, q2, q3, q4, q5, q6⟩ := brN_0 h
    exact ⟨mem_mayL ⟨q3, q4, q5⟩ (ndf_0 (setN_lt _ _ _) q2) (by omega), q1, q2, h2⟩
  · obtain ⟨h1, h2, h3, h4⟩ := h
    have h7 := (List.mem_filter.mp h1).2
    unfold mayB at h7
    obtain ⟨g1, g2, g3⟩ := of_decide_eq_true h7
    unfold brN
    rw [if_neg h2, if_neg (fun z => z h3), if_neg g1, if_neg (by omega), if_neg (by omega), if_neg (fun z => z.1 hlm)]
theorem R0.len {τ : Td} {x b s : Nat} (h : R0 τ x b s) : popc s ≤ tA τ 41 b := by
  have h7 := (List.mem_filter.mp h.1).2
  unfold mayB at h7
  exact (of_decide_eq_true h7).2.1
theorem R0.pos {τ : Td} {x b s : Nat} (h : R0 τ x b s) : 0 < s := by
  obtain ⟨i, h3, h4⟩ := List.mem_range'.mp (List.mem_filter.mp h.1).1
  omega
theorem sbL_in {τ : Td} (hT : tN τ 30 ≤ 8) {x b s : Nat} (h : R0 τ x b s) : s ∈ sbL (setN x (bo x b) (tN τ 30)) := by
  have h1 := ndf_0 (setN_lt _ _ _) h.2.2.1
  have h2 : 2 ^ tN τ 30 ≤ 2 ^ 8 := p2_le hT
  refine List.mem_filter.mpr ⟨List.mem_range'.mpr ⟨s - 1, by omega, by have := h.pos; omega⟩, ?_⟩
  simpa using h.2.2.1
/-- a round with both boats that is not barred -/
def BQ (τ : Td) (x s q : Nat) : Prop := R0 τ x 0 s ∧ RQ τ x s q ∧ bsT τ 0 (Y2 τ x s q) 0 0 0 = 0
