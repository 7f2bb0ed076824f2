/-! ===== from the goals back: the least first ===== -/
set_option maxRecDepth 100000
theorem xK_f {c : Wc} : ∀ {n k : Nat} {X Y : XT}, xK c n k X = some Y → k ≤ xn X → (k = 0 → xe X = 0) → (0 < k → xfs X 0 = 0) → xfs Y 0 = 0 ∧ xfs Y (xn Y) = xe Y
  | 0, k, X, Y, h, _, _, _ => by cases h
  | n + 1, k, X, Y, h, hk, h0, h1 => by
    have h : (if k < xn X then (if bsT c.1 c.2.2.2 (stT c.1) 0 0 0 = 0 then xBo c k (xst X k) (tN c.1 31) 0 (xFst X k) else some (xFst X k)).bind (xK c n (k + 1)) else some (xFst X (xn X))) = some Y := h
    by_cases c1 : k < xn X
    · rw [if_pos c1] at h
      obtain ⟨Z, h2, h3⟩ := obind_some h
      have hg : XG (xFst X k) Z := by
        split at h2
        · exact xBo_g h2
        · cases h2; exact XG.rf _
      have hx : xn X ≤ xn Z := hg.2.1
      refine xK_f h3 (by omega) (fun q => by omega) (fun _ => ?_)
      rw [hg.1]
      show va_up (xfs X) k (xe X) 0 = 0
      by_cases c2 : 0 = k
      · subst c2; rw [va_up_e]; exact h0 rfl
      · rw [va_up_n c2]; exact h1 (by omega)
    · rw [if_neg c1] at h
      cases h
      refine ⟨?_, ?_⟩
      · show va_up (xfs X) (xn X) (xe X) 0 = 0
        by_cases c2 : 0 = xn X
        · exact (show va_up (xfs X) (xn X) (xe X) 0 = xe X from if_pos c2).trans (h0 (by omega))
        · rw [va_up_n c2]; exact h1 (by omega)
      · show va_up (xfs X) (xn X) (xe X) (xn X) = xe X
        rw [va_up_e]
theorem expl_f {c : Wc} {X : XT} (h : expl c = some X) : xfs X 0 = 0 ∧ xfs X (xn X) = xe X := xK_f h (Nat.zero_le _) (fun _ => rfl) (fun q => absurd q (by decide))
/-- whose crossing e is -/
theorem own_e {X : XT} (hw : XW X) (h0 : xfs X 0 = 0) {e : Nat} : ∀ {n : Nat}, n ≤ xn X → e < xfs X n → ∃ s, s < n ∧ xfs X s ≤ e ∧ e < xfs X (s + 1)
  | 0, _, h => absurd h (by omega)
  | n + 1, hn, h => by
    by_cases c : e < xfs X n
    · obtain ⟨s, h1, h2⟩ := own_e hw h0 (n := n) (by omega) c
      exact ⟨s, by omega, h2⟩
    · exact ⟨n, Nat.lt_succ_self _, by omega, h⟩
theorem lstE_s {ej : Nat → Nat} {j e : Nat} : ∀ {n : Nat}, lstE ej j n = e + 1 → e < n ∧ ej e = j ∧ ∀ i, e < i → i < n → ej i ≠ j
  | 0, h => absurd h (by unfold lstE; omega)
  | n + 1, h => by
    unfold lstE at h
    by_cases c : ej n = j
    · rw [if_pos c] at h
      have e1 : e = n := by omega
      subst e1
      exact ⟨by omega, c, fun i h1 h2 => by omega⟩
    · rw [if_neg c] at h
      obtain ⟨h1, h2, h3⟩ := lstE_s h
      refine ⟨by omega, h2, fun i h4 h5 => ?_⟩
      by_cases c2 : i = n
      · rw [c2]; exact c
      · exact h3 i h4 (by omega)
theorem lstE_0 {ej : Nat → Nat} {j : Nat} : ∀ {n : Nat}, lstE ej j n = 0 → ∀ i, i < n → ej i ≠ j
  | 0, _, i, hi => absurd hi (by omega)
  | n + 1, h, i, hi => by
    unfold lstE at h
    by_cases c : ej n = j
    · rw [if_pos c] at h; cases h
    · rw [if_neg c] at h
      by_cases c2 : i = n
      · rw [c2]; exact c
      · exact lstE_0 h i (by omega)
theorem cntN_all {f : Nat → Nat} : ∀ {n : Nat}, cntN f n = n → ∀ i, i < n → f i ≠ 0
  | 0, _, i, hi => absurd hi (by omega)
  | n + 1, h, i, hi => by
    unfold cntN at h
    have hle := cntN_le f n
    by_cases c : f n = 0
    · rw [if_pos c] at h; omega
    · rw [if_neg c] at h
      by_cases c2 : i = n
      · rw [c2]; exact c
      · exact cntN_all (n := n) (by omega) i (by omega)
/-- while states are done one after the other: K times so far, crossings to s from p on told -/
def DJ (X : XT) (gl : Nat → Prop) (W : Nat → Nat) (Wm K s p : Nat) (dn f : Nat → Nat) : Prop :=
  (∀ x, x < xn X → f x ≤ K * Wm + 1) ∧ (∀ u, u < xn X → dn u ≠ 0 → ∀ x, x < xn X → dn x = 0 → f x ≠ 0 → f u ≤ f x) ∧ (∀ u, u < xn X → dn u ≠ 0 → f u ≠ 0) ∧ (∀ x, x < xn X → gl x → f x = 1) ∧
  (∀ x, x < xn X → ¬ gl x → f x ≠ 0 → ∃ e, xfs X x ≤ e ∧ e < xfs X (x + 1) ∧ dn (xej X e) ≠ 0 ∧ f x = f (xej X e) + W e) ∧
  ∀ x, x < xn X → ∀ e, xfs X x ≤ e → e < xfs X (x + 1) → dn (xej X e) ≠ 0 → (xej X e = s → p ≤ e) → f x ≠ 0 ∧ f x ≤ f (xej X e) + W e
theorem DJ.fin {X : XT} {gl : Nat → Prop} {W : Nat → Nat} {Wm K s : Nat} {dn f : Nat → Nat} (hw : XW X) (hW : ∀ e, 0 < W e) (h : DJ X gl W Wm K s 0 dn f) (hd : ∀ x, x < xn X → dn x = 0 → f x = 0) : EQd X gl W f := by
  obtain ⟨d1, d2, d3, d4, d5, d6⟩ := h
  have hdn : ∀ x, x < xn X → f x ≠ 0 → dn x ≠ 0 := fun x hx hf q => hf (hd x hx q)
  intro k hk
  refine ⟨d4 k hk, fun hg => ⟨fun hf e h1 h2 => ?_, fun hf => ⟨?_, fun e h1 h2 h3 => ?_⟩⟩⟩
  · by_cases c : f (xej X e) = 0
    · exact c
    · exact absurd hf (d6 k hk e h1 h2 (hdn _ (hw.ej hk h2) c) (fun _ => Nat.zero_le _)).1
  · obtain ⟨e, h1, h2, h3, h4⟩ := d5 k hk hg hf
    exact ⟨e, h1, h2, d3 _ (hw.ej hk h2) h3, h4⟩
  · exact (d6 k hk e h1 h2 (hdn _ (hw.ej hk h2) h3) (fun _ => Nat.zero_le _)).2
/-- a state is done -/
theorem DJ.new {X : XT} {gl : Nat → Prop} {W : Nat → Nat} {Wm K s0 s : Nat} {dn f : Nat → Nat} (hw : XW X) (h : DJ X gl W Wm K s0 0 dn f) (hs : s < xn X) (hds : dn s = 0) (hfs : f s ≠ 0) (hmin : ∀ x, x < xn X → dn x = 0 → f x ≠ 0 → f s ≤ f x) : DJ X gl W Wm (K + 1) s (xe X) (va_up dn s 1) f ∧ ∀ u, u < xn X → va_up dn s 1 u ≠ 0 → f u ≤ f s := by
  obtain ⟨d1, d2, d3, d4, d5, d6⟩ := h
  have hup : ∀ u, va_up dn s 1 u ≠ 0 → u ≠ s → dn u ≠ 0 := fun u h1 h2 => by rw [va_up_n h2] at h1; exact h1
  have hup0 : ∀ u, va_up dn s 1 u = 0 → dn u = 0 := fun u h1 => by
    by_cases c : u = s
    · rw [c, va_up_e] at h1; cases h1
    · rw [va_up_n c] at h1; exact h1
  have hupk : ∀ u, dn u ≠ 0 → va_up dn s 1 u ≠ 0 := fun u h1 q => h1 (hup0 u q)
  refine ⟨⟨fun x hx => ?_, fun u hu h1 x hx h2 h3 => ?_, fun u hu h1 => ?_, d4, fun x hx hg hf => ?_, fun x hx e h1 h2 h3 h4 => ?_⟩, fun u hu h1 => ?_⟩
  · have h1 := d1 x hx
    have h2 : K * Wm ≤ (K + 1) * Wm := Nat.mul_le_mul_right _ (by omega)
    omega
  · by_cases c : u = s
    · rw [c]; exact hmin x hx (hup0 x h2) h3
    · exact d2 u hu (hup u h1 c) x hx (hup0 x h2) h3
  · by_cases c : u = s
    · rw [c]; exact hfs
    · exact d3 u hu (hup u h1 c)
  · obtain ⟨e, h1, h2, h3, h4⟩ := d5 x hx hg hf
    exact ⟨e, h1, h2, hupk _ h3, h4⟩
  · have he : e < xe X := by have := hw.2.2.2.2.1 (x + 1) (by omega); omega
    have hne : xej X e ≠ s := fun q => by have := h4 q; omega
    exact d6 x hx e h1 h2 (hup _ h3 hne) (fun _ => Nat.zero_le _)
  · by_cases c : u = s
    · rw [c]; exact Nat.le_refl _
    · exact d2 u hu (hup u h1 c) s hs hds hfs
/-- a crossing to s is told -/
theorem DJ.stp {X : XT} {gl : Nat → Prop} {W : Nat → Nat} {Wm K s p e x : Nat} {dn f : Nat → Nat} (hw : XW X) (hW : ∀ e, 0 < W e) (hWm : e < xe X → W e ≤ Wm) (h : DJ X gl W Wm (K + 1) s p dn f) (hs : s < xn X) (hds : dn s ≠ 0) (hbs : f s ≤ K * Wm + 1) (hle : ∀ u, u < xn X → dn u ≠ 0 → f u ≤ f s) (hx : x < xn X) (h1 : xfs X x ≤ e) (h2 : e < xfs X (x + 1)) (hej : xej X e = s) (hep : ∀ i, e < i → i < p → xej X i ≠ s) :
    DJ X gl W Wm (K + 1) s e dn (if f x = 0 ∨ f s + W e < f x then va_up f x (f s + W e) else f) ∧ (∀ u, u < xn X → dn u ≠ 0 → (if f x = 0 ∨ f s + W e < f x then va_up f x (f s + W e) else f) u = f u) := by
  have he : e < xe X := by have := hw.2.2.2.2.1 (x + 1) (by omega); omega
  have hWe := hW e
  have hWl := hWm he
  obtain ⟨d1, d2, d3, d4, d5, d6⟩ := h
  have hcov : ∀ i, (i = e → False) → (xej X i = s → e ≤ i) → (xej X i = s → p ≤ i) := fun i hi h3 h4 => by
    by_cases c : p ≤ i
    · exact c
    · have := h3 h4
      have hi2 : ¬ i = e := hi
      exact absurd h4 (hep i (by omega) (by omega))
  by_cases c : f x = 0 ∨ f s + W e < f x
  · rw [if_pos c]
    have hxd : dn x = 0 := by
      by_cases q : dn x = 0
      · exact q
      · have h3 := d3 x hx q
        have h4 := hle x hx q
        rcases c with c | c
        · exact absurd c h3
        · omega
    have hne : ∀ u, dn u ≠ 0 → u ≠ x := fun u h3 h4 => h3 (by rw [h4]; exact hxd)
    have hsx := hne s hds
    have hgx : ¬ gl x := fun q => by
      have h3 := d4 x hx q
      have h4 := d3 s hs hds
      rcases c with c | c <;> omega
    have hK : K * Wm + Wm = (K + 1) * Wm := by rw [Nat.add_mul, Nat.one_mul]
    refine ⟨⟨fun y hy => ?_, fun u hu h3 y hy h4 h5 => ?_, fun u hu h3 => ?_, fun y hy hg => ?_, fun y hy hg hf => ?_, fun y hy i h3 h4 h5 h6 => ?_⟩, fun u hu h3 => va_up_n (hne u h3)⟩
    · by_cases q : y = x
      · rw [q, va_up_e]; omega
      · rw [va_up_n q]; exact d1 y hy
    · rw [va_up_n (hne u h3)]
      by_cases q : y = x
      · rw [q, va_up_e]; have := hle u hu h3; omega
      · rw [va_up_n q] at h5 ⊢; exact d2 u hu h3 y hy h4 h5
    · rw [va_up_n (hne u h3)]; exact d3 u hu h3
    · have q : y ≠ x := fun q => hgx (q ▸ hg)
      rw [va_up_n q]; exact d4 y hy hg
    · by_cases q : y = x
      · subst q
        refine ⟨e, h1, h2, by rw [hej]; exact hds, ?_⟩
        rw [va_up_e, hej, va_up_n hsx]
      · rw [va_up_n q] at hf
        obtain ⟨i, h3, h4, h5, h6⟩ := d5 y hy hg hf
        refine ⟨i, h3, h4, h5, ?_⟩
        rw [va_up_n q, va_up_n (hne _ h5)]
        exact h6
    · rw [va_up_n (hne _ h5)]
      by_cases q : y = x
      · subst q
        rw [va_up_e]
        refine ⟨by omega, ?_⟩
        by_cases q2 : i = e
        · rw [q2, hej]; exact Nat.le_refl _
        · obtain ⟨g1, g2⟩ := d6 y hy i h3 h4 h5 (hcov i (fun z => q2 z) h6)
          rcases c with c | c
          · exact absurd c g1
          · omega
      · rw [va_up_n q]
        by_cases q2 : i = e
        · exfalso
          subst q2
          rcases Nat.lt_trichotomy x y with z | z | z
          · have := XW.mono hw (show x + 1 ≤ y by omega) (by omega); omega
          · exact q z.symm
          · have := XW.mono hw (show y + 1 ≤ x by omega) (by omega); omega
        · exact d6 y hy i h3 h4 h5 (hcov i (fun z => q2 z) h6)
  · rw [if_neg c]
    refine ⟨⟨d1, d2, d3, d4, d5, fun y hy i h3 h4 h5 h6 => ?_⟩, fun _ _ _ => rfl⟩
    by_cases q2 : i = e
    · subst q2
      have hyx : y = x := by
        rcases Nat.lt_trichotomy x y with z | z | z
        · have := XW.mono hw (show x + 1 ≤ y by omega) (by omega); omega
        · exact z.symm
        · have := XW.mono hw (show y + 1 ≤ x by omega) (by omega); omega
      subst hyx
      rw [hej]
      exact ⟨fun z => c (Or.inl z), by omega⟩
    · exact d6 y hy i h3 h4 h5 (hcov i (fun z => q2 z) h6)
theorem DJ.end_ {X : XT} {gl : Nat → Prop} {W : Nat → Nat} {Wm K s p s2 : Nat} {dn f : Nat → Nat} (h : DJ X gl W Wm K s p dn f) (hp : ∀ i, i < p → xej X i ≠ s) : DJ X gl W Wm K s2 0 dn f := by
  obtain ⟨d1, d2, d3, d4, d5, d6⟩ := h
  refine ⟨d1, d2, d3, d4, d5, fun x hx e h1 h2 h3 _ => d6 x hx e h1 h2 h3 (fun q => ?_)⟩
  by_cases c : p ≤ e
  · exact c
  · exact absurd q (hp e (by omega))
theorem DJ.beg {X : XT} {gl : Nat → Prop} {W : Nat → Nat} {Wm : Nat} {dn f : Nat → Nat} (hd : ∀ x, x < xn X → dn x = 0) (hf : ∀ x, x < xn X → (gl x → f x = 1) ∧ (¬ gl x → f x = 0)) (hw : XW X) : DJ X gl W Wm 0 0 0 dn f := by
  refine ⟨fun x hx => ?_, fun u hu h => absurd (hd u hu) h, fun u hu h => absurd (hd u hu) h, fun x hx => (hf x hx).1, fun x hx hg h => absurd ((hf x hx).2 hg) h, fun x hx e h1 h2 h3 _ => absurd (hd _ (hw.ej hx h2)) h3⟩
  by_cases c : gl x
  · rw [(hf x hx).1 c]; omega
  · rw [(hf x hx).2 c]; omega
