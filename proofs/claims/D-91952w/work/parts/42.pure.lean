/-! ===== what an operand's reading keeps ===== -/
def n12 : List Nat → Nat
  | [] => 0
  | a :: ops => n12 ops + if a = 12 then 1 else 0
theorem n12_y (ops : List Nat) : n12 (12 :: ops) = n12 ops + 1 := rfl
theorem n12_n {a : Nat} (ops : List Nat) (h : a ≠ 12) : n12 (a :: ops) = n12 ops := by
  show _ + (if _ then _ else _) = _
  rw [if_neg h]
  rfl
theorem nb_3 (ops : List Nat) : nb (3 :: ops) = nb ops := rfl
theorem nb_12 (ops : List Nat) : nb (12 :: ops) = nb ops := rfl
theorem nb_a {a : Nat} (ops : List Nat) (h : a ≠ 3) (h2 : a ≠ 12) : nb (a :: ops) = nb ops + 1 := by
  show _ + (if _ then _ else _) = _
  rw [if_neg (by omega)]
theorem drF_n12 (least : Nat) : ∀ (ops : List Nat) (fs : List Fn), n12 (drF least ops fs).1 = n12 ops
  | [], fs => rfl
  | a :: ops, fs => by
    by_cases c : a ≠ 12 ∧ least ≤ strN a
    · rw [drF_y c.1 c.2, n12_n ops c.1]
      exact drF_n12 least ops _
    · rw [drF_n c]
theorem drF_len (least : Nat) : ∀ (ops : List Nat) (fs : List Fn), (drF least ops fs).1.length ≤ ops.length
  | [], fs => Nat.le_refl _
  | a :: ops, fs => by
    by_cases c : a ≠ 12 ∧ least ≤ strN a
    · rw [drF_y c.1 c.2]
      have := drF_len least ops (apF a fs)
      simp
      omega
    · rw [drF_n c]
      exact Nat.le_refl _
theorem drF_0 : ∀ (ops : List Nat) (fs : List Fn), 0 < n12 ops → ∃ rest, (drF 0 ops fs).1 = 12 :: rest
  | [], fs, h => absurd h (by decide)
  | a :: ops, fs, h => by
    by_cases c : a = 12
    · subst c
      rw [drF_n (fun q => q.1 rfl)]
      exact ⟨ops, rfl⟩
    · rw [drF_y c (Nat.zero_le _)]
      rw [n12_n ops c] at h
      exact drF_0 ops _ h
theorem drF_00 : ∀ (ops : List Nat) (fs : List Fn), n12 ops = 0 → (drF 0 ops fs).1 = []
  | [], fs, h => rfl
  | a :: ops, fs, h => by
    by_cases c : a = 12
    · subst c
      rw [n12_y] at h
      omega
    · rw [drF_y c (Nat.zero_le _)]
      rw [n12_n ops c] at h
      exact drF_00 ops _ h
theorem partC_in {T : Nat → Nat → Nat} {lt : Nat → Nat} {nT p : Nat} {z : Nat × Nat} (h8 : nT ≤ 8) (hv : T p 26 < 2147483648) (h : partC T lt nT p = .ok z) : (z.1 = 1 ∧ z.2 < 2147483648) ∨ (z.1 = 2 ∧ z.2 < 132 ∧ (z.2 < 100 → z.2 < 32)) := by
  have hk := kwT_le (T p)
  have hn := nmF_le lt (T p 27) nT 0
  unfold partC at h
  split at h
  · split at h
    · cases h
    · cases h
      exact Or.inl ⟨rfl, hv⟩
  · split at h
    · split at h
      · split at h
        · cases h
        · cases h
          exact Or.inr ⟨rfl, by show _ - 1 < _; omega, fun _ => by show _ - 1 < _; omega⟩
      · split at h
        · next hx =>
          cases h
          exact Or.inr ⟨rfl, by show 99 + _ < _; omega, fun q => by have q : 99 + kwT (T p) < 100 := q; show 99 + _ < _; unfold isVW at hx; omega⟩
        · cases h
    · cases h
theorem opd_inv {T : Nat → Nat → Nat} {lt : Nat → Nat} {nT sz : Nat} (hT : TKo T sz) (h8 : nT ≤ 8) (hv : ∀ p, p ≤ sz → T p 26 < 2147483648) : ∀ (n nt c p : Nat) (ops ts : List Nat) (p' : Nat) (ops' ts' : List Nat) (z : Nat × Nat), p ≤ sz → opd T lt nT n nt c p ops ts = .ok (p', ops', ts', z) →
    p < p' ∧ p' ≤ sz ∧ nb ops' = nb ops ∧ n12 ops' + ts.length = n12 ops + ts'.length ∧ ops'.length + p + 1 ≤ ops.length + p' ∧ ts.length ≤ ts'.length ∧ (ts.length ≤ 6 → ts'.length ≤ 6) ∧ ((∀ a ∈ ops, 3 ≤ a ∧ a < 13) → ∀ a ∈ ops', 3 ≤ a ∧ a < 13) ∧ ((∀ t ∈ ts, t < 2) → ∀ t ∈ ts', t < 2) ∧ ((z.1 = 1 ∧ z.2 < 2147483648) ∨ (z.1 = 2 ∧ z.2 < 132 ∧ (z.2 < 100 → z.2 < 32))) := by
  intro n
  induction n with
  | zero => intro nt c p ops ts p' ops' ts' z hp h; cases h
  | succ n ih =>
    intro nt c p ops ts p' ops' ts' z hp h
    have hz := hT.2 p hp
    have h : (if nt = 1 ∧ kwT (T p) = 17 then _ else _) = _ := h
    by_cases c1 : nt = 1 ∧ kwT (T p) = 17
    · rw [if_pos c1] at h
      have hl := hz.2 (by have := kwT_1 (t := T p) (by omega); omega)
      split at h
      · cases h
      · obtain ⟨a1, a2, a3, a4, a5, a6, a7, a8, a9, a10⟩ := ih 1 (c + 1) (T p 22) (3 :: ops) ts p' ops' ts' z hz.1 h
        refine ⟨by omega, a2, by rw [a3, nb_3], by rw [a4, n12_n _ (by decide)], by simp at a5; omega, a6, a7, fun q => a8 ?_, a9, a10⟩
        intro a ha
        rcases List.mem_cons.mp ha with rfl | ha
        · exact ⟨by decide, by decide⟩
        · exact q a ha
    · rw [if_neg c1] at h
      by_cases c2 : isS (T p) 40
      · rw [if_pos c2] at h
        have hl := hz.2 (by omega)
        split at h
        · next h6 =>
          obtain ⟨a1, a2, a3, a4, a5, a6, a7, a8, a9, a10⟩ := ih 1 0 (T p 22) (12 :: ops) (0 :: ts) p' ops' ts' z hz.1 h
          rw [n12_y] at a4
          simp only [List.length_cons] at a4 a5 a6 a7
          refine ⟨by omega, a2, by rw [a3, nb_12], by omega, by omega, by omega, fun _ => a7 (by omega), fun q => a8 ?_, fun q => a9 ?_, a10⟩
          · intro a ha
            rcases List.mem_cons.mp ha with rfl | ha
            · exact ⟨by decide, by decide⟩
            · exact q a ha
          · intro a ha
            rcases List.mem_cons.mp ha with rfl | ha
            · decide
            · exact q a ha
        · cases h
      · rw [if_neg c2] at h
        cases hs : partC T lt nT p with
        | error e => rw [andT_er hs] at h; cases h
        | ok w =>
          rw [andT_ok hs] at h
          cases h
          have hl := hz.2 (partC_ok hs)
          exact ⟨hl, hz.1, rfl, rfl, by omega, Nat.le_refl _, fun q => q, fun q => q, fun q => q, partC_in h8 (hv p hp) hs⟩
theorem Sm_C {r : List Nat} {fs : List Fn} (h : Sm r fs) {z : Nat × Nat} (hz : (z.1 = 1 ∧ z.2 < 2147483648) ∨ (z.1 = 2 ∧ z.2 < 132 ∧ (z.2 < 100 → z.2 < 32))) : Sm (z.2 :: z.1 :: r) (fC z :: fs) := by
  unfold fC
  rcases hz with ⟨e, h1⟩ | ⟨e, h1⟩
  · rw [if_pos e, e]
    exact Sm_K h h1
  · rw [if_neg (by omega), e]
    exact Sm_V h h1
