/-! ===== a play ===== -/
def brT (τ : Td) (x b to s : Nat) : Nat := brN (tN τ 29) (tN τ 30) (tN τ 33) (tA τ 38) (tA τ 39) (tA τ 41) (tA τ 42) (flT τ) x b to s
def jdT (τ : Td) (x b to s : Nat) : Nat × Nat := jd (bfT τ) (tN τ 29) (tN τ 30) (tN τ 31) (tN τ 33) 0 (stT τ) (brT τ x b to s) x b to s
theorem WX.br {σ : MS} {τ : Td} {w : Nat} (hW : WX σ τ (tA τ 41) (tA τ 42) w) {x bb tt s : Nat} (hb : bb < tN τ 31) (ht : tt < tN τ 29) : brN (gN σ 1) (gN σ 2) (gN σ 5) (gA σ 6) (gA σ 7) (gA σ 9) (gA σ 10) (fun a b => if gN σ 13 = 0 then (if a = b then 0 else 1) else gA σ 12 (4 * a + b)) x bb tt s = brT τ x bb tt s := by
  have hl := hW.1.1
  have h4 := bo_lt x bb
  rw [hW.2.1.1, hW.2.1.2.1, hW.2.1.2.2.2.2.1, hW.2.1.2.2.2.2.2]
  unfold brT brN flT
  dsimp only
  rw [rowN_congr (fun i hi => (hW.2.2.1 i hi).2), sumN_congr (fun i hi => (hW.2.2.1 i hi).1), (hW.2.2.2.1 bb hb).1, (hW.2.2.2.1 bb hb).2.1]
  simp only [hW.2.2.2.2.1 (4 * bo x bb + tt) (by omega)]
theorem jdT_0 {τ : Td} (hT : TB τ) {x b to s : Nat} (hb : b < tN τ 31) (ht : to < tN τ 29) (h : (jdT τ x b to s).1 = 0) : lgM τ x (b, to, s) := by
  unfold jdT jd at h
  by_cases c1 : brT τ x b to s = 0
  case neg => rw [if_pos c1] at h; exact absurd h c1
  rw [if_neg (fun q => q c1)] at h
  split at h
  · exact absurd (show 7 = 0 from h) (by decide)
  · next c2 =>
    split at h
    · exact absurd (show 7 = 0 from h) (by decide)
    · next c3 =>
      split at h
      · exact absurd (show 8 = 0 from h) (by decide)
      · next c4 =>
        have c2 := Classical.not_not.mp c2
        have c3 := Classical.not_not.mp c3
        have c4 := Classical.not_not.mp c4
        have h3a : abT τ 0 s = 0 := Nat.eq_zero_of_le_zero (Nat.le_trans Nat.left_le_or (Nat.le_of_eq c3))
        have h3b : bsT τ 0 x s (1 * 2 ^ b) 1 = 0 := Nat.eq_zero_of_le_zero (Nat.le_trans Nat.right_le_or (Nat.le_of_eq c3))
        unfold brT brN at c1
        split at c1
        · exact absurd c1 (by decide)
        · next d1 =>
          split at c1
          · exact absurd c1 (by decide)
          · next d2 =>
            split at c1
            · exact absurd c1 (by decide)
            · next d3 =>
              split at c1
              · exact absurd c1 (by decide)
              · next d4 =>
                split at c1
                · exact absurd c1 (by decide)
                · next d5 =>
                  split at c1
                  · exact absurd c1 (by decide)
                  · next d6 =>
                    have d2 := Classical.not_not.mp d2
                    refine ⟨hb, ht, ndf_0 (setN_lt x (bo x b) (tN τ 30)) d2, ⟨d1, ?_⟩, ⟨d3, Nat.le_of_not_lt d4, Nat.le_of_not_lt d5⟩, ⟨d2, h3a, h3b, c4⟩, c2⟩
                    by_cases e : tN τ 33 = 0
                    · exact Or.inl e
                    · exact Or.inr (Classical.byContradiction fun q => d6 ⟨e, q⟩)
theorem jdT_b {τ : Td} (hlt : ∀ sh b l s, bfT τ sh b l s < 4096) (x b to s : Nat) : (jdT τ x b to s).1 ≤ 8 ∧ (jdT τ x b to s).2 < 4096 ∧ (7 ≤ (jdT τ x b to s).1 → (jdT τ x b to s).2 ≠ 0) := by
  unfold jdT jd
  split
  · have : brT τ x b to s ≤ 6 := brN_le
    exact ⟨by dsimp only; omega, show 0 < 4096 by decide, fun q => absurd (show 7 ≤ brT τ x b to s from q) (by omega)⟩
  · split
    · next c => exact ⟨by dsimp only; decide, by dsimp only; exact bs_lt hlt _ _ _ _ _ _ _ _ _, fun _ => c⟩
    · split
      · next c => exact ⟨by dsimp only; decide, or4096 (ab_lt hlt _ _ _ _) (bs_lt hlt _ _ _ _ _ _ _ _ _), fun _ => c⟩
      · split
        · next c => exact ⟨by dsimp only; decide, by dsimp only; exact bs_lt hlt _ _ _ _ _ _ _ _ _, fun _ => c⟩
        · exact ⟨by decide, by decide, fun q => absurd q (by decide)⟩
theorem bit_ex {v : Nat} (h : v < 4096) (h0 : v ≠ 0) : ∃ i, 0 ≤ i ∧ i < 0 + 12 ∧ decide (bt v i = 1) = true := by
  obtain ⟨i, hi⟩ := Nat.exists_testBit_of_ne_zero h0
  have h12 : i < 12 := by
    refine Nat.lt_of_not_le fun q => ?_
    rw [Nat.testBit_lt_two_pow (Nat.lt_of_lt_of_le h (show 2 ^ 12 ≤ 2 ^ i from Nat.pow_le_pow_right (by decide) q))] at hi
    exact absurd hi (by decide)
  refine ⟨i, Nat.zero_le _, by omega, ?_⟩
  rw [decide_eq_true_eq]
  rw [Nat.testBit_eq_decide_div_mod_eq, decide_eq_true_eq] at hi
  exact hi
def crA (A : AS) (l : List Mv) (k : Nat) : AS := (A.1, A.2.1, A.2.2.1, A.2.2.2.1, A.2.2.2.2.1, l, k)
def spCr (A : AS) (b to s : Nat) : Int32 × AS := if (jdT A.1 (stL A.1 A.2.2.2.2.2.1) b to s).1 = 0 then (nI 0, crA A (A.2.2.2.2.2.1 ++ [(b, to, s)]) 0) else (nI (jdT A.1 (stL A.1 A.2.2.2.2.2.1) b to s).1, crA A A.2.2.2.2.2.1 (if (jdT A.1 (stL A.1 A.2.2.2.2.2.1) b to s).1 < 7 then 0 else fstB (fun i => decide (bt (jdT A.1 (stL A.1 A.2.2.2.2.2.1) b to s).2 i = 1)) 12 0 + 1))
def spCross (A : AS) (b to : Int32) (s : Nat) : Int32 × AS := if A.2.2.2.2.2.1.length = 60 then (nI 9, crA A A.2.2.2.2.2.1 0) else match nOf b (tN A.1 31) with
  | none => (nI 1, crA A A.2.2.2.2.2.1 0)
  | some bb => match nOf to (tN A.1 29) with
    | none => (nI 1, crA A A.2.2.2.2.2.1 0)
    | some tt => spCr A bb tt s
theorem spCross_n {A : AS} {b to : Int32} {s : Nat} (h6 : ¬ A.2.2.2.2.2.1.length = 60) (h : ¬ (inr b (tN A.1 31) ∧ inr to (tN A.1 29))) (h1 : tN A.1 31 ≤ 2) (h2 : tN A.1 29 ≤ 4) : spCross A b to s = (nI 1, crA A A.2.2.2.2.2.1 0) := by
  unfold spCross
  rw [if_neg h6]
  by_cases c : inr b (tN A.1 31)
  · obtain ⟨i, hi, e⟩ := c
    rw [e, nOf_some hi (by omega), nOf_none (fun q => h ⟨⟨i, hi, e⟩, q⟩) (by omega)]
  · rw [nOf_none c (by omega)]
theorem spCross_y {A : AS} {b to s : Nat} (h6 : ¬ A.2.2.2.2.2.1.length = 60) (hb : b < tN A.1 31) (ht : to < tN A.1 29) (h1 : tN A.1 31 ≤ 2) (h2 : tN A.1 29 ≤ 4) : spCross A (nI b) (nI to) s = spCr A b to s := by
  unfold spCross
  rw [if_neg h6, nOf_some hb (by omega), nOf_some ht (by omega)]
theorem MG.cr {rt : Td → Nat} {σ : MS} {A : AS} (h : MG rt σ A) {c : Nat → Nat} {p : Nat → Int32} (hc : Cch (bfT A.1) c) (v : Nat) {k : Nat} (hk : k ≤ 12) : MG rt (sN (sN (sCP (sN (sN σ 0 0) 85 0) c p) 53 v) 85 k) (crA A A.2.2.2.2.2.1 k) := ⟨⟨h.1.1, hc, h.1.2.2⟩, h.2.1, h.2.2.1, h.2.2.2.1, h.2.2.2.2.1, h.2.2.2.2.2.1, h.2.2.2.2.2.2.1, h.2.2.2.2.2.2.2.1, rfl, hk⟩
theorem MG.cr0 {rt : Td → Nat} {σ : MS} {A : AS} (h : MG rt σ A) : MG rt (sN (sN σ 0 0) 85 0) (crA A A.2.2.2.2.2.1 0) := ⟨h.1, h.2.1, h.2.2.1, h.2.2.2.1, h.2.2.2.2.1, h.2.2.2.2.2.1, h.2.2.2.2.2.2.1, h.2.2.2.2.2.2.2.1, rfl, by show 0 ≤ 12; decide⟩
theorem MG.cr53 {rt : Td → Nat} {σ : MS} {A : AS} (h : MG rt σ A) : MG rt (sN (sN (sN σ 0 0) 85 0) 53 0) (crA A A.2.2.2.2.2.1 0) := ⟨h.1, h.2.1, h.2.2.1, h.2.2.2.1, h.2.2.2.2.1, h.2.2.2.2.2.1, h.2.2.2.2.2.2.1, h.2.2.2.2.2.2.2.1, rfl, by show 0 ≤ 12; decide⟩
theorem PL.add {σ σ2 : MS} {τ : Td} {l : List Mv} {z : Mv} (h : PL σ τ l) (hl : l.length < 60) (hT : TB τ) (hz : lgM τ (stL τ l) z) (h84 : gN σ2 84 = l.length + 1) (h86 : gA σ2 86 = va_up (gA σ 86) (l.length + 1) (bhT τ (stL τ l) z.1 z.2.1 z.2.2)) (h87 : gA σ2 87 = va_up (gA σ 87) (l.length + 1) (mnL τ l + mxN (tA τ 39) z.2.2 (tN τ 30))) : PL σ2 τ (l ++ [z]) := by
  obtain ⟨p1, p2, p3, p4, p5⟩ := h
  have ht := hT.1
  have hz1 := hz.1
  have hz2 := hz.2.1
  have hlen : (l ++ [z]).length = l.length + 1 := by rw [List.length_append]; rfl
  have tk : ∀ i, i ≤ l.length → (l ++ [z]).take i = l.take i := fun i hi => by rw [List.take_append_of_le_length hi]
  refine ⟨h84.trans hlen.symm, by omega, fun i hi => ?_, fun y hy => ?_, fun i hi => ?_⟩
  · rw [h86, h87]
    rcases (show i = l.length + 1 ∨ i ≤ l.length by omega) with rfl | hi2
    · have e : (l ++ [z]).take (l.length + 1) = l ++ [z] := List.take_of_length_le (by omega)
      have hl2 := (p3 l.length (Nat.le_refl _)).2.1
      rw [List.take_length] at hl2
      rw [va_up_e, va_up_e, e, stL_add, mnL_add]
      exact ⟨rfl, bh_lt hl2 (by omega) (by omega) (by omega), rfl⟩
    · rw [va_up_n (by omega), va_up_n (by omega), tk i hi2]
      exact p3 i hi2
  · rcases List.mem_append.mp hy with q | q
    · exact p4 y q
    · rw [List.mem_singleton] at q
      rw [q]
      have := Nat.pow_le_pow_right (show 0 < 2 by decide) (show tN τ 30 ≤ 8 by omega)
      have h3 := hz.2.2.1
      exact ⟨by omega, hz2, by omega⟩
  · rcases (show i = l.length ∨ i < l.length by omega) with rfl | hi2
    · rw [tk _ (Nat.le_refl _), List.take_length, List.getD_eq_getElem?_getD, List.getElem?_append_right (Nat.le_refl _), Nat.sub_self]
      exact hz
    · rw [tk i (by omega), List.getD_eq_getElem?_getD, List.getElem?_append_left hi2, ← List.getD_eq_getElem?_getD]
      exact p5 i hi2
theorem cX_judges {G : Gl} {m : Nat} {ad : Nat → Nat} {η0 : AH} (hap : Mp m ad) (σ : MS) (τ : Td) (hW : WX σ τ (tA τ 41) (tA τ 42) 0) (x : Nat) (b to : Int32) (s : Nat) (hx : x < 4194304) (hs : s < 4294967296) : Ct G yX8_judges cX8_judges 6 (some .int) 6 0 0 [.ref m, .int (nI x), .int b, .int to, .int (nI s)] (MH m ad (σ) η0) (ri fun r η => (¬ (inr b (tN τ 31) ∧ inr to (tN τ 29)) → r = nI 1 ∧ η = MH m ad (sN σ 53 0) η0) ∧ ∀ bb tt, bb < tN τ 31 → tt < tN τ 29 → b = nI bb → to = nI tt → r = nI (jdT τ x bb tt s).1 ∧ ∃ c p, Cch (bfT τ) c ∧ η = MH m ad (sN (sCP σ c p) 53 (jdT τ x bb tt s).2) η0) := by
  have hb := hW.b
  have hl := hW.1.1
  refine Ct.post (cM_judges hap σ (bfT τ) hW.2.2.2.2.2.1 hW.2.2.2.2.2.2.1 hb.1 hb.2.1 hb.2.2.1 hb.2.2.2.1 hb.2.2.2.2.2.2.2 (fun k hk => by rw [hW.2.2.2.2.1 _ hk]; exact hW.1.2.2.2.1 _ hk) hW.mn (fun t ht => ?_) (fun b hb => ?_) (fun b hb => ?_) hb.2.2.2.2.1 (fun b hb => ?_) x b to s hx hs) ?_
  · have ht : t < tN τ 30 := by rw [← hW.2.1.2.1]; exact ht
    rw [(hW.2.2.1 t ht).1]
    exact (hW.1.2.1 t ht).1
  · have hb : b < tN τ 31 := by rw [← hW.2.1.2.2.1]; exact hb
    rw [(hW.2.2.2.1 b hb).1]
    have := (hW.2.2.2.1 b hb).2.2.2
    omega
  · have hb : b < tN τ 31 := by rw [← hW.2.1.2.2.1]; exact hb
    rw [(hW.2.2.2.1 b hb).2.1]
    have := (hW.2.2.2.1 b hb).2.2.2
    omega
  · have hb : b < tN τ 31 := by rw [← hW.2.1.2.2.1]; exact hb
    rw [(hW.2.2.2.1 b hb).2.2.1]
    have := (hW.1.2.2.1 b hb).2.2.2
    omega
  · rintro r η ⟨v, rfl, h1, h2⟩
    rw [hW.2.1.1, hW.2.1.2.2.1] at h1 h2
    refine ⟨v, rfl, h1, fun bb tt hb ht e1 e2 => ?_⟩
    have h3 := h2 bb tt hb ht e1 e2
    have e3 := hW.br (x := x) (s := s) hb ht
    rw [hW.2.1.1] at e3
    have e4 := hW.st
    rw [hW.2.1.2.2.1] at e4
    rw [e3, e4, hW.2.1.2.1, hW.2.1.2.2.2.2.1, hW.2.2.2.2.2.2.2.1] at h3
    exact h3
theorem cA_cross {G : Gl} {m : Nat} {ad : Nat → Nat} {η0 : AH} (hap : Mp m ad) (σ : MS) {rt : Td → Nat} (A : AS) (hG : MG rt σ A) (b to : Int32) (s : Nat) (hs : s < 4294967296) : Ct G yX8_cross cX8_cross 5 (some .int) 7 0 0 [.ref m, .int b, .int to, .int (nI s)] (MH m ad σ η0) (ap rt m ad η0 (some (spCross A b to s).1) (spCross A b to s).2) := by
  refine Ct.start rfl rfl (Nat.le_of_ble_eq_true rfl) (fun Γ => ?_)
  obtain ⟨p1, p2, p3, p4, p5⟩ := hG.2.2.2.2.2.2.2.1
  have hT := hG.1.1.1
  have hl := hT.1
  have hp := p3 A.2.2.2.2.2.1.length (Nat.le_refl _)
  rw [List.take_length] at hp
  have hW0 : WX (sN (sN σ 0 0) 85 0) A.1 (tA A.1 41) (tA A.1 42) 0 := WX.of hG.1.1 hG.1.2.1 hG.1.2.2.1
  have h84 : gN (sN (sN σ 0 0) 85 0) 84 = A.2.2.2.2.2.1.length := p1
  generalize hyy : stL A.1 A.2.2.2.2.2.1 = y at *
  generalize hnn : A.2.2.2.2.2.1.length = n at *
  refine v_aload_n (i := 0) dX8_cross_0 rfl rfl ?_
  refine v_iconst (v := nI 0) dX8_cross_1 k_iconst_0 ?_
  refine mp_thrown rfl dX8_cross_2 ?_
  refine v_aload_n (i := 0) dX8_cross_5 rfl rfl ?_
  refine v_iconst (v := -1) dX8_cross_6 k_iconst_m1 ?_
  refine mp_lawTold_m rfl dX8_cross_7 ?_
  refine v_aload_n (i := 0) dX8_cross_10 rfl rfl ?_
  refine mg_made rfl dX8_cross_11 ?_
  refine v_bipush (v := nI 60) dX8_cross_14 k_bipush_60 ?_
  refine vn_icmp_ne (tgt := 22) dX8_cross_16 rfl (show gN σ 84 < _ by omega) (by decide) (fun c16 => ?_) (fun c16 => ?_)
  · have c16 : ¬ A.2.2.2.2.2.1.length = 60 := fun q => c16 (p1.trans (hnn.symm.trans q))
    refine v_aload_n (i := 0) dX8_cross_22 rfl rfl ?_
    refine v_aload_n (i := 0) dX8_cross_23 rfl rfl ?_
    refine mg_playState rfl dX8_cross_24 ?_
    refine v_aload_n (i := 0) dX8_cross_27 rfl rfl ?_
    refine mg_made rfl dX8_cross_28 ?_
    refine ml_playState hap (show gN σ 84 < 61 by omega) dX8_cross_31 ?_
    refine v_top (show _ = nI y from congrArg nI (by show gA σ 86 (gN σ 84) = y; rw [p1]; exact hp.1)) ?_
    refine v_iload_n (i := 1) dX8_cross_32 rfl rfl ?_
    refine v_iload_n (i := 2) dX8_cross_33 rfl rfl ?_
    refine v_iload_n (i := 3) dX8_cross_34 rfl rfl ?_
    refine v_callVI (kc' := 0) (ks' := 0) (cX_judges hap (sN (sN σ 0 0) 85 0) A.1 hW0 y b to s hp.2.1 hs) (lw_V q2542 q2544 qs116 q136 q2545) iX8_judges rfl KX8 MH_m rfl rfl (by decide) (by decide) (Nat.le_of_ble_eq_true rfl) (by decide) (by decide) dX8_cross_35 (fun x_ η' h => ?_)
    obtain ⟨h1, h2⟩ := h
    by_cases hin : inr b (tN A.1 31) ∧ inr to (tN A.1 29)
    · obtain ⟨⟨bb, hbb, rfl⟩, ⟨tt, htt, rfl⟩⟩ := hin
      obtain ⟨rfl, c, p, hc, rfl⟩ := h2 bb tt hbb htt rfl rfl
      rw [spCross_y c16 hbb htt (by omega) (by omega)]
      obtain ⟨j1, j2, j3⟩ := jdT_b hG.1.1.2.2.2.2.2.lt y bb tt s
      have j0 := jdT_0 hT (x := y) (s := s) hbb htt
      unfold spCr
      rw [hyy]
      generalize hJ : jdT A.1 y bb tt s = J at *
      have L59 : ∀ (n2 k : Nat), fstB (fun i => decide (bt J.2 i = 1)) n2 k = fstB (fun i => decide (bt J.2 i = 1)) 12 0 → k + n2 = 12 → (∃ i, k ≤ i ∧ i < k + n2 ∧ decide (bt J.2 i = 1) = true) → 7 ≤ J.1 → V G Γ yX8_cross cX8_cross 5 (some .int) [] 7 (ap rt m ad η0 (some (if J.1 = 0 then (nI 0, crA A (A.2.2.2.2.2.1 ++ [(bb, tt, s)]) 0) else (nI J.1, crA A A.2.2.2.2.2.1 (if J.1 < 7 then 0 else fstB (fun i => decide (bt J.2 i = 1)) 12 0 + 1))).1) (if J.1 = 0 then (nI 0, crA A (A.2.2.2.2.2.1 ++ [(bb, tt, s)]) 0) else (nI J.1, crA A A.2.2.2.2.2.1 (if J.1 < 7 then 0 else fstB (fun i => decide (bt J.2 i = 1)) 12 0 + 1))).2) 0 0 (MH m ad (sN (sN (sCP (sN (sN σ 0 0) 85 0) c p) 53 J.2) 85 (k + 1)) η0) 59 [some (.ref m), some (.int (nI bb)), some (.int (nI tt)), some (.int (nI s)), some (.int (nI J.1))] [] := by
        intro n2
        induction n2 with
        | zero => intro k h1 h2 h3 h4; obtain ⟨i, h5, h6, -⟩ := h3; omega
        | succ n2 ih =>
          intro k hf hk hex h7
          have hb2 : bt J.2 k < 2 := Nat.mod_lt _ (by decide)
          have hf1 : (if decide (bt J.2 k = 1) = true then k else fstB (fun i => decide (bt J.2 i = 1)) n2 (k + 1)) = fstB (fun i => decide (bt J.2 i = 1)) 12 0 := hf
          refine v_aload_n (i := 0) dX8_cross_59 rfl rfl ?_
          refine mg_barring rfl dX8_cross_60 ?_
          refine v_aload_n (i := 0) dX8_cross_63 rfl rfl ?_
          refine mg_lawTold rfl dX8_cross_64 ?_
          refine v_top (show _ = nI k from rfl) ?_
          refine vn_ishr (show J.2 < _ by omega) (by omega) dX8_cross_67 ?_
          refine v_iconst (v := nI 1) dX8_cross_68 k_iconst_1 ?_
          refine vn_and1 dX8_cross_69 ?_
          refine vn_if_ne (tgt := 86) dX8_cross_70 rfl (show bt J.2 k < _ by omega) (fun c70 => ?_) (fun c70 => ?_)
          · have c70 : ¬ bt J.2 k = 0 := c70
            rw [if_pos (by rw [decide_eq_true_eq]; omega)] at hf1
            refine v_iload (i := 4) dX8_cross_86 rfl ?_
            refine vn_if_eq (tgt := 94) dX8_cross_88 rfl (by omega) (fun c88 => ?_) (fun c88 => ?_)
            · omega
            · refine v_iload (i := 4) dX8_cross_91 rfl ?_
              exact v_iret rfl dX8_cross_93 (by rw [if_neg (show ¬ J.1 = 0 by omega), if_neg (show ¬ J.1 < 7 by omega), ← hf1]; exact ⟨_, rfl, sN (sN (sCP (sN (sN σ 0 0) 85 0) c p) 53 J.2) 85 (k + 1), rfl, MG.cr (σ := σ) hG hc J.2 (by omega), fun q => (by cases q), fun v q => (by cases q; exact ⟨rfl, rfl⟩)⟩)
          · have c70 : bt J.2 k = 0 := c70
            rw [if_neg (by rw [decide_eq_true_eq]; omega)] at hf1
            refine v_aload_n (i := 0) dX8_cross_73 rfl rfl ?_
            refine v_dup dX8_cross_74 rfl ?_
            refine mg_lawTold rfl dX8_cross_75 ?_
            refine v_top (show _ = nI k from rfl) ?_
            refine v_iconst (v := nI 1) dX8_cross_78 k_iconst_1 ?_
            refine vn_iadd dX8_cross_79 ?_
            refine mp_lawTold_n rfl dX8_cross_80 ?_
            refine v_goto (tgt := 59) dX8_cross_83 rfl ?_
            rw [sN_sN]
            exact ih (k + 1) hf1 (by omega) (by obtain ⟨i, h5, h6, h8⟩ := hex; refine ⟨i, ?_, by omega, h8⟩; have : i ≠ k := fun e => (by rw [e, decide_eq_true_eq] at h8; omega); omega) h7
      refine v_istore (i := 4) dX8_cross_38 (by decide) rfl ?_
      refine v_iload (i := 4) dX8_cross_40 rfl ?_
      refine v_bipush (v := nI 7) dX8_cross_42 k_bipush_7 ?_
      refine vn_icmp_eq (tgt := 54) dX8_cross_44 rfl (by omega) (by decide) (fun c44 => ?_) (fun c44 => ?_)
      · refine v_aload_n (i := 0) dX8_cross_54 rfl rfl ?_
        refine v_iconst (v := nI 0) dX8_cross_55 k_iconst_0 ?_
        refine mp_lawTold_n rfl dX8_cross_56 ?_
        have h7 : 7 ≤ J.1 := by omega
        exact L59 12 0 rfl rfl (bit_ex j2 (j3 h7)) h7
      · refine v_iload (i := 4) dX8_cross_47 rfl ?_
        refine v_bipush (v := nI 8) dX8_cross_49 k_bipush_8 ?_
        refine vn_icmp_ne (tgt := 86) dX8_cross_51 rfl (by omega) (by decide) (fun c51 => ?_) (fun c51 => ?_)
        · refine v_iload (i := 4) dX8_cross_86 rfl ?_
          refine vn_if_eq (tgt := 94) dX8_cross_88 rfl (by omega) (fun c88 => ?_) (fun c88 => ?_)
          · rw [if_pos c88]
            have hlg := j0 c88
            have hs2 : s < 2 ^ tN A.1 30 := hlg.2.2.1
            have hp8 := Nat.pow_le_pow_right (show 0 < 2 by decide) (show tN A.1 30 ≤ 8 by omega)
            have hW2 : WX (sN (sCP (sN (sN σ 0 0) 85 0) c p) 53 J.2) A.1 (tA A.1 41) (tA A.1 42) 0 := WX.of hG.1.1 hc hG.1.2.2.1
            have hpm := hp.2.2
            have hmx : mxN (tA A.1 39) s (tN A.1 30) ≤ 99 := mxN_le fun t ht => (hT.2.1 t ht).2.1
            refine v_aload_n (i := 0) dX8_cross_94 rfl rfl ?_
            refine mg_playState rfl dX8_cross_95 ?_
            refine v_aload_n (i := 0) dX8_cross_98 rfl rfl ?_
            refine mg_made rfl dX8_cross_99 ?_
            refine v_iconst (v := nI 1) dX8_cross_102 k_iconst_1 ?_
            refine vn_iadd dX8_cross_103 ?_
            refine v_aload_n (i := 0) dX8_cross_104 rfl rfl ?_
            refine v_aload_n (i := 0) dX8_cross_105 rfl rfl ?_
            refine mg_playState rfl dX8_cross_106 ?_
            refine v_aload_n (i := 0) dX8_cross_109 rfl rfl ?_
            refine mg_made rfl dX8_cross_110 ?_
            refine ml_playState hap (show gN σ 84 < 61 by omega) dX8_cross_113 ?_
            refine v_top (show _ = nI y from congrArg nI (by show gA σ 86 (gN σ 84) = y; rw [p1]; exact hp.1)) ?_
            refine v_iload_n (i := 1) dX8_cross_114 rfl rfl ?_
            refine v_iload_n (i := 2) dX8_cross_115 rfl rfl ?_
            refine v_iload_n (i := 3) dX8_cross_116 rfl rfl ?_
            refine v_callVi (cX_behind hap (sN (sCP (sN (sN σ 0 0) 85 0) c p) 53 J.2) A.1 _ _ 0 hW2 y bb tt s (by omega) (by omega)) (lw_V q2429 q2431 qs99 q136 q2432) iX8_behind rfl KX8 MH_m rfl rfl (by decide) (by decide) (Nat.le_of_ble_eq_true rfl) dX8_cross_117 ?_
            refine ms_playState hap (show gN σ 84 + 1 < 61 by omega) dX8_cross_120 ?_
            have hW3 : WX (sA (sN (sCP (sN (sN σ 0 0) 85 0) c p) 53 J.2) 86 (gN σ 84 + 1) (bhT A.1 y bb tt s)) A.1 (tA A.1 41) (tA A.1 42) 0 := WX.of hG.1.1 hc hG.1.2.2.1
            refine v_aload_n (i := 0) dX8_cross_121 rfl rfl ?_
            refine mg_playMinutes rfl dX8_cross_122 ?_
            refine v_aload_n (i := 0) dX8_cross_125 rfl rfl ?_
            refine mg_made rfl dX8_cross_126 ?_
            refine v_iconst (v := nI 1) dX8_cross_129 k_iconst_1 ?_
            refine vn_iadd dX8_cross_130 ?_
            refine v_aload_n (i := 0) dX8_cross_131 rfl rfl ?_
            refine mg_playMinutes rfl dX8_cross_132 ?_
            refine v_aload_n (i := 0) dX8_cross_135 rfl rfl ?_
            refine mg_made rfl dX8_cross_136 ?_
            refine ml_playMinutes hap (show gN σ 84 < 61 by omega) dX8_cross_139 ?_
            refine v_top (show _ = nI (mnL A.1 A.2.2.2.2.2.1) from congrArg nI (by show gA σ 87 (gN σ 84) = _; rw [p1]; exact hpm)) ?_
            refine v_aload_n (i := 0) dX8_cross_140 rfl rfl ?_
            refine v_iload_n (i := 3) dX8_cross_141 rfl rfl ?_
            refine v_callVi (cX_minutesOf hap (sA (sN (sCP (sN (sN σ 0 0) 85 0) c p) 53 J.2) 86 (gN σ 84 + 1) (bhT A.1 y bb tt s)) A.1 _ _ 0 hW3 s (by omega)) (lw_V q2455 q2457 qs104 q136 q2458) iX8_minutesOf rfl KX8 MH_m rfl rfl (by decide) (by decide) (Nat.le_of_ble_eq_true rfl) dX8_cross_142 ?_
            refine vn_iadd dX8_cross_145 ?_
            refine ms_playMinutes hap (show gN σ 84 + 1 < 61 by omega) dX8_cross_146 ?_
            refine v_aload_n (i := 0) dX8_cross_147 rfl rfl ?_
            refine v_dup dX8_cross_148 rfl ?_
            refine mg_made rfl dX8_cross_149 ?_
            refine v_iconst (v := nI 1) dX8_cross_152 k_iconst_1 ?_
            refine vn_iadd dX8_cross_153 ?_
            refine mp_made rfl dX8_cross_154 ?_
            refine v_iconst (v := nI 0) dX8_cross_157 k_iconst_0 ?_
            exact v_iret rfl dX8_cross_158 (by
              refine ⟨_, rfl, sN (sA (sA (sN (sCP (sN (sN σ 0 0) 85 0) c p) 53 J.2) 86 (gN σ 84 + 1) (bhT A.1 y bb tt s)) 87 (gN σ 84 + 1) (mnL A.1 A.2.2.2.2.2.1 + mxN (tA A.1 39) s (tN A.1 30))) 84 (gN σ 84 + 1), rfl, ⟨⟨hG.1.1, hc, hG.1.2.2⟩, hG.2.1, hG.2.2.1, hG.2.2.2.1, hG.2.2.2.2.1, hG.2.2.2.2.2.1, hG.2.2.2.2.2.2.1, ?_, rfl, by show 0 ≤ 12; decide⟩, fun q => (by cases q), fun v q => (by cases q; exact ⟨rfl, rfl⟩)⟩
              show PL _ A.1 (A.2.2.2.2.2.1 ++ [(bb, tt, s)])
              refine PL.add hG.2.2.2.2.2.2.2.1 (by omega) hT (by rw [hyy]; exact hlg) ?_ ?_ ?_
              · show gN σ 84 + 1 = _
                rw [p1, hnn]
              · show va_up (gA σ 86) (gN σ 84 + 1) _ = _
                rw [p1, hnn, hyy]
              · show va_up (gA σ 87) (gN σ 84 + 1) _ = _
                rw [p1, hnn])
          · refine v_iload (i := 4) dX8_cross_91 rfl ?_
            exact v_iret rfl dX8_cross_93 (by rw [if_neg c88, if_pos (show J.1 < 7 by omega)]; exact ⟨_, rfl, sN (sCP (sN (sN σ 0 0) 85 0) c p) 53 J.2, rfl, MG.cr (σ := σ) hG hc J.2 (Nat.zero_le _), fun q => (by cases q), fun v q => (by cases q; exact ⟨rfl, rfl⟩)⟩)
        · refine v_aload_n (i := 0) dX8_cross_54 rfl rfl ?_
          refine v_iconst (v := nI 0) dX8_cross_55 k_iconst_0 ?_
          refine mp_lawTold_n rfl dX8_cross_56 ?_
          have h7 : 7 ≤ J.1 := by omega
          exact L59 12 0 rfl rfl (bit_ex j2 (j3 h7)) h7
    · obtain ⟨rfl, rfl⟩ := h1 hin
      rw [spCross_n c16 hin (by omega) (by omega)]
      refine v_istore (i := 4) dX8_cross_38 (by decide) rfl ?_
      refine v_iload (i := 4) dX8_cross_40 rfl ?_
      refine v_bipush (v := nI 7) dX8_cross_42 k_bipush_7 ?_
      refine vn_icmp_eq (tgt := 54) dX8_cross_44 rfl (by decide) (by decide) (fun c44 => ?_) (fun c44 => ?_)
      · exact absurd c44 (by decide)
      · refine v_iload (i := 4) dX8_cross_47 rfl ?_
        refine v_bipush (v := nI 8) dX8_cross_49 k_bipush_8 ?_
        refine vn_icmp_ne (tgt := 86) dX8_cross_51 rfl (by decide) (by decide) (fun c51 => ?_) (fun c51 => ?_)
        · refine v_iload (i := 4) dX8_cross_86 rfl ?_
          refine vn_if_eq (tgt := 94) dX8_cross_88 rfl (by decide) (fun c88 => ?_) (fun c88 => ?_)
          · exact absurd c88 (by decide)
          · refine v_iload (i := 4) dX8_cross_91 rfl ?_
            exact v_iret rfl dX8_cross_93 ⟨_, rfl, sN (sN (sN σ 0 0) 85 0) 53 0, rfl, hG.cr53, fun q => (by cases q), fun v q => (by cases q; exact ⟨rfl, rfl⟩)⟩
        · exact absurd c51 (by decide)
  · have c16 : n = 60 := p1.symm.trans c16
    have E : spCross A b to s = (nI 9, crA A A.2.2.2.2.2.1 0) := by unfold spCross; rw [if_pos (hnn.trans c16)]
    rw [E]
    refine v_bipush (v := nI 9) dX8_cross_19 k_bipush_9 ?_
    exact v_iret rfl dX8_cross_21 ⟨_, rfl, sN (sN σ 0 0) 85 0, rfl, hG.cr0, fun q => (by cases q), fun v q => (by cases q; exact ⟨rfl, rfl⟩)⟩
