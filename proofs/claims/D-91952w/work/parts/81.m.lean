/-! ===== rounds: the levels ===== -/
def CG (σ σ2 : MS) : Prop := (∀ k, gN σ2 k = gN σ k) ∧ (∀ k, k ≠ 50 → k ≠ 68 → k ≠ 69 → k ≠ 83 → gA σ2 k = gA σ k) ∧ (∀ k, k ≠ 51 → gB σ2 k = gB σ k) ∧ gC σ2 = gC σ
theorem CF.g {σ σ2 : MS} (h : CF σ σ2) : CG σ σ2 := ⟨h.1, fun k a _ _ b => h.2.1 k a b, h.2.2.1, h.2.2.2⟩
theorem CG.trans {σ σ1 σ2 : MS} (h : CG σ σ1) (g : CG σ1 σ2) : CG σ σ2 := ⟨fun k => (g.1 k).trans (h.1 k), fun k a b c e => (g.2.1 k a b c e).trans (h.2.1 k a b c e), fun k a => (g.2.2.1 k a).trans (h.2.2.1 k a), g.2.2.2.trans h.2.2.2⟩
theorem CG.sm (σ : MS) (f g : Nat → Nat) : CG σ (SMa σ f g) := ⟨fun _ => rfl, fun k _ b c _ => by show gA (stA (stA σ 68 f) 69 g) k = _; rw [gA_stA, if_neg c, gA_stA, if_neg b], fun _ _ => rfl, rfl⟩
theorem CG.eg {σ σ2 : MS} (h : CG σ σ2) : (∀ k, gN σ2 k = gN σ k) ∧ (∀ k, k ∈ qA → gA σ2 k = gA σ k) := ⟨h.1, fun k hk => by
  simp only [qA, List.mem_cons, List.mem_nil_iff, or_false] at hk
  exact h.2.1 k (by omega) (by omega) (by omega) (by omega)⟩
theorem CG.mf {σ σ2 : MS} (h : CG σ σ2) {τ : Td} (hM : MF σ τ) (hc : Cch (bfT τ) (gA σ2 50)) : MF σ2 τ := by
  have n := h.1
  have a : ∀ k, k < 50 → gA σ2 k = gA σ k := fun k a => h.2.1 k (by omega) (by omega) (by omega) (by omega)
  have a2 : ∀ k, 51 < k → k < 68 → gA σ2 k = gA σ k := fun k a b => h.2.1 k (by omega) (by omega) (by omega) (by omega)
  obtain ⟨⟨h1, h2, h3, h4, h5, h6⟩, -, m3, m4, m5, m6⟩ := hM
  refine ⟨⟨h1, ?_, ?_, ?_, ?_, ?_⟩, hc, (n 52).trans m3, by rw [n 67]; exact m4, by rw [n 66]; exact m5, ?_⟩
  · rw [n 1, n 2, n 3, n 4, n 5, n 13]
    exact h2
  · rw [a 6 (by decide), a 7 (by decide), a 8 (by decide)]
    exact h3
  · rw [a 9 (by decide), a 10 (by decide), a 11 (by decide)]
    exact h4
  · rw [a 12 (by decide)]
    exact h5
  · unfold BarO
    rw [n 1, n 2, n 4, a 6 (by decide), a 7 (by decide), a 15 (by decide), a 16 (by decide), h.2.2.1 14 (by decide)]
    exact h6
  · unfold FD XM FSA
    rw [n 67, n 66, n 54, n 55, a2 56 (by decide) (by decide), a2 57 (by decide) (by decide), a2 58 (by decide) (by decide), a2 59 (by decide) (by decide), a2 60 (by decide) (by decide), a2 61 (by decide) (by decide), a2 62 (by decide) (by decide), a2 63 (by decide) (by decide), a2 64 (by decide) (by decide)]
    exact m6
theorem cntN_mono {f g : Nat → Nat} : ∀ {n : Nat}, (∀ j, j < n → f j ≠ 0 → g j ≠ 0) → cntN f n ≤ cntN g n ∧ (cntN f n = cntN g n → ∀ j, j < n → f j = 0 → g j = 0)
  | 0, _ => ⟨Nat.le_refl _, fun _ j hj => absurd hj (by omega)⟩
  | n + 1, h => by
    obtain ⟨h1, h2⟩ := cntN_mono (n := n) (fun j hj => h j (by omega))
    have h3 := h n (by omega)
    unfold cntN
    by_cases c : f n = 0
    · rw [if_pos c]
      by_cases c2 : g n = 0
      · rw [if_pos c2]
        refine ⟨by omega, fun e j hj hf => ?_⟩
        by_cases e2 : j = n
        · rw [e2]; exact c2
        · exact h2 (by omega) j (by omega) hf
      · rw [if_neg c2]
        exact ⟨by omega, fun e => absurd e (by omega)⟩
    · rw [if_neg c, if_neg (h3 c)]
      refine ⟨by omega, fun e j hj hf => ?_⟩
      by_cases e2 : j = n
      · rw [e2] at hf; exact absurd hf c
      · exact h2 (by omega) j (by omega) hf
theorem RAk.base {τ : Td} {ra : Nat → Nat} (hst : VL τ (stT τ)) (h0 : ∀ j, j < 1024 → j ≠ smT τ (stT τ) → ra j = 0) (h1 : ra (smT τ (stT τ)) = 1) : RAk τ ra 0 0 := by
  refine ⟨fun j hj hn => ?_, h1, fun x _ h2 h3 => absurd h3 (by omega)⟩
  have e : j = smT τ (stT τ) := Classical.byContradiction fun q => hn (h0 j hj q)
  rw [e, h1]
  exact ⟨by decide, stT τ, hst, rfl, rfl⟩
theorem roundT_stuck {τ : Td} (h : ¬ bsT τ 0 (stT τ) 0 0 0 = 0) (hg : ¬ goalT τ (stT τ)) : roundT τ = 0 := by
  refine roundT_n fun d => ?_
  rintro ⟨x, hx, hgx⟩
  cases d with
  | zero =>
    have e : x = stT τ := hx
    rw [e] at hgx
    exact hg hgx
  | succ d =>
    obtain ⟨y, -, hs⟩ := hx
    exact h hs.1
theorem RAk.skip {τ : Td} {ra : Nat → Nat} {d k : Nat} (h : RAk τ ra d k) (hk : ¬ ra k = d + 1) : RAk τ ra d (k + 1) := ⟨h.1, h.2.1, fun x h1 h2 h3 => h.2.2 x h1 h2 (by
  rcases h3 with q | ⟨q1, q2⟩
  · exact Or.inl q
  · refine Or.inr ⟨q1, ?_⟩
    have : smT τ x ≠ k := fun e => hk (by rw [← e]; exact q1)
    omega)⟩
theorem UpR.weak {τ : Td} {v : Nat} {Q Q2 : Nat → Prop} {ra rb : Nat → Nat} (h : UpR τ v Q ra rb) (hq : ∀ y, Q y → Q2 y) : UpR τ v Q2 ra rb := fun j => by
  rcases h j with a | ⟨a, b, y, c, e⟩
  · exact Or.inl a
  · exact Or.inr ⟨a, b, y, hq y c, e⟩
theorem oI_2 (n : Nat) : nI 2 + oI n = nI (n + 1) := by
  cases n with
  | zero => decide
  | succ k =>
    show nI 2 + nI k = _
    rw [nI_add]
    exact congrArg nI (by omega)
theorem oI_s2 (n : Nat) : nI (n + 1) - nI 2 = oI n := by
  cases n with
  | zero => decide
  | succ k =>
    show _ = nI k
    rw [nI_sub (by omega)]
    exact congrArg nI (by omega)
theorem cX_seeksRounds {G : Gl} {m : Nat} {ad : Nat → Nat} {η0 : AH} (hap : Mp m ad) (σ : MS) (τ : Td) (hW : WX σ τ (tA τ 41) (tA τ 42) 0) (hS2 : tN τ 29 = 2) (hB2 : tN τ 31 = 2) (hlm : tN τ 33 = 0) : Ct G yX8_seeksRounds cX8_seeksRounds 4 (some .int) 9 0 0 [.ref m] (MH m ad σ η0) (ri fun r η => (r = oI (roundT τ) ∧ roundT τ < 4000) ∧ ∃ σ2, η = MH m ad σ2 η0 ∧ CG σ σ2 ∧ Cch (bfT τ) (gA σ2 50)) := by
  refine Ct.start rfl rfl (Nat.le_of_ble_eq_true rfl) (fun Γ => ?_)
  have hTB := hW.1
  have hl := hTB.1
  have hT8 := hl.2.2.1
  have hst : VL τ (stT τ) := VL.st hlm hB2 (fun b hb => by have := (hTB.2.2.1 b (by omega)).2.2.2; omega)
  have hst2 := hst.lt hT8
  have hsm := smT_lt hT8 hst
  have L86 : ∀ (d : Nat) (r0 : Nat → Nat), d < 3000 → (∀ j, j < 1024 → r0 j ≤ d + 1) → (∀ (mv : Nat) (σ2 : MS), mv < 2 → CG σ σ2 → Cch (bfT τ) (gA σ2 50) → RW σ2 τ → RAk τ (gA σ2 83) d 1024 → (mv = 0 → ∀ j, j < 1024 → gA σ2 83 j ≤ d) → (mv = 1 → ∃ j, j < 1024 ∧ r0 j = d + 1) → UpR τ (d + 2) (fun _ => True) r0 (gA σ2 83) → V G Γ yX8_seeksRounds cX8_seeksRounds 4 (some .int) [] 9 (ri fun r η => (r = oI (roundT τ) ∧ roundT τ < 4000) ∧ ∃ σ2, η = MH m ad σ2 η0 ∧ CG σ σ2 ∧ Cch (bfT τ) (gA σ2 50)) 0 0 (MH m ad σ2 η0) 140 [some (.ref m), some (.int (nI mv)), some (.int (nI d)), some (.int (nI 1024))] []) → ∀ (n k : Nat), k + n = 1024 → ∀ (mv : Nat) (σ2 : MS), mv < 2 → CG σ σ2 → Cch (bfT τ) (gA σ2 50) → RW σ2 τ → RAk τ (gA σ2 83) d k → (mv = 0 → (∀ j, j < 1024 → gA σ2 83 j = r0 j) ∧ ∀ j, j < k → ¬ gA σ2 83 j = d + 1) → (mv = 1 → ∃ j, j < 1024 ∧ r0 j = d + 1) → UpR τ (d + 2) (fun _ => True) r0 (gA σ2 83) → V G Γ yX8_seeksRounds cX8_seeksRounds 4 (some .int) [] 9 (ri fun r η => (r = oI (roundT τ) ∧ roundT τ < 4000) ∧ ∃ σ2, η = MH m ad σ2 η0 ∧ CG σ σ2 ∧ Cch (bfT τ) (gA σ2 50)) 0 0 (MH m ad σ2 η0) 86 [some (.ref m), some (.int (nI mv)), some (.int (nI d)), some (.int (nI k))] [] := by
    intro d r0 hd hr0 K n
    induction n with
    | zero =>
      intro k hk mv σ2 hmv hE hC hR hA h0 h1 hU
      have e : k = 1024 := by omega
      subst e
      refine v_iload_n (i := 3) dX8_seeksRounds_86 rfl rfl ?_
      refine v_sipush (v := nI 1024) dX8_seeksRounds_87 k_sipush_1024 ?_
      refine vn_icmp_ge (tgt := 140) dX8_seeksRounds_90 rfl (by omega) (by omega) (fun c90 => ?_) (fun c90 => ?_)
      · exact K mv σ2 hmv hE hC hR hA (fun e j hj => by have := (h0 e).2 j hj; have := (h0 e).1 j hj; have := hr0 j hj; omega) h1 hU
      · exact absurd c90 (by decide)
    | succ n ih =>
      intro k hk mv σ2 hmv hE hC hR hA h0 h1 hU
      have hk2 : k < 1024 := by omega
      have hr := hU.le (M := d + 2) (by omega) (fun j hj => by have := hr0 j hj; omega)
      have hrk := hr k hk2
      refine v_iload_n (i := 3) dX8_seeksRounds_86 rfl rfl ?_
      refine v_sipush (v := nI 1024) dX8_seeksRounds_87 k_sipush_1024 ?_
      refine vn_icmp_ge (tgt := 140) dX8_seeksRounds_90 rfl (by omega) (by omega) (fun c90 => ?_) (fun c90 => ?_)
      · omega
      · refine v_aload_n (i := 0) dX8_seeksRounds_93 rfl rfl ?_
        refine mg_rounds rfl dX8_seeksRounds_94 ?_
        refine v_iload_n (i := 3) dX8_seeksRounds_97 rfl rfl ?_
        refine ml_rounds hap hk2 dX8_seeksRounds_98 ?_
        refine v_iload_n (i := 2) dX8_seeksRounds_99 rfl rfl ?_
        refine von_icmp_eq (tgt := 106) dX8_seeksRounds_100 rfl (show gA σ2 83 k < _ by omega) (by omega) (fun c100 => ?_) (fun c100 => ?_)
        · have c100 : gA σ2 83 k = d + 1 := c100
          obtain ⟨-, x, hx, hxk, hxr⟩ := hA.1 k hk2 (by omega)
          have hlx : lgT τ k = x := by rw [← hxk, lg_sm hT8 hx]
          have hx2 := hx.lt hT8
          rw [c100] at hxr
          have hr0k : r0 k = d + 1 := by
            rcases hU k with q | ⟨-, q, -⟩
            · omega
            · omega
          refine v_iconst (v := nI 1) dX8_seeksRounds_106 k_iconst_1 ?_
          refine v_istore_n (i := 1) dX8_seeksRounds_107 rfl (by decide) rfl ?_
          refine v_aload_n (i := 0) dX8_seeksRounds_108 rfl rfl ?_
          refine v_aload_n (i := 0) dX8_seeksRounds_109 rfl rfl ?_
          refine v_iload_n (i := 3) dX8_seeksRounds_110 rfl rfl ?_
          refine v_callVi (cX_large hap σ2 τ _ _ 0 hR.1 k hk2) (lw_V q2522 q2524 qs112 q136 q2525) iX8_large rfl KX8 MH_m rfl rfl (by decide) (by decide) (Nat.le_of_ble_eq_true rfl) dX8_seeksRounds_111 ?_
          refine v_callVi (cX_isGoal hap σ2 τ _ _ 0 hR.1 (lgT τ k) (by omega)) (lw_V q2439 q2441 qs101 q136 q2442) iX8_isGoal rfl KX8 MH_m rfl rfl (by decide) (by decide) (Nat.le_of_ble_eq_true rfl) dX8_seeksRounds_114 ?_
          refine vn_if_eq (tgt := 122) dX8_seeksRounds_117 rfl (by split <;> decide) (fun c117 => ?_) (fun c117 => ?_)
          · have c117 : ¬ goalT τ x := fun q => by rw [hlx, if_pos q] at c117; exact absurd c117 (by decide)
            refine v_aload_n (i := 0) dX8_seeksRounds_122 rfl rfl ?_
            refine v_aload_n (i := 0) dX8_seeksRounds_123 rfl rfl ?_
            refine v_iload_n (i := 3) dX8_seeksRounds_124 rfl rfl ?_
            refine v_callVi (cX_large hap σ2 τ _ _ 0 hR.1 k hk2) (lw_V q2522 q2524 qs112 q136 q2525) iX8_large rfl KX8 MH_m rfl rfl (by decide) (by decide) (Nat.le_of_ble_eq_true rfl) dX8_seeksRounds_125 ?_
            refine v_top (congrArg nI hlx) ?_
            refine v_iload_n (i := 2) dX8_seeksRounds_128 rfl rfl ?_
            refine v_iconst (v := nI 1) dX8_seeksRounds_129 k_iconst_1 ?_
            refine vn_iadd dX8_seeksRounds_130 ?_
            refine v_callVW (kc' := 0) (ks' := 0) (cX_goesRound hap σ2 τ hR x (d + 1) hx (by omega) (fun j hj => by have := hr j hj; omega)) (lw_V q2526 q2528 qs113 q136 q2529) iX8_goesRound rfl KX8 MH_m rfl rfl (by decide) (by decide) (Nat.le_of_ble_eq_true rfl) (by decide) (by decide) dX8_seeksRounds_131 (fun η' h => ?_)
            obtain ⟨σ3, rfl, g1, g2, g3, g4⟩ := h
            refine vn_iinc 1 dX8_seeksRounds_134 rfl k_iconst_1 (by decide) rfl ?_
            refine v_goto (tgt := 86) dX8_seeksRounds_137 rfl ?_
            exact ih (k + 1) (by omega) 1 σ3 (by decide) (hE.trans g1.g) g2 (hR.cf g1 g2) (hA.step hT8 hlm hk2 hx hxk hxr c100 c117 g3 g4) (fun e => absurd e (by decide)) (fun _ => ⟨k, hk2, hr0k⟩) (hU.trans (by omega) (g3.weak (fun _ _ => trivial)))
          · have c117 : goalT τ (lgT τ k) := Classical.byContradiction fun q => by rw [if_neg q] at c117; exact c117 rfl
            refine v_iload_n (i := 2) dX8_seeksRounds_120 rfl rfl ?_
            exact v_iret rfl dX8_seeksRounds_121 ⟨_, rfl, (by rw [hA.found hT8 hlm hst hk2 c100 c117]; exact ⟨rfl, by omega⟩), σ2, rfl, hE, hC⟩
        · have c100 : ¬ gA σ2 83 k = d + 1 := c100
          refine v_goto (tgt := 134) dX8_seeksRounds_103 rfl ?_
          refine vn_iinc 1 dX8_seeksRounds_134 rfl k_iconst_1 (by decide) rfl ?_
          refine v_goto (tgt := 86) dX8_seeksRounds_137 rfl ?_
          exact ih (k + 1) (by omega) mv σ2 hmv hE hC hR (hA.skip c100) (fun e => ⟨(h0 e).1, fun j hj => by by_cases e2 : j = k; (rw [e2]; exact c100); exact (h0 e).2 j (by omega)⟩) h1 hU
  have L78 : ∀ (M d ne : Nat) (σ2 : MS) (z3 : Option Value), ne < 2 → 2 * (1024 - cntN (gA σ2 83) 1024) + ne ≤ M → d + M ≤ 2100 → (ne = 0 → ∀ j, j < 1024 → ¬ gA σ2 83 j = d + 1) → CG σ σ2 → Cch (bfT τ) (gA σ2 50) → RW σ2 τ → RAk τ (gA σ2 83) d 0 → (∀ j, j < 1024 → gA σ2 83 j ≤ d + 1) → V G Γ yX8_seeksRounds cX8_seeksRounds 4 (some .int) [] 9 (ri fun r η => (r = oI (roundT τ) ∧ roundT τ < 4000) ∧ ∃ σ2, η = MH m ad σ2 η0 ∧ CG σ σ2 ∧ Cch (bfT τ) (gA σ2 50)) 0 0 (MH m ad σ2 η0) 78 [some (.ref m), some (.int (nI 1)), some (.int (nI d)), z3] [] := by
    intro M
    induction M using Nat.strongRecOn with
    | _ M ih =>
      intro d ne σ2 z3 hne hM hdM hn0 hE hC hR hA hle
      have K140 : ∀ (mv : Nat) (σ3 : MS), mv < 2 → CG σ σ3 → Cch (bfT τ) (gA σ3 50) → RW σ3 τ → RAk τ (gA σ3 83) d 1024 → (mv = 0 → ∀ j, j < 1024 → gA σ3 83 j ≤ d) → (mv = 1 → ∃ j, j < 1024 ∧ gA σ2 83 j = d + 1) → UpR τ (d + 2) (fun _ => True) (gA σ2 83) (gA σ3 83) → V G Γ yX8_seeksRounds cX8_seeksRounds 4 (some .int) [] 9 (ri fun r η => (r = oI (roundT τ) ∧ roundT τ < 4000) ∧ ∃ σ2, η = MH m ad σ2 η0 ∧ CG σ σ2 ∧ Cch (bfT τ) (gA σ2 50)) 0 0 (MH m ad σ3 η0) 140 [some (.ref m), some (.int (nI mv)), some (.int (nI d)), some (.int (nI 1024))] [] := by
        intro mv σ3 hmv hE3 hC3 hR3 hA3 h0 h1 hU
        have hcl := cntN_le (gA σ3 83) 1024
        obtain ⟨m1, m2⟩ := cntN_mono (n := 1024) (fun j hj => hU.keep (j := j))
        refine vn_iinc 1 dX8_seeksRounds_140 rfl k_iconst_1 (by decide) rfl ?_
        refine v_goto (tgt := 78) dX8_seeksRounds_143 rfl ?_
        rcases (show mv = 0 ∨ mv = 1 by omega) with e0 | e0
        · subst e0
          refine v_iload_n (i := 1) dX8_seeksRounds_78 rfl rfl ?_
          refine vn_if_eq (tgt := 146) dX8_seeksRounds_79 rfl (by decide) (fun c79 => ?_) (fun c79 => ?_)
          · refine v_iconst (v := -1) dX8_seeksRounds_146 k_iconst_m1 ?_
            exact v_iret rfl dX8_seeksRounds_147 ⟨_, rfl, (by rw [hA3.done hT8 hlm hst (h0 rfl)]; exact ⟨rfl, by decide⟩), σ3, rfl, hE3, hC3⟩
          · exact absurd (show (0 : Nat) = 0 from rfl) c79
        · subst e0
          obtain ⟨j0, hj0, hj1⟩ := h1 rfl
          have hne1 : ne = 1 := by
            by_cases q : ne = 0
            · exact absurd hj1 (hn0 q j0 hj0)
            · omega
          have hle3 : ∀ j, j < 1024 → gA σ3 83 j ≤ d + 1 + 1 := fun j hj => by
            by_cases q : gA σ3 83 j = 0
            · omega
            · exact (hA3.1 j hj q).1
          by_cases q : cntN (gA σ2 83) 1024 = cntN (gA σ3 83) 1024
          · exact ih (M - 1) (by omega) (d + 1) 0 σ3 _ (by decide) (by omega) (by omega) (fun _ j hj w => by
              rcases hU j with a | ⟨a1, a2, -⟩
              · have := hle j hj; omega
              · have := m2 q j hj a1; omega) hE3 hC3 hR3 (hA3.next hT8) hle3
          · exact ih (M - 1) (by omega) (d + 1) 1 σ3 _ (by decide) (by omega) (by omega) (fun w => absurd w (by decide)) hE3 hC3 hR3 (hA3.next hT8) hle3
      refine v_iload_n (i := 1) dX8_seeksRounds_78 rfl rfl ?_
      refine vn_if_eq (tgt := 146) dX8_seeksRounds_79 rfl (by decide) (fun c79 => ?_) (fun c79 => ?_)
      · exact absurd c79 (by decide)
      · refine v_iconst (v := nI 0) dX8_seeksRounds_82 k_iconst_0 ?_
        refine v_istore_n (i := 1) dX8_seeksRounds_83 rfl (by decide) rfl ?_
        refine v_iconst (v := nI 0) dX8_seeksRounds_84 k_iconst_0 ?_
        refine v_istore_n (i := 3) dX8_seeksRounds_85 rfl (by decide) rfl ?_
        exact L86 d (gA σ2 83) (by omega) hle K140 1024 0 (by omega) 0 σ2 (by decide) hE hC hR hA (fun _ => ⟨fun _ _ => rfl, fun j hj => absurd hj (by omega)⟩) (fun e => absurd e (by decide)) UpR.rf
  have L2 : ∀ (n k : Nat), k + n = 1024 → ∀ (σ2 : MS), CF σ σ2 → Cch (bfT τ) (gA σ2 50) → (∀ j, j < k → gA σ2 83 j = 0) → V G Γ yX8_seeksRounds cX8_seeksRounds 4 (some .int) [] 9 (ri fun r η => (r = oI (roundT τ) ∧ roundT τ < 4000) ∧ ∃ σ2, η = MH m ad σ2 η0 ∧ CG σ σ2 ∧ Cch (bfT τ) (gA σ2 50)) 0 0 (MH m ad σ2 η0) 2 [some (.ref m), some (.int (nI k)), none, none] [] := by
    intro n
    induction n with
    | zero =>
      intro k hk σ2 hE hC h0
      have e : k = 1024 := by omega
      subst e
      have hW2 := hE.wx hW hC
      have e52 : sN σ2 52 0 = σ2 := by
        have e : gN σ2 52 = 0 := hW2.2.2.2.2.2.2.2.1
        have := sN_self σ2 52
        rw [e] at this
        exact this
      have hbs := bsT_lt hTB 0 (stT τ) 0 0 0
      refine v_iload_n (i := 1) dX8_seeksRounds_2 rfl rfl ?_
      refine v_sipush (v := nI 1024) dX8_seeksRounds_3 k_sipush_1024 ?_
      refine vn_icmp_ge (tgt := 22) dX8_seeksRounds_6 rfl (by omega) (by omega) (fun c6 => ?_) (fun c6 => ?_)
      · refine v_aload_n (i := 0) dX8_seeksRounds_22 rfl rfl ?_
        refine v_iconst (v := -1) dX8_seeksRounds_23 k_iconst_m1 ?_
        refine mp_without_m rfl dX8_seeksRounds_24 ?_
        rw [e52]
        refine v_aload_n (i := 0) dX8_seeksRounds_27 rfl rfl ?_
        refine mg_rounds rfl dX8_seeksRounds_28 ?_
        refine v_aload_n (i := 0) dX8_seeksRounds_31 rfl rfl ?_
        refine v_aload_n (i := 0) dX8_seeksRounds_32 rfl rfl ?_
        refine v_callVi (cX_start hap σ2 τ _ _ 0 hW2) (lw_V q1912 q1914 qs54 q136 q1915) iX8_start rfl KX8 MH_m rfl rfl (by decide) (by decide) (Nat.le_of_ble_eq_true rfl) dX8_seeksRounds_33 ?_
        refine v_callVi (cX_small hap σ2 τ _ _ 0 hW2 (stT τ) hst) (lw_V q2518 q2520 qs111 q136 q2521) iX8_small rfl KX8 MH_m rfl rfl (by decide) (by decide) (Nat.le_of_ble_eq_true rfl) dX8_seeksRounds_36 ?_
        refine v_iconst (v := nI 0) dX8_seeksRounds_39 k_iconst_0 ?_
        refine ms_rounds_n hap hsm dX8_seeksRounds_40 ?_
        have hE3 : CF σ (sA σ2 83 (smT τ (stT τ)) 1) := hE.a
        have hW3 := hE3.wx hW hC
        refine v_aload_n (i := 0) dX8_seeksRounds_41 rfl rfl ?_
        refine v_aload_n (i := 0) dX8_seeksRounds_42 rfl rfl ?_
        refine v_callVi (cX_start hap (sA σ2 83 (smT τ (stT τ)) 1) τ _ _ 0 hW3) (lw_V q1912 q1914 qs54 q136 q1915) iX8_start rfl KX8 MH_m rfl rfl (by decide) (by decide) (Nat.le_of_ble_eq_true rfl) dX8_seeksRounds_43 ?_
        refine v_callVi (cX_isGoal hap (sA σ2 83 (smT τ (stT τ)) 1) τ _ _ 0 hW3 (stT τ) (by omega)) (lw_V q2439 q2441 qs101 q136 q2442) iX8_isGoal rfl KX8 MH_m rfl rfl (by decide) (by decide) (Nat.le_of_ble_eq_true rfl) dX8_seeksRounds_46 ?_
        refine vn_if_eq (tgt := 54) dX8_seeksRounds_49 rfl (by split <;> decide) (fun c49 => ?_) (fun c49 => ?_)
        · have c49 : ¬ goalT τ (stT τ) := fun q => by rw [if_pos q] at c49; exact absurd c49 (by decide)
          refine v_aload_n (i := 0) dX8_seeksRounds_54 rfl rfl ?_
          refine v_aload_n (i := 0) dX8_seeksRounds_55 rfl rfl ?_
          refine v_callVi (cX_start hap (sA σ2 83 (smT τ (stT τ)) 1) τ _ _ 0 hW3) (lw_V q1912 q1914 qs54 q136 q1915) iX8_start rfl KX8 MH_m rfl rfl (by decide) (by decide) (Nat.le_of_ble_eq_true rfl) dX8_seeksRounds_56 ?_
          refine v_iconst (v := nI 0) dX8_seeksRounds_59 k_iconst_0 ?_
          refine v_iconst (v := nI 0) dX8_seeksRounds_60 k_iconst_0 ?_
          refine v_iconst (v := nI 0) dX8_seeksRounds_61 k_iconst_0 ?_
          refine v_callVI (kc' := 0) (ks' := 0) (cX_barsShores hap (sA σ2 83 (smT τ (stT τ)) 1) τ _ _ 0 hW3 (stT τ) 0 0 0 (by omega) (by decide) (by decide)) (lw_V q2406 q2408 qs94 q136 q2409) iX8_barsShores rfl KX8 MH_m rfl rfl (by decide) (by decide) (Nat.le_of_ble_eq_true rfl) (by decide) (by decide) dX8_seeksRounds_62 (fun x_ η' h => ?_)
          obtain ⟨rfl, c1, p1, hc1, rfl⟩ := h
          refine vn_if_eq (tgt := 70) dX8_seeksRounds_65 rfl (by omega) (fun c65 => ?_) (fun c65 => ?_)
          · refine v_aload_n (i := 0) dX8_seeksRounds_70 rfl rfl ?_
            refine v_callVW (kc' := 0) (ks' := 0) (cM_sets hap (sCP (sA σ2 83 (smT τ (stT τ)) 1) c1 p1) τ _ _ 0 (hW3.cp hc1)) (lw_V q2398 q2400 qs92 q136 q2401) iX8_sets rfl KX8 MH_m rfl rfl (by decide) (by decide) (Nat.le_of_ble_eq_true rfl) (by decide) (by decide) dX8_seeksRounds_71 (fun η' h => ?_)
            obtain ⟨f1, g1, rfl, hfg⟩ := h
            refine v_iconst (v := nI 1) dX8_seeksRounds_74 k_iconst_1 ?_
            refine v_istore_n (i := 1) dX8_seeksRounds_75 rfl (by decide) rfl ?_
            refine v_iconst (v := nI 0) dX8_seeksRounds_76 k_iconst_0 ?_
            refine v_istore_n (i := 2) dX8_seeksRounds_77 rfl (by decide) rfl ?_
            have hE4 : CG σ (SMa (sCP (sA σ2 83 (smT τ (stT τ)) 1) c1 p1) f1 g1) := hE3.cp.g.trans (CG.sm _ f1 g1)
            have hW4 : WX (SMa (sCP (sA σ2 83 (smT τ (stT τ)) 1) c1 p1) f1 g1) τ (tA τ 41) (tA τ 42) 0 := hW3.cp hc1
            have hR4 : RW (SMa (sCP (sA σ2 83 (smT τ (stT τ)) 1) c1 p1) f1 g1) τ := ⟨hW4, hS2, hB2, hlm, fun b hb => hfg b (by omega), c65⟩
            have h83 : ∀ j, j < 1024 → j ≠ smT τ (stT τ) → va_up (gA σ2 83) (smT τ (stT τ)) 1 j = 0 := fun j hj hn => by rw [va_up_n hn]; exact h0 j hj
            have hA4 : RAk τ (va_up (gA σ2 83) (smT τ (stT τ)) 1) 0 0 := RAk.base hst h83 va_up_e
            exact L78 2049 0 1 (SMa (sCP (sA σ2 83 (smT τ (stT τ)) 1) c1 p1) f1 g1) _ (by decide) (by omega) (by decide) (fun e => absurd e (by decide)) hE4 hc1 hR4 hA4 (fun j hj => by
              show va_up (gA σ2 83) (smT τ (stT τ)) 1 j ≤ 1
              by_cases q : j = smT τ (stT τ)
              · rw [q, va_up_e]; decide
              · rw [h83 j hj q]; decide)
          · refine v_iconst (v := -1) dX8_seeksRounds_68 k_iconst_m1 ?_
            exact v_iret rfl dX8_seeksRounds_69 ⟨_, rfl, (by rw [roundT_stuck c65 c49]; exact ⟨rfl, by decide⟩), sCP (sA σ2 83 (smT τ (stT τ)) 1) c1 p1, rfl, hE3.cp.g, hc1⟩
        · have c49 : goalT τ (stT τ) := Classical.byContradiction fun q => by rw [if_neg q] at c49; exact c49 rfl
          refine v_iconst (v := nI 0) dX8_seeksRounds_52 k_iconst_0 ?_
          exact v_iret rfl dX8_seeksRounds_53 ⟨_, rfl, (by rw [roundT_y (d := 0) ⟨stT τ, rfl, c49⟩ (fun e he => absurd he (by omega))]; exact ⟨rfl, by decide⟩), _, rfl, hE3.g, hC⟩
      · exact absurd c6 (by decide)
    | succ n ih =>
      intro k hk σ2 hE hC h0
      refine v_iload_n (i := 1) dX8_seeksRounds_2 rfl rfl ?_
      refine v_sipush (v := nI 1024) dX8_seeksRounds_3 k_sipush_1024 ?_
      refine vn_icmp_ge (tgt := 22) dX8_seeksRounds_6 rfl (by omega) (by omega) (fun c6 => ?_) (fun c6 => ?_)
      · omega
      · refine v_aload_n (i := 0) dX8_seeksRounds_9 rfl rfl ?_
        refine mg_rounds rfl dX8_seeksRounds_10 ?_
        refine v_iload_n (i := 1) dX8_seeksRounds_13 rfl rfl ?_
        refine v_iconst (v := -1) dX8_seeksRounds_14 k_iconst_m1 ?_
        refine ms_rounds_m hap (show k < 1024 by omega) dX8_seeksRounds_15 ?_
        refine vn_iinc 1 dX8_seeksRounds_16 rfl k_iconst_1 (by decide) rfl ?_
        refine v_goto (tgt := 2) dX8_seeksRounds_19 rfl ?_
        exact ih (k + 1) (by omega) (sA σ2 83 k 0) hE.a hC (fun j hj => by show va_up (gA σ2 83) k 0 j = 0; by_cases q : j = k; (rw [q, va_up_e]); (rw [va_up_n q]; exact h0 j (by omega)))
  refine v_iconst (v := nI 0) dX8_seeksRounds_0 k_iconst_0 ?_
  refine v_istore_n (i := 1) dX8_seeksRounds_1 rfl (by decide) rfl ?_
  exact L2 1024 0 rfl σ (CF.rf σ) hW.2.2.2.2.2.2.1 (fun j hj => absurd hj (by omega))
