/-- exploring, and the first place of the array j -/
def EH (j : Nat) (σ σ2 : MS) : Prop := (∀ k, k ≠ 52 → k ≠ 54 → k ≠ 55 → k ≠ 66 → k ≠ 67 → gN σ2 k = gN σ k) ∧ (∀ k, k ≠ j → (k < 56 ∧ k ≠ 50) ∨ k = 65 ∨ 69 < k → gA σ2 k = gA σ k) ∧ (∀ k, k ≠ 51 → gB σ2 k = gB σ k) ∧ ∀ i, i ≠ 0 → gA σ2 j i = gA σ j i
theorem EH.rf (j : Nat) (σ : MS) : EH j σ σ := ⟨fun _ _ _ _ _ _ => rfl, fun _ _ _ => rfl, fun _ _ => rfl, fun _ _ => rfl⟩
theorem EH.a {j : Nat} {σ σ2 : MS} (h : EH j σ σ2) (v : Nat) : EH j σ (sA σ2 j 0 v) := ⟨h.1, fun k h1 h2 => by rw [gA_sA, if_neg h1]; exact h.2.1 k h1 h2, h.2.2.1, fun i hi => by rw [gA_sA, if_pos rfl, va_up_n hi]; exact h.2.2.2 i hi⟩
theorem EH.g {j : Nat} {σ σ1 σ2 : MS} (hj : j < 50) (h : EH j σ σ1) (h2 : EG σ1 σ2) : EH j σ σ2 := ⟨fun k a b c d e => (h2.1 k a b c d e).trans (h.1 k a b c d e), fun k a b => (h2.2.1 k b).trans (h.2.1 k a b), fun k a => (h2.2.2.1 k a).trans (h.2.2.1 k a), fun i hi => by rw [h2.2.1 j (by omega)]; exact h.2.2.2 i hi⟩
theorem EH.wx9 {σ σ2 : MS} (h : EH 9 σ σ2) {τ : Td} {hd ld : Nat → Nat} {w : Nat} (hW : WX σ τ hd ld w) (hc : Cch (bfT τ) (gA σ2 50)) (h52 : gN σ2 52 = w) {v : Nat} (hv : v ≤ 8) (h0 : gA σ2 9 0 = v) : WX σ2 τ (va_up hd 0 v) ld w := by
  have n : ∀ k, k < 52 → gN σ2 k = gN σ k := fun k a => h.1 k (by omega) (by omega) (by omega) (by omega) (by omega)
  have a : ∀ k, k ≠ 9 → k < 50 → gA σ2 k = gA σ k := fun k h1 a => h.2.1 k h1 (by omega)
  obtain ⟨h1, h2, h3, h4, h5, h6, h7, h8, h9⟩ := hW
  refine ⟨h1, ?_, ?_, fun i hi => ?_, ?_, ?_, hc, h52, h9⟩
  · rw [n 1 (by decide), n 2 (by decide), n 3 (by decide), n 4 (by decide), n 5 (by decide), n 13 (by decide)]
    exact h2
  · rw [a 6 (by decide) (by decide), a 7 (by decide) (by decide)]
    exact h3
  · rw [a 10 (by decide) (by decide), a 11 (by decide) (by decide)]
    obtain ⟨b1, b2, b3, b4, b5⟩ := h4 i hi
    by_cases c : i = 0
    · subst c
      rw [va_up_e]
      exact ⟨h0, b2, b3, hv, b5⟩
    · rw [va_up_n c, h.2.2.2 i c]
      exact ⟨b1, b2, b3, b4, b5⟩
  · rw [a 12 (by decide) (by decide)]
    exact h5
  · unfold BarO
    rw [n 1 (by decide), n 2 (by decide), n 4 (by decide), a 6 (by decide) (by decide), a 7 (by decide) (by decide), a 15 (by decide) (by decide), a 16 (by decide) (by decide), h.2.2.1 14 (by decide)]
    exact h6
theorem EH.wx10 {σ σ2 : MS} (h : EH 10 σ σ2) {τ : Td} {hd ld : Nat → Nat} {w : Nat} (hW : WX σ τ hd ld w) (hc : Cch (bfT τ) (gA σ2 50)) (h52 : gN σ2 52 = w) {v : Nat} (hv : v ≤ 999) (h0 : gA σ2 10 0 = v) : WX σ2 τ hd (va_up ld 0 v) w := by
  have n : ∀ k, k < 52 → gN σ2 k = gN σ k := fun k a => h.1 k (by omega) (by omega) (by omega) (by omega) (by omega)
  have a : ∀ k, k ≠ 10 → k < 50 → gA σ2 k = gA σ k := fun k h1 a => h.2.1 k h1 (by omega)
  obtain ⟨h1, h2, h3, h4, h5, h6, h7, h8, h9⟩ := hW
  refine ⟨h1, ?_, ?_, fun i hi => ?_, ?_, ?_, hc, h52, h9⟩
  · rw [n 1 (by decide), n 2 (by decide), n 3 (by decide), n 4 (by decide), n 5 (by decide), n 13 (by decide)]
    exact h2
  · rw [a 6 (by decide) (by decide), a 7 (by decide) (by decide)]
    exact h3
  · rw [a 9 (by decide) (by decide), a 11 (by decide) (by decide)]
    obtain ⟨b1, b2, b3, b4, b5⟩ := h4 i hi
    by_cases c : i = 0
    · subst c
      rw [va_up_e]
      exact ⟨b1, h0, b3, b4, hv⟩
    · rw [va_up_n c, h.2.2.2 i c]
      exact ⟨b1, b2, b3, b4, b5⟩
  · rw [a 12 (by decide) (by decide)]
    exact h5
  · unfold BarO
    rw [n 1 (by decide), n 2 (by decide), n 4 (by decide), a 6 (by decide) (by decide), a 7 (by decide) (by decide), a 15 (by decide) (by decide), a 16 (by decide) (by decide), h.2.2.1 14 (by decide)]
    exact h6
/-- put back, all is as it was, but for what was found -/
theorem MG.size {rt : Td → Nat} {j : Nat} (hj : j = 9 ∨ j = 10) {σ σ2 : MS} {A : AS} (h : MG rt σ A) (hE : EH j σ σ2) (hc : Cch (bfT A.1) (gA σ2 50)) (h52 : gN σ2 52 = 0) (h66 : gN σ2 66 < 2) {i v : Nat} (hS : SKn (sA σ 81 i v) A.1) : MG rt (sN (sA (sA σ2 81 i v) j 0 (gA σ j 0)) 67 0) A := by
  obtain ⟨⟨⟨h1, h2, h3, h4, h5, h6⟩, m2, m3, m4, m5, m6⟩, ⟨b1, b2, b3, b4, b5⟩, ⟨c1, c2⟩, d, e, f, g, p, q, r⟩ := h
  have n : ∀ k, k < 52 ∨ 67 < k → gN (sN (sA (sA σ2 81 i v) j 0 (gA σ j 0)) 67 0) k = gN σ k := fun k hk => by rw [gN_sN, if_neg (by omega)]; exact hE.1 k (by omega) (by omega) (by omega) (by omega) (by omega)
  have a : ∀ k, k ≠ 81 → k < 50 ∨ 69 < k → gA (sN (sA (sA σ2 81 i v) j 0 (gA σ j 0)) 67 0) k = gA σ k := fun k hk1 hk => by
    show gA (sA (sA σ2 81 i v) j 0 (gA σ j 0)) k = _
    by_cases c : k = j
    · subst c
      rw [gA_sA, if_pos rfl]
      funext x
      by_cases y : x = 0
      · subst y
        rw [va_up_e]
      · rw [va_up_n y, gA_sA, if_neg (by omega)]
        exact hE.2.2.2 x y
    · rw [gA_sA, if_neg c, gA_sA, if_neg hk1]
      exact hE.2.1 k c (by omega)
  have a81 : gA (sN (sA (sA σ2 81 i v) j 0 (gA σ j 0)) 67 0) 81 = gA (sA σ 81 i v) 81 := by
    show gA (sA (sA σ2 81 i v) j 0 (gA σ j 0)) 81 = _
    rw [gA_sA, if_neg (by omega), gA_sA, gA_sA, if_pos rfl, if_pos rfl, hE.2.1 81 (by omega) (by omega)]
  have a50 : gA (sN (sA (sA σ2 81 i v) j 0 (gA σ j 0)) 67 0) 50 = gA σ2 50 := by
    show gA (sA (sA σ2 81 i v) j 0 (gA σ j 0)) 50 = _
    rw [gA_sA, if_neg (by omega), gA_sA, if_neg (by decide)]
  refine ⟨⟨⟨h1, ?_, ?_, ?_, ?_, ?_⟩, by rw [a50]; exact hc, h52, by show 0 < 2; decide, h66, fun w => absurd (show 0 = 1 from w) (by decide)⟩, ⟨(a 17 (by decide) (by decide)).trans b1, (n 18 (by decide)).trans b2, b3, b4, fun t ht => by rw [a 40 (by decide) (by decide)]; exact b5 t ht⟩, ⟨(n 20 (by decide)).trans c1, c2⟩, d.q (n 70 (by decide)) (n 71 (by decide)) (fun k h1 h2 => a k (by omega) (by omega)), ?_, ?_, ?_, ?_, (n 85 (by decide)).trans q, r⟩
  · rw [n 1 (by decide), n 2 (by decide), n 3 (by decide), n 4 (by decide), n 5 (by decide), n 13 (by decide)]
    exact h2
  · rw [a 6 (by decide) (by decide), a 7 (by decide) (by decide), a 8 (by decide) (by decide)]
    exact h3
  · rw [a 9 (by decide) (by decide), a 10 (by decide) (by decide), a 11 (by decide) (by decide)]
    exact h4
  · rw [a 12 (by decide) (by decide)]
    exact h5
  · unfold BarO
    rw [n 1 (by decide), n 2 (by decide), n 4 (by decide), a 6 (by decide) (by decide), a 7 (by decide) (by decide), a 15 (by decide) (by decide), a 16 (by decide) (by decide), show gB (sN (sA (sA σ2 81 i v) j 0 (gA σ j 0)) 67 0) 14 = gB σ 14 from hE.2.2.1 14 (by decide)]
    exact h6
  · unfold LK
    rw [n 78 (by decide), n 79 (by decide), n 80 (by decide)]
    exact e
  · unfold SKn
    rw [a81]
    exact hS
  · unfold RK
    rw [n 82 (by decide)]
    exact g
  · unfold PL
    rw [n 84 (by decide), a 86 (by decide) (by decide), a 87 (by decide) (by decide)]
    exact p
theorem cM_leastHeld {G : Gl} {m : Nat} {ad : Nat → Nat} {η0 : AH} (hap : Mp m ad) (σ : MS) (τ : Td) (hW : WX σ τ (tA τ 41) (tA τ 42) 0) (h66 : gN σ 66 < 2) : Ct G yX8_leastHeld cX8_leastHeld 3 (some .int) 9 0 0 [.ref m] (MH m ad σ η0) (ri fun r η => ∃ σ2, η = MH m ad σ2 η0 ∧ EH 9 σ σ2 ∧ Cch (bfT τ) (gA σ2 50) ∧ gN σ2 52 = 0 ∧ gN σ2 66 < 2 ∧ r = pI (holdT τ)) := by
  refine Ct.start rfl rfl (Nat.le_of_ble_eq_true rfl) (fun Γ => ?_)
  generalize hR : holdT τ = R
  have L2 : ∀ (n k : Nat) (σ2 : MS) (z2 : Option Value), k + n = 9 → 1 ≤ k → holdN τ n k = R → EH 9 σ σ2 → Cch (bfT τ) (gA σ2 50) → gN σ2 52 = 0 → gN σ2 66 < 2 → V G Γ yX8_leastHeld cX8_leastHeld 3 (some .int) [] 9 (ri fun r η => ∃ σ2, η = MH m ad σ2 η0 ∧ EH 9 σ σ2 ∧ Cch (bfT τ) (gA σ2 50) ∧ gN σ2 52 = 0 ∧ gN σ2 66 < 2 ∧ r = pI (R)) 0 0 (MH m ad σ2 η0) 2 [some (.ref m), some (.int (nI k)), z2] [] := by
    intro n
    induction n with
    | zero =>
      intro k σ2 z2 hkn hk1 hq hE hC h52 h66
      refine v_iload_n (i := 1) dX8_leastHeld_2 rfl rfl ?_
      refine v_bipush (v := nI 8) dX8_leastHeld_3 k_bipush_8 ?_
      refine vn_icmp_gt (tgt := 45) dX8_leastHeld_5 rfl (by omega) (by omega) (fun c5 => ?_) (fun c5 => ?_)
      · refine v_iconst (v := -1) dX8_leastHeld_45 k_iconst_m1 ?_
        exact v_iret rfl dX8_leastHeld_46 ⟨_, rfl, σ2, rfl, hE, hC, h52, h66, by rw [← hq]; rfl⟩
      · omega
    | succ n ih =>
      intro k σ2 z2 hkn hk1 hq hE hC h52 h66
      have hv := skS_le τ (va_up (tA τ 41) 0 k) (tA τ 42) 0
      have hW1 : WX (sA σ2 9 0 k) τ (va_up (tA τ 41) 0 k) (tA τ 42) 0 := (hE.a k).wx9 hW hC h52 (by omega) (show va_up (gA σ2 9) 0 k 0 = k from va_up_e)
      have hq : (if skS τ (va_up (tA τ 41) 0 k) (tA τ 42) 0 = 0 then 0 else if 2 ≤ skS τ (va_up (tA τ 41) 0 k) (tA τ 42) 0 then k + 2 else holdN τ n (k + 1)) = R := hq
      refine v_iload_n (i := 1) dX8_leastHeld_2 rfl rfl ?_
      refine v_bipush (v := nI 8) dX8_leastHeld_3 k_bipush_8 ?_
      refine vn_icmp_gt (tgt := 45) dX8_leastHeld_5 rfl (by omega) (by omega) (fun c5 => ?_) (fun c5 => ?_)
      · omega
      · refine v_aload_n (i := 0) dX8_leastHeld_8 rfl rfl ?_
        refine mg_holds rfl dX8_leastHeld_9 ?_
        refine v_iconst (v := nI 0) dX8_leastHeld_12 k_iconst_0 ?_
        refine v_iload_n (i := 1) dX8_leastHeld_13 rfl rfl ?_
        refine ms_holds hap (by decide) dX8_leastHeld_14 ?_
        refine v_aload_n (i := 0) dX8_leastHeld_15 rfl rfl ?_
        refine v_aload_n (i := 0) dX8_leastHeld_16 rfl rfl ?_
        refine v_callVi (cX_start hap (sA σ2 9 0 k) τ _ _ 0 hW1) (lw_V q1912 q1914 qs54 q136 q1915) iX8_start rfl KX8 MH_m rfl rfl (by decide) (by decide) (Nat.le_of_ble_eq_true rfl) dX8_leastHeld_17 ?_
        refine v_callVI (kc' := 0) (ks' := 0) (cM_seeks hap (sA σ2 9 0 k) τ _ _ 0 hW1) (lw_V q2494 q2496 qs107 q136 q2497) iX8_seeks rfl KX8 MH_m rfl rfl (by decide) (by decide) (Nat.le_of_ble_eq_true rfl) (by decide) (by decide) dX8_leastHeld_20 (fun x_ η' h => ?_)
        obtain ⟨σ3, rfl, s1, s2, s3, s4, s5, rfl⟩ := h
        have hE3 := (hE.a k).g (by decide) s1
        have f52 : gN σ3 52 = 0 := s2.trans h52
        refine v_istore_n (i := 2) dX8_leastHeld_23 rfl (by decide) rfl ?_
        refine v_iload_n (i := 2) dX8_leastHeld_24 rfl rfl ?_
        refine v_bipush (v := -2) dX8_leastHeld_25 k_bipush_m2 ?_
        refine v_icmp_ne (tgt := 33) dX8_leastHeld_27 rfl (fun c27 => ?_) (fun c27 => ?_)
        · have c27 : ¬ skS τ (va_up (tA τ 41) 0 k) (tA τ 42) 0 = 0 := fun y => c27 ((pI_m2 (by omega)).mpr y)
          rw [if_neg c27] at hq
          refine v_iload_n (i := 2) dX8_leastHeld_33 rfl rfl ?_
          refine v_if_lt (tgt := 39) dX8_leastHeld_34 rfl (fun c34 => ?_) (fun c34 => ?_)
          · have c34 : skS τ (va_up (tA τ 41) 0 k) (tA τ 42) 0 < 2 := (pI_lt0 (by omega)).mp c34
            rw [if_neg (by omega)] at hq
            refine vn_iinc 1 dX8_leastHeld_39 rfl k_iconst_1 (by decide) rfl ?_
            refine v_goto (tgt := 2) dX8_leastHeld_42 rfl ?_
            exact ih (k + 1) σ3 _ (by omega) (by omega) hq hE3 s3 f52 s5
          · have c34 : ¬ skS τ (va_up (tA τ 41) 0 k) (tA τ 42) 0 < 2 := fun y => c34 ((pI_lt0 (by omega)).mpr y)
            rw [if_pos (by omega)] at hq
            refine v_iload_n (i := 1) dX8_leastHeld_37 rfl rfl ?_
            exact v_iret rfl dX8_leastHeld_38 ⟨_, rfl, σ3, rfl, hE3, s3, f52, s5, by rw [← hq]; rfl⟩
        · have c27 : skS τ (va_up (tA τ 41) 0 k) (tA τ 42) 0 = 0 := (pI_m2 (by omega)).mp c27
          rw [if_pos c27] at hq
          refine v_bipush (v := -2) dX8_leastHeld_30 k_bipush_m2 ?_
          exact v_iret rfl dX8_leastHeld_32 ⟨_, rfl, σ3, rfl, hE3, s3, f52, s5, by rw [← hq]; rfl⟩
  refine v_iconst (v := nI 1) dX8_leastHeld_0 k_iconst_1 ?_
  refine v_istore_n (i := 1) dX8_leastHeld_1 rfl (by decide) rfl ?_
  exact L2 8 1 σ _ (by omega) (by omega) hR (EH.rf 9 σ) hW.2.2.2.2.2.2.1 hW.2.2.2.2.2.2.2.1 h66
theorem cM_leastLoad {G : Gl} {m : Nat} {ad : Nat → Nat} {η0 : AH} (hap : Mp m ad) (σ : MS) (τ : Td) (hW : WX σ τ (tA τ 41) (tA τ 42) 0) (h66 : gN σ 66 < 2) : Ct G yX8_leastLoad cX8_leastLoad 4 (some .int) 9 0 0 [.ref m] (MH m ad σ η0) (ri fun r η => ∃ σ2, η = MH m ad σ2 η0 ∧ EH 10 σ σ2 ∧ Cch (bfT τ) (gA σ2 50) ∧ gN σ2 52 = 0 ∧ gN σ2 66 < 2 ∧ r = pI (loadT τ)) := by
  refine Ct.start rfl rfl (Nat.le_of_ble_eq_true rfl) (fun Γ => ?_)
  generalize hR : loadT τ = R
  have L30 : ∀ (n lo hi : Nat) (σ2 : MS) (z1 : Option Value), hi ≤ lo + n → lo ≤ hi → hi ≤ 999 → loadN τ n lo hi = R → EH 10 σ σ2 → Cch (bfT τ) (gA σ2 50) → gN σ2 52 = 0 → gN σ2 66 < 2 → V G Γ yX8_leastLoad cX8_leastLoad 4 (some .int) [] 9 (ri fun r η => ∃ σ2, η = MH m ad σ2 η0 ∧ EH 10 σ σ2 ∧ Cch (bfT τ) (gA σ2 50) ∧ gN σ2 52 = 0 ∧ gN σ2 66 < 2 ∧ r = pI (R)) 0 0 (MH m ad σ2 η0) 30 [some (.ref m), z1, some (.int (nI lo)), some (.int (nI hi))] [] := by
    intro n
    induction n with
    | zero =>
      intro lo hi σ2 z1 hn hlh h9 hq hE hC h52 h66
      refine v_iload_n (i := 2) dX8_leastLoad_30 rfl rfl ?_
      refine v_iload_n (i := 3) dX8_leastLoad_31 rfl rfl ?_
      refine vn_icmp_ge (tgt := 88) dX8_leastLoad_32 rfl (by omega) (by omega) (fun c32 => ?_) (fun c32 => ?_)
      · refine v_iload_n (i := 3) dX8_leastLoad_88 rfl rfl ?_
        exact v_iret rfl dX8_leastLoad_89 ⟨_, rfl, σ2, rfl, hE, hC, h52, h66, by rw [← hq]; rfl⟩
      · omega
    | succ n ih =>
      intro lo hi σ2 z1 hn hlh h9 hq hE hC h52 h66
      have hv := skS_le τ (tA τ 41) (va_up (tA τ 42) 0 ((lo + hi) / 2)) 0
      have hW1 : WX (sA σ2 10 0 ((lo + hi) / 2)) τ (tA τ 41) (va_up (tA τ 42) 0 ((lo + hi) / 2)) 0 := (hE.a _).wx10 hW hC h52 (by omega) (show va_up (gA σ2 10) 0 ((lo + hi) / 2) 0 = _ from va_up_e)
      have hq : (if lo < hi then (if skS τ (tA τ 41) (va_up (tA τ 42) 0 ((lo + hi) / 2)) 0 = 0 then 0 else if 2 ≤ skS τ (tA τ 41) (va_up (tA τ 42) 0 ((lo + hi) / 2)) 0 then loadN τ n lo ((lo + hi) / 2) else loadN τ n (((lo + hi) / 2) + 1) hi) else hi + 2) = R := hq
      refine v_iload_n (i := 2) dX8_leastLoad_30 rfl rfl ?_
      refine v_iload_n (i := 3) dX8_leastLoad_31 rfl rfl ?_
      refine vn_icmp_ge (tgt := 88) dX8_leastLoad_32 rfl (by omega) (by omega) (fun c32 => ?_) (fun c32 => ?_)
      · rw [if_neg (by omega)] at hq
        refine v_iload_n (i := 3) dX8_leastLoad_88 rfl rfl ?_
        exact v_iret rfl dX8_leastLoad_89 ⟨_, rfl, σ2, rfl, hE, hC, h52, h66, by rw [← hq]; rfl⟩
      · rw [if_pos c32] at hq
        refine v_aload_n (i := 0) dX8_leastLoad_35 rfl rfl ?_
        refine mg_loads rfl dX8_leastLoad_36 ?_
        refine v_iconst (v := nI 0) dX8_leastLoad_39 k_iconst_0 ?_
        refine v_iload_n (i := 2) dX8_leastLoad_40 rfl rfl ?_
        refine v_iload_n (i := 3) dX8_leastLoad_41 rfl rfl ?_
        refine vn_iadd dX8_leastLoad_42 ?_
        refine v_iconst (v := nI 2) dX8_leastLoad_43 k_iconst_2 ?_
        refine vn_idiv (by omega) (by decide) (by decide) dX8_leastLoad_44 ?_
        refine ms_loads hap (by decide) dX8_leastLoad_45 ?_
        refine v_aload_n (i := 0) dX8_leastLoad_46 rfl rfl ?_
        refine v_aload_n (i := 0) dX8_leastLoad_47 rfl rfl ?_
        refine v_callVi (cX_start hap (sA σ2 10 0 ((lo + hi) / 2)) τ _ _ 0 hW1) (lw_V q1912 q1914 qs54 q136 q1915) iX8_start rfl KX8 MH_m rfl rfl (by decide) (by decide) (Nat.le_of_ble_eq_true rfl) dX8_leastLoad_48 ?_
        refine v_callVI (kc' := 0) (ks' := 0) (cM_seeks hap (sA σ2 10 0 ((lo + hi) / 2)) τ _ _ 0 hW1) (lw_V q2494 q2496 qs107 q136 q2497) iX8_seeks rfl KX8 MH_m rfl rfl (by decide) (by decide) (Nat.le_of_ble_eq_true rfl) (by decide) (by decide) dX8_leastLoad_51 (fun x_ η' h => ?_)
        obtain ⟨σ3, rfl, s1, s2, s3, s4, s5, rfl⟩ := h
        have hE3 := (hE.a ((lo + hi) / 2)).g (by decide) s1
        have f52 : gN σ3 52 = 0 := s2.trans h52
        refine v_istore_n (i := 1) dX8_leastLoad_54 rfl (by decide) rfl ?_
        refine v_iload_n (i := 1) dX8_leastLoad_55 rfl rfl ?_
        refine v_bipush (v := -2) dX8_leastLoad_56 k_bipush_m2 ?_
        refine v_icmp_ne (tgt := 64) dX8_leastLoad_58 rfl (fun c58 => ?_) (fun c58 => ?_)
        · have c58 : ¬ skS τ (tA τ 41) (va_up (tA τ 42) 0 ((lo + hi) / 2)) 0 = 0 := fun y => c58 ((pI_m2 (by omega)).mpr y)
          rw [if_neg c58] at hq
          refine v_iload_n (i := 1) dX8_leastLoad_64 rfl rfl ?_
          refine v_if_lt (tgt := 77) dX8_leastLoad_65 rfl (fun c65 => ?_) (fun c65 => ?_)
          · have c65 : skS τ (tA τ 41) (va_up (tA τ 42) 0 ((lo + hi) / 2)) 0 < 2 := (pI_lt0 (by omega)).mp c65
            rw [if_neg (by omega)] at hq
            refine v_iload_n (i := 2) dX8_leastLoad_77 rfl rfl ?_
            refine v_iload_n (i := 3) dX8_leastLoad_78 rfl rfl ?_
            refine vn_iadd dX8_leastLoad_79 ?_
            refine v_iconst (v := nI 2) dX8_leastLoad_80 k_iconst_2 ?_
            refine vn_idiv (by omega) (by decide) (by decide) dX8_leastLoad_81 ?_
            refine v_iconst (v := nI 1) dX8_leastLoad_82 k_iconst_1 ?_
            refine vn_iadd dX8_leastLoad_83 ?_
            refine v_istore_n (i := 2) dX8_leastLoad_84 rfl (by decide) rfl ?_
            refine v_goto (tgt := 30) dX8_leastLoad_85 rfl ?_
            exact ih (((lo + hi) / 2) + 1) hi σ3 _ (by omega) (by omega) (by omega) hq hE3 s3 f52 s5
          · have c65 : ¬ skS τ (tA τ 41) (va_up (tA τ 42) 0 ((lo + hi) / 2)) 0 < 2 := fun y => c65 ((pI_lt0 (by omega)).mpr y)
            rw [if_pos (by omega)] at hq
            refine v_iload_n (i := 2) dX8_leastLoad_68 rfl rfl ?_
            refine v_iload_n (i := 3) dX8_leastLoad_69 rfl rfl ?_
            refine vn_iadd dX8_leastLoad_70 ?_
            refine v_iconst (v := nI 2) dX8_leastLoad_71 k_iconst_2 ?_
            refine vn_idiv (by omega) (by decide) (by decide) dX8_leastLoad_72 ?_
            refine v_istore_n (i := 3) dX8_leastLoad_73 rfl (by decide) rfl ?_
            refine v_goto (tgt := 30) dX8_leastLoad_74 rfl ?_
            exact ih lo ((lo + hi) / 2) σ3 _ (by omega) (by omega) (by omega) hq hE3 s3 f52 s5
        · have c58 : skS τ (tA τ 41) (va_up (tA τ 42) 0 ((lo + hi) / 2)) 0 = 0 := (pI_m2 (by omega)).mp c58
          rw [if_pos c58] at hq
          refine v_bipush (v := -2) dX8_leastLoad_61 k_bipush_m2 ?_
          exact v_iret rfl dX8_leastLoad_63 ⟨_, rfl, σ3, rfl, hE3, s3, f52, s5, by rw [← hq]; rfl⟩
  have hE := EH.rf 10 σ
  have h52 : gN σ 52 = 0 := hW.2.2.2.2.2.2.2.1
  have hv := skS_le τ (tA τ 41) (va_up (tA τ 42) 0 999) 0
  have hW1 : WX (sA σ 10 0 999) τ (tA τ 41) (va_up (tA τ 42) 0 999) 0 := (hE.a _).wx10 hW hW.2.2.2.2.2.2.1 h52 (by omega) (show va_up (gA σ 10) 0 999 0 = _ from va_up_e)
  refine v_aload_n (i := 0) dX8_leastLoad_0 rfl rfl ?_
  refine mg_loads rfl dX8_leastLoad_1 ?_
  refine v_iconst (v := nI 0) dX8_leastLoad_4 k_iconst_0 ?_
  refine v_sipush (v := nI 999) dX8_leastLoad_5 k_sipush_999 ?_
  refine ms_loads hap (by decide) dX8_leastLoad_8 ?_
  refine v_aload_n (i := 0) dX8_leastLoad_9 rfl rfl ?_
  refine v_aload_n (i := 0) dX8_leastLoad_10 rfl rfl ?_
  refine v_callVi (cX_start hap (sA σ 10 0 999) τ _ _ 0 hW1) (lw_V q1912 q1914 qs54 q136 q1915) iX8_start rfl KX8 MH_m rfl rfl (by decide) (by decide) (Nat.le_of_ble_eq_true rfl) dX8_leastLoad_11 ?_
  refine v_callVI (kc' := 0) (ks' := 0) (cM_seeks hap (sA σ 10 0 999) τ _ _ 0 hW1) (lw_V q2494 q2496 qs107 q136 q2497) iX8_seeks rfl KX8 MH_m rfl rfl (by decide) (by decide) (Nat.le_of_ble_eq_true rfl) (by decide) (by decide) dX8_leastLoad_14 (fun x_ η' h => ?_)
  obtain ⟨σ3, rfl, s1, s2, s3, s4, s5, rfl⟩ := h
  have hE3 := (hE.a 999).g (by decide) s1
  have f52 : gN σ3 52 = 0 := s2.trans h52
  refine v_istore_n (i := 1) dX8_leastLoad_17 rfl (by decide) rfl ?_
  refine v_iload_n (i := 1) dX8_leastLoad_18 rfl rfl ?_
  refine v_if_ge (tgt := 24) dX8_leastLoad_19 rfl (fun c19 => ?_) (fun c19 => ?_)
  · have c19 : 2 ≤ skS τ (tA τ 41) (va_up (tA τ 42) 0 999) 0 := (pI_ge0 (by omega)).mp c19
    refine v_iconst (v := nI 0) dX8_leastLoad_24 k_iconst_0 ?_
    refine v_istore_n (i := 2) dX8_leastLoad_25 rfl (by decide) rfl ?_
    refine v_sipush (v := nI 999) dX8_leastLoad_26 k_sipush_999 ?_
    refine v_istore_n (i := 3) dX8_leastLoad_29 rfl (by decide) rfl ?_
    exact L30 1000 0 999 σ3 _ (by omega) (by omega) (by omega) (by rw [← hR]; unfold loadT; rw [if_neg (by omega), if_neg (by omega)]) hE3 s3 f52 s5
  · have c19 : ¬ 2 ≤ skS τ (tA τ 41) (va_up (tA τ 42) 0 999) 0 := fun y => c19 ((pI_ge0 (by omega)).mpr y)
    refine v_iload_n (i := 1) dX8_leastLoad_22 rfl rfl ?_
    exact v_iret rfl dX8_leastLoad_23 ⟨_, rfl, σ3, rfl, hE3, s3, f52, s5, (by rw [← hR]; unfold loadT; by_cases y : skS τ (tA τ 41) (va_up (tA τ 42) 0 999) 0 = 0; (rw [if_pos y, y]); (rw [if_neg y, if_pos (by omega), show skS τ (tA τ 41) (va_up (tA τ 42) 0 999) 0 = 1 by omega]))⟩
theorem holdN_le (τ : Td) : ∀ n k, holdN τ n k ≤ k + n + 2
  | 0, k => by show 1 ≤ _; omega
  | n + 1, k => by
    unfold holdN
    have := holdN_le τ n (k + 1)
    split
    · omega
    · split <;> omega
theorem holdT_le (τ : Td) : holdT τ ≤ 11 := holdN_le τ 8 1
theorem loadN_le (τ : Td) : ∀ n lo hi, lo ≤ hi → loadN τ n lo hi ≤ hi + 2
  | 0, lo, hi, _ => Nat.le_refl _
  | n + 1, lo, hi, h => by
    unfold loadN
    split
    · split
      · omega
      · split
        · have := loadN_le τ n lo ((lo + hi) / 2) (by omega)
          omega
        · exact loadN_le τ n ((lo + hi) / 2 + 1) hi (by omega)
    · omega
theorem loadT_le (τ : Td) : loadT τ ≤ 1001 := by
  unfold loadT
  split
  · omega
  · split
    · omega
    · exact loadN_le τ 1000 0 999 (by omega)
theorem cA_size {G : Gl} {m : Nat} {ad : Nat → Nat} {η0 : AH} (hap : Mp m ad) (σ : MS) {rt : Td → Nat} (A : AS) (hG : MG rt σ A) (a : Int32) : Ct G yX8_size cX8_size 3 (some .int) 10 0 0 [.ref m, .int a] (MH m ad σ η0) (ap rt m ad η0 (spSize A a) A) := by
  refine Ct.start rfl rfl (Nat.le_of_ble_eq_true rfl) (fun Γ => ?_)
  have e3 : gN σ 3 = tN A.1 31 := hG.1.1.2.1.2.2.1
  have hB2 : tN A.1 31 ≤ 2 := hG.1.1.1.1.2.2.2.1
  by_cases hin : inr a 2 ∧ tN A.1 31 ≠ 0
  case neg =>
    have hsp : spSize A a = none := by
      unfold spSize
      by_cases y : tN A.1 31 = 0
      · rw [if_pos y]
      · rw [if_neg y, nOf_none (fun q => hin ⟨q, y⟩) (by decide)]
        rfl
    refine v_aload_n (i := 0) dX8_size_0 rfl rfl ?_
    refine v_iconst (v := nI 0) dX8_size_1 k_iconst_0 ?_
    refine mp_thrown rfl dX8_size_2 ?_
    refine v_aload_n (i := 0) dX8_size_5 rfl rfl ?_
    refine v_iload_n (i := 1) dX8_size_6 rfl rfl ?_
    refine v_if_eq (tgt := 15) dX8_size_7 rfl (fun c7 => ?_) (fun c7 => ?_)
    · refine v_aload_n (i := 0) dX8_size_15 rfl rfl ?_
      refine mg_boats rfl dX8_size_16 ?_
      refine vn_if_le (tgt := 26) dX8_size_19 rfl (show gN σ 3 < _ by omega) (fun c19 => ?_) (fun c19 => ?_)
      · refine v_iconst (v := nI 0) dX8_size_26 k_iconst_0 ?_
        refine v_iconst (v := nI 1) dX8_size_27 k_iconst_1 ?_
        refine v_callVi (cM_right0 hap σ) (lw_V q2197 q2199 qs56 q136 q2200) iX8_right rfl KX8 MH_m rfl rfl (by decide) (by decide) (Nat.le_of_ble_eq_true rfl) dX8_size_28 ?_
        refine vn_if_ne (tgt := 36) dX8_size_31 rfl (by decide) (fun c31 => ?_) (fun c31 => ?_)
        · exact absurd rfl c31
        · refine v_iconst (v := nI 0) dX8_size_34 k_iconst_0 ?_
          exact v_iret rfl dX8_size_35 ⟨_, rfl, sN σ 0 1, rfl, hG, fun _ => rfl, fun v q => (by rw [hsp] at q; cases q)⟩
      · exact absurd ⟨⟨0, by decide, c7⟩, (by have : 0 < gN σ 3 := c19; omega)⟩ hin
    · refine v_iload_n (i := 1) dX8_size_10 rfl rfl ?_
      refine v_iconst (v := nI 1) dX8_size_11 k_iconst_1 ?_
      refine v_icmp_ne (tgt := 26) dX8_size_12 rfl (fun c12 => ?_) (fun c12 => ?_)
      · refine v_iconst (v := nI 0) dX8_size_26 k_iconst_0 ?_
        refine v_iconst (v := nI 1) dX8_size_27 k_iconst_1 ?_
        refine v_callVi (cM_right0 hap σ) (lw_V q2197 q2199 qs56 q136 q2200) iX8_right rfl KX8 MH_m rfl rfl (by decide) (by decide) (Nat.le_of_ble_eq_true rfl) dX8_size_28 ?_
        refine vn_if_ne (tgt := 36) dX8_size_31 rfl (by decide) (fun c31 => ?_) (fun c31 => ?_)
        · exact absurd rfl c31
        · refine v_iconst (v := nI 0) dX8_size_34 k_iconst_0 ?_
          exact v_iret rfl dX8_size_35 ⟨_, rfl, sN σ 0 1, rfl, hG, fun _ => rfl, fun v q => (by rw [hsp] at q; cases q)⟩
      · refine v_aload_n (i := 0) dX8_size_15 rfl rfl ?_
        refine mg_boats rfl dX8_size_16 ?_
        refine vn_if_le (tgt := 26) dX8_size_19 rfl (show gN σ 3 < _ by omega) (fun c19 => ?_) (fun c19 => ?_)
        · refine v_iconst (v := nI 0) dX8_size_26 k_iconst_0 ?_
          refine v_iconst (v := nI 1) dX8_size_27 k_iconst_1 ?_
          refine v_callVi (cM_right0 hap σ) (lw_V q2197 q2199 qs56 q136 q2200) iX8_right rfl KX8 MH_m rfl rfl (by decide) (by decide) (Nat.le_of_ble_eq_true rfl) dX8_size_28 ?_
          refine vn_if_ne (tgt := 36) dX8_size_31 rfl (by decide) (fun c31 => ?_) (fun c31 => ?_)
          · exact absurd rfl c31
          · refine v_iconst (v := nI 0) dX8_size_34 k_iconst_0 ?_
            exact v_iret rfl dX8_size_35 ⟨_, rfl, sN σ 0 1, rfl, hG, fun _ => rfl, fun v q => (by rw [hsp] at q; cases q)⟩
        · exact absurd ⟨⟨1, by decide, c12⟩, (by have : 0 < gN σ 3 := c19; omega)⟩ hin
  obtain ⟨⟨j, hj, rfl⟩, hB0⟩ := hin
  have hno := nOf_some hj (by decide)
  obtain ⟨vH, hvH⟩ : ∃ v, v = holdT A.1 := ⟨_, rfl⟩
  obtain ⟨vL, hvL⟩ : ∃ v, v = loadT A.1 := ⟨_, rfl⟩
  have h1 := holdT_le A.1
  have h2 := loadT_le A.1
  rw [← hvH] at h1
  rw [← hvL] at h2
  have hsp : spSize A (nI j) = some (pI (if j = 0 then vH else vL)) := by
    unfold spSize
    rw [if_neg hB0, hno, ← hvH, ← hvL]
    show some (if j = 0 then pI vH else pI vL) = some (pI (if j = 0 then vH else vL))
    split <;> rfl
  generalize hvv : (if j = 0 then vH else vL) = vv at hsp
  have hvl : vv < 2000000000 := by
    rw [← hvv]
    split <;> omega
  have L114 : ∀ (σ2 : MS) (z2 : Option Value), MG rt σ2 A → gN σ2 0 = 0 → gA σ2 81 j = vv + 1 → V G Γ yX8_size cX8_size 3 (some .int) [] 10 (ap rt m ad η0 (spSize A (nI j)) A) 0 0 (MH m ad σ2 η0) 114 [some (.ref m), some (.int (nI j)), z2] [] := by
    intro σ2 z2 hG2 h00 h81
    refine v_aload_n (i := 0) dX8_size_114 rfl rfl ?_
    refine mg_sizeKnown rfl dX8_size_115 ?_
    refine v_iload_n (i := 1) dX8_size_118 rfl rfl ?_
    refine ml_sizeKnown hap (by omega) dX8_size_119 ?_
    refine v_top (show _ = nI (vv + 1) from congrArg nI h81) ?_
    refine v_iconst (v := nI 3) dX8_size_120 k_iconst_3 ?_
    refine v_isub dX8_size_121 ?_
    refine v_top (pI_s3 vv) ?_
    exact v_iret rfl dX8_size_122 ⟨_, rfl, σ2, rfl, hG2, fun q => (by rw [hsp] at q; cases q), fun v q => (by rw [hsp] at q; cases q; exact ⟨rfl, h00⟩)⟩
  refine v_aload_n (i := 0) dX8_size_0 rfl rfl ?_
  refine v_iconst (v := nI 0) dX8_size_1 k_iconst_0 ?_
  refine mp_thrown rfl dX8_size_2 ?_
  refine v_aload_n (i := 0) dX8_size_5 rfl rfl ?_
  refine v_iload_n (i := 1) dX8_size_6 rfl rfl ?_
  refine vn_if_eq (tgt := 15) dX8_size_7 rfl (by omega) (fun c7 => ?_) (fun c7 => ?_)
  · refine v_aload_n (i := 0) dX8_size_15 rfl rfl ?_
    refine mg_boats rfl dX8_size_16 ?_
    refine vn_if_le (tgt := 26) dX8_size_19 rfl (show gN σ 3 < _ by omega) (fun c19 => ?_) (fun c19 => ?_)
    · exact absurd (show gN σ 3 = 0 from c19) (by omega)
    · refine v_iconst (v := nI 1) dX8_size_22 k_iconst_1 ?_
      refine v_goto (tgt := 27) dX8_size_23 rfl ?_
      refine v_iconst (v := nI 1) dX8_size_27 k_iconst_1 ?_
      refine v_callVi (cM_right1 hap σ) (lw_V q2197 q2199 qs56 q136 q2200) iX8_right rfl KX8 MH_m rfl rfl (by decide) (by decide) (Nat.le_of_ble_eq_true rfl) dX8_size_28 ?_
      refine vn_if_ne (tgt := 36) dX8_size_31 rfl (by decide) (fun c31 => ?_) (fun c31 => ?_)
      · have hSK : (gA σ 81 0 = 0 ∨ gA σ 81 0 = vH + 1) ∧ (gA σ 81 1 = 0 ∨ gA σ 81 1 = vL + 1) := by rw [hvH, hvL]; exact hG.2.2.2.2.2.1
        have hSKj : gA σ 81 j = 0 ∨ gA σ 81 j = vv + 1 := by
          rw [← hvv]
          rcases (show j = 0 ∨ j = 1 by omega) with rfl | rfl
          · exact hSK.1
          · exact hSK.2
        refine v_aload_n (i := 0) dX8_size_36 rfl rfl ?_
        refine mg_sizeKnown rfl dX8_size_37 ?_
        refine v_iload_n (i := 1) dX8_size_40 rfl rfl ?_
        refine ml_sizeKnown hap (by omega) dX8_size_41 ?_
        refine vn_if_ne (tgt := 114) dX8_size_42 rfl (show gA σ 81 j < _ by omega) (fun c42 => ?_) (fun c42 => ?_)
        · exact L114 (sN σ 0 0) _ hG rfl (hSKj.resolve_left c42)
        · refine v_iload_n (i := 1) dX8_size_45 rfl rfl ?_
          refine vn_if_ne (tgt := 58) dX8_size_46 rfl (by omega) (fun c46 => ?_) (fun c46 => ?_)
          · refine v_aload_n (i := 0) dX8_size_58 rfl rfl ?_
            refine mg_loads rfl dX8_size_59 ?_
            refine v_iconst (v := nI 0) dX8_size_62 k_iconst_0 ?_
            refine ml_loads hap (by decide) dX8_size_63 ?_
            refine v_istore_n (i := 2) dX8_size_64 rfl (by decide) rfl ?_
            refine v_aload_n (i := 0) dX8_size_65 rfl rfl ?_
            refine mg_sizeKnown rfl dX8_size_66 ?_
            refine v_iload_n (i := 1) dX8_size_69 rfl rfl ?_
            refine v_iconst (v := nI 3) dX8_size_70 k_iconst_3 ?_
            refine v_iload_n (i := 1) dX8_size_71 rfl rfl ?_
            refine vn_if_ne (tgt := 82) dX8_size_72 rfl (by omega) (fun c72 => ?_) (fun c72 => ?_)
            · refine v_aload_n (i := 0) dX8_size_82 rfl rfl ?_
              refine v_callVI (kc' := 0) (ks' := 0) (cM_leastLoad hap (sN σ 0 0) A.1 hG.1.wx hG.1.2.2.2.2.1) (lw_V q2506 q2508 qs109 q136 q2509) iX8_leastLoad rfl KX8 MH_m rfl rfl (by decide) (by decide) (Nat.le_of_ble_eq_true rfl) (by decide) (by decide) dX8_size_83 (fun x_ η' h => ?_)
              obtain ⟨σ2, rfl, t1, t2, t3, t4, t5⟩ := h
              rw [← hvL] at t5
              subst t5
              refine v_iadd dX8_size_86 ?_
              refine v_top (pI_3 _) ?_
              refine ms_sizeKnown hap (by omega) dX8_size_87 ?_
              refine v_iload_n (i := 1) dX8_size_88 rfl rfl ?_
              refine vn_if_ne (tgt := 102) dX8_size_89 rfl (by omega) (fun c89 => ?_) (fun c89 => ?_)
              · refine v_aload_n (i := 0) dX8_size_102 rfl rfl ?_
                refine mg_loads rfl dX8_size_103 ?_
                refine v_iconst (v := nI 0) dX8_size_106 k_iconst_0 ?_
                refine v_iload_n (i := 2) dX8_size_107 rfl rfl ?_
                refine ms_loads hap (by decide) dX8_size_108 ?_
                refine v_aload_n (i := 0) dX8_size_109 rfl rfl ?_
                refine v_iconst (v := nI 0) dX8_size_110 k_iconst_0 ?_
                refine mp_isFirst rfl (by decide) dX8_size_111 ?_
                have ev : vv = vL := by rw [← hvv, if_neg c46]
                have hsk2 : SKn (sA (sN σ 0 0) 81 j (vL + 1)) A.1 := by
                  show (va_up (gA σ 81) j (vL + 1) 0 = 0 ∨ va_up (gA σ 81) j (vL + 1) 0 = holdT A.1 + 1) ∧ (va_up (gA σ 81) j (vL + 1) 1 = 0 ∨ va_up (gA σ 81) j (vL + 1) 1 = loadT A.1 + 1)
                  rw [← hvH, ← hvL]
                  rw [show j = 1 by omega, va_up_e, va_up_n (by decide)]
                  exact ⟨hSK.1, Or.inr rfl⟩
                exact L114 _ _ (MG.size (j := 10) (by decide) (σ := sN σ 0 0) hG t1 t2 t3 t4 (i := j) (v := vL + 1) hsk2) (t1.1 0 (by decide) (by decide) (by decide) (by decide) (by decide)) (by show va_up (gA σ2 81) j _ j = _; rw [va_up_e, ev])
              · exact absurd c89 c46
            · exact absurd c72 c46
          · refine v_aload_n (i := 0) dX8_size_49 rfl rfl ?_
            refine mg_holds rfl dX8_size_50 ?_
            refine v_iconst (v := nI 0) dX8_size_53 k_iconst_0 ?_
            refine ml_holds hap (by decide) dX8_size_54 ?_
            refine v_goto (tgt := 64) dX8_size_55 rfl ?_
            refine v_istore_n (i := 2) dX8_size_64 rfl (by decide) rfl ?_
            refine v_aload_n (i := 0) dX8_size_65 rfl rfl ?_
            refine mg_sizeKnown rfl dX8_size_66 ?_
            refine v_iload_n (i := 1) dX8_size_69 rfl rfl ?_
            refine v_iconst (v := nI 3) dX8_size_70 k_iconst_3 ?_
            refine v_iload_n (i := 1) dX8_size_71 rfl rfl ?_
            refine vn_if_ne (tgt := 82) dX8_size_72 rfl (by omega) (fun c72 => ?_) (fun c72 => ?_)
            · exact absurd c46 c72
            · refine v_aload_n (i := 0) dX8_size_75 rfl rfl ?_
              refine v_callVI (kc' := 0) (ks' := 0) (cM_leastHeld hap (sN σ 0 0) A.1 hG.1.wx hG.1.2.2.2.2.1) (lw_V q2502 q2504 qs108 q136 q2505) iX8_leastHeld rfl KX8 MH_m rfl rfl (by decide) (by decide) (Nat.le_of_ble_eq_true rfl) (by decide) (by decide) dX8_size_76 (fun x_ η' h => ?_)
              obtain ⟨σ2, rfl, t1, t2, t3, t4, t5⟩ := h
              rw [← hvH] at t5
              subst t5
              refine v_goto (tgt := 86) dX8_size_79 rfl ?_
              refine v_iadd dX8_size_86 ?_
              refine v_top (pI_3 _) ?_
              refine ms_sizeKnown hap (by omega) dX8_size_87 ?_
              refine v_iload_n (i := 1) dX8_size_88 rfl rfl ?_
              refine vn_if_ne (tgt := 102) dX8_size_89 rfl (by omega) (fun c89 => ?_) (fun c89 => ?_)
              · exact absurd c46 c89
              · refine v_aload_n (i := 0) dX8_size_92 rfl rfl ?_
                refine mg_holds rfl dX8_size_93 ?_
                refine v_iconst (v := nI 0) dX8_size_96 k_iconst_0 ?_
                refine v_iload_n (i := 2) dX8_size_97 rfl rfl ?_
                refine ms_holds hap (by decide) dX8_size_98 ?_
                refine v_goto (tgt := 109) dX8_size_99 rfl ?_
                refine v_aload_n (i := 0) dX8_size_109 rfl rfl ?_
                refine v_iconst (v := nI 0) dX8_size_110 k_iconst_0 ?_
                refine mp_isFirst rfl (by decide) dX8_size_111 ?_
                have ev : vv = vH := by rw [← hvv, if_pos c46]
                have hsk2 : SKn (sA (sN σ 0 0) 81 j (vH + 1)) A.1 := by
                  show (va_up (gA σ 81) j (vH + 1) 0 = 0 ∨ va_up (gA σ 81) j (vH + 1) 0 = holdT A.1 + 1) ∧ (va_up (gA σ 81) j (vH + 1) 1 = 0 ∨ va_up (gA σ 81) j (vH + 1) 1 = loadT A.1 + 1)
                  rw [← hvH, ← hvL]
                  rw [show j = 0 from c46, va_up_e, va_up_n (by decide)]
                  exact ⟨Or.inr rfl, hSK.2⟩
                exact L114 _ _ (MG.size (j := 9) (by decide) (σ := sN σ 0 0) hG t1 t2 t3 t4 (i := j) (v := vH + 1) hsk2) (t1.1 0 (by decide) (by decide) (by decide) (by decide) (by decide)) (by show va_up (gA σ2 81) j _ j = _; rw [va_up_e, ev])
      · exact absurd c31 (by decide)
  · refine v_iload_n (i := 1) dX8_size_10 rfl rfl ?_
    refine v_iconst (v := nI 1) dX8_size_11 k_iconst_1 ?_
    refine vn_icmp_ne (tgt := 26) dX8_size_12 rfl (by omega) (by decide) (fun c12 => ?_) (fun c12 => ?_)
    · omega
    · refine v_aload_n (i := 0) dX8_size_15 rfl rfl ?_
      refine mg_boats rfl dX8_size_16 ?_
      refine vn_if_le (tgt := 26) dX8_size_19 rfl (show gN σ 3 < _ by omega) (fun c19 => ?_) (fun c19 => ?_)
      · exact absurd (show gN σ 3 = 0 from c19) (by omega)
      · refine v_iconst (v := nI 1) dX8_size_22 k_iconst_1 ?_
        refine v_goto (tgt := 27) dX8_size_23 rfl ?_
        refine v_iconst (v := nI 1) dX8_size_27 k_iconst_1 ?_
        refine v_callVi (cM_right1 hap σ) (lw_V q2197 q2199 qs56 q136 q2200) iX8_right rfl KX8 MH_m rfl rfl (by decide) (by decide) (Nat.le_of_ble_eq_true rfl) dX8_size_28 ?_
        refine vn_if_ne (tgt := 36) dX8_size_31 rfl (by decide) (fun c31 => ?_) (fun c31 => ?_)
        · have hSK : (gA σ 81 0 = 0 ∨ gA σ 81 0 = vH + 1) ∧ (gA σ 81 1 = 0 ∨ gA σ 81 1 = vL + 1) := by rw [hvH, hvL]; exact hG.2.2.2.2.2.1
          have hSKj : gA σ 81 j = 0 ∨ gA σ 81 j = vv + 1 := by
            rw [← hvv]
            rcases (show j = 0 ∨ j = 1 by omega) with rfl | rfl
            · exact hSK.1
            · exact hSK.2
          refine v_aload_n (i := 0) dX8_size_36 rfl rfl ?_
          refine mg_sizeKnown rfl dX8_size_37 ?_
          refine v_iload_n (i := 1) dX8_size_40 rfl rfl ?_
          refine ml_sizeKnown hap (by omega) dX8_size_41 ?_
          refine vn_if_ne (tgt := 114) dX8_size_42 rfl (show gA σ 81 j < _ by omega) (fun c42 => ?_) (fun c42 => ?_)
          · exact L114 (sN σ 0 0) _ hG rfl (hSKj.resolve_left c42)
          · refine v_iload_n (i := 1) dX8_size_45 rfl rfl ?_
            refine vn_if_ne (tgt := 58) dX8_size_46 rfl (by omega) (fun c46 => ?_) (fun c46 => ?_)
            · refine v_aload_n (i := 0) dX8_size_58 rfl rfl ?_
              refine mg_loads rfl dX8_size_59 ?_
              refine v_iconst (v := nI 0) dX8_size_62 k_iconst_0 ?_
              refine ml_loads hap (by decide) dX8_size_63 ?_
              refine v_istore_n (i := 2) dX8_size_64 rfl (by decide) rfl ?_
              refine v_aload_n (i := 0) dX8_size_65 rfl rfl ?_
              refine mg_sizeKnown rfl dX8_size_66 ?_
              refine v_iload_n (i := 1) dX8_size_69 rfl rfl ?_
              refine v_iconst (v := nI 3) dX8_size_70 k_iconst_3 ?_
              refine v_iload_n (i := 1) dX8_size_71 rfl rfl ?_
              refine vn_if_ne (tgt := 82) dX8_size_72 rfl (by omega) (fun c72 => ?_) (fun c72 => ?_)
              · refine v_aload_n (i := 0) dX8_size_82 rfl rfl ?_
                refine v_callVI (kc' := 0) (ks' := 0) (cM_leastLoad hap (sN σ 0 0) A.1 hG.1.wx hG.1.2.2.2.2.1) (lw_V q2506 q2508 qs109 q136 q2509) iX8_leastLoad rfl KX8 MH_m rfl rfl (by decide) (by decide) (Nat.le_of_ble_eq_true rfl) (by decide) (by decide) dX8_size_83 (fun x_ η' h => ?_)
                obtain ⟨σ2, rfl, t1, t2, t3, t4, t5⟩ := h
                rw [← hvL] at t5
                subst t5
                refine v_iadd dX8_size_86 ?_
                refine v_top (pI_3 _) ?_
                refine ms_sizeKnown hap (by omega) dX8_size_87 ?_
                refine v_iload_n (i := 1) dX8_size_88 rfl rfl ?_
                refine vn_if_ne (tgt := 102) dX8_size_89 rfl (by omega) (fun c89 => ?_) (fun c89 => ?_)
                · refine v_aload_n (i := 0) dX8_size_102 rfl rfl ?_
                  refine mg_loads rfl dX8_size_103 ?_
                  refine v_iconst (v := nI 0) dX8_size_106 k_iconst_0 ?_
                  refine v_iload_n (i := 2) dX8_size_107 rfl rfl ?_
                  refine ms_loads hap (by decide) dX8_size_108 ?_
                  refine v_aload_n (i := 0) dX8_size_109 rfl rfl ?_
                  refine v_iconst (v := nI 0) dX8_size_110 k_iconst_0 ?_
                  refine mp_isFirst rfl (by decide) dX8_size_111 ?_
                  have ev : vv = vL := by rw [← hvv, if_neg c46]
                  have hsk2 : SKn (sA (sN σ 0 0) 81 j (vL + 1)) A.1 := by
                    show (va_up (gA σ 81) j (vL + 1) 0 = 0 ∨ va_up (gA σ 81) j (vL + 1) 0 = holdT A.1 + 1) ∧ (va_up (gA σ 81) j (vL + 1) 1 = 0 ∨ va_up (gA σ 81) j (vL + 1) 1 = loadT A.1 + 1)
                    rw [← hvH, ← hvL]
                    rw [show j = 1 by omega, va_up_e, va_up_n (by decide)]
                    exact ⟨hSK.1, Or.inr rfl⟩
                  exact L114 _ _ (MG.size (j := 10) (by decide) (σ := sN σ 0 0) hG t1 t2 t3 t4 (i := j) (v := vL + 1) hsk2) (t1.1 0 (by decide) (by decide) (by decide) (by decide) (by decide)) (by show va_up (gA σ2 81) j _ j = _; rw [va_up_e, ev])
                · exact absurd c89 c46
              · exact absurd c72 c46
            · refine v_aload_n (i := 0) dX8_size_49 rfl rfl ?_
              refine mg_holds rfl dX8_size_50 ?_
              refine v_iconst (v := nI 0) dX8_size_53 k_iconst_0 ?_
              refine ml_holds hap (by decide) dX8_size_54 ?_
              refine v_goto (tgt := 64) dX8_size_55 rfl ?_
              refine v_istore_n (i := 2) dX8_size_64 rfl (by decide) rfl ?_
              refine v_aload_n (i := 0) dX8_size_65 rfl rfl ?_
              refine mg_sizeKnown rfl dX8_size_66 ?_
              refine v_iload_n (i := 1) dX8_size_69 rfl rfl ?_
              refine v_iconst (v := nI 3) dX8_size_70 k_iconst_3 ?_
              refine v_iload_n (i := 1) dX8_size_71 rfl rfl ?_
              refine vn_if_ne (tgt := 82) dX8_size_72 rfl (by omega) (fun c72 => ?_) (fun c72 => ?_)
              · exact absurd c46 c72
              · refine v_aload_n (i := 0) dX8_size_75 rfl rfl ?_
                refine v_callVI (kc' := 0) (ks' := 0) (cM_leastHeld hap (sN σ 0 0) A.1 hG.1.wx hG.1.2.2.2.2.1) (lw_V q2502 q2504 qs108 q136 q2505) iX8_leastHeld rfl KX8 MH_m rfl rfl (by decide) (by decide) (Nat.le_of_ble_eq_true rfl) (by decide) (by decide) dX8_size_76 (fun x_ η' h => ?_)
                obtain ⟨σ2, rfl, t1, t2, t3, t4, t5⟩ := h
                rw [← hvH] at t5
                subst t5
                refine v_goto (tgt := 86) dX8_size_79 rfl ?_
                refine v_iadd dX8_size_86 ?_
                refine v_top (pI_3 _) ?_
                refine ms_sizeKnown hap (by omega) dX8_size_87 ?_
                refine v_iload_n (i := 1) dX8_size_88 rfl rfl ?_
                refine vn_if_ne (tgt := 102) dX8_size_89 rfl (by omega) (fun c89 => ?_) (fun c89 => ?_)
                · exact absurd c46 c89
                · refine v_aload_n (i := 0) dX8_size_92 rfl rfl ?_
                  refine mg_holds rfl dX8_size_93 ?_
                  refine v_iconst (v := nI 0) dX8_size_96 k_iconst_0 ?_
                  refine v_iload_n (i := 2) dX8_size_97 rfl rfl ?_
                  refine ms_holds hap (by decide) dX8_size_98 ?_
                  refine v_goto (tgt := 109) dX8_size_99 rfl ?_
                  refine v_aload_n (i := 0) dX8_size_109 rfl rfl ?_
                  refine v_iconst (v := nI 0) dX8_size_110 k_iconst_0 ?_
                  refine mp_isFirst rfl (by decide) dX8_size_111 ?_
                  have ev : vv = vH := by rw [← hvv, if_pos c46]
                  have hsk2 : SKn (sA (sN σ 0 0) 81 j (vH + 1)) A.1 := by
                    show (va_up (gA σ 81) j (vH + 1) 0 = 0 ∨ va_up (gA σ 81) j (vH + 1) 0 = holdT A.1 + 1) ∧ (va_up (gA σ 81) j (vH + 1) 1 = 0 ∨ va_up (gA σ 81) j (vH + 1) 1 = loadT A.1 + 1)
                    rw [← hvH, ← hvL]
                    rw [show j = 0 from c46, va_up_e, va_up_n (by decide)]
                    exact ⟨Or.inr rfl, hSK.2⟩
                  exact L114 _ _ (MG.size (j := 9) (by decide) (σ := sN σ 0 0) hG t1 t2 t3 t4 (i := j) (v := vH + 1) hsk2) (t1.1 0 (by decide) (by decide) (by decide) (by decide) (by decide)) (by show va_up (gA σ2 81) j _ j = _; rw [va_up_e, ev])
        · exact absurd c31 (by decide)
