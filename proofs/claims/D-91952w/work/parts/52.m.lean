/-! ===== the model's world while it explores ===== -/
def WX (σ : MS) (τ : Td) (hd ld : Nat → Nat) (w : Nat) : Prop := TB τ ∧ (gN σ 1 = tN τ 29 ∧ gN σ 2 = tN τ 30 ∧ gN σ 3 = tN τ 31 ∧ gN σ 4 = tN τ 32 ∧ gN σ 5 = tN τ 33 ∧ gN σ 13 = tN τ 37) ∧ (∀ i, i < tN τ 30 → gA σ 6 i = tA τ 38 i ∧ gA σ 7 i = tA τ 39 i) ∧ (∀ i, i < tN τ 31 → gA σ 9 i = hd i ∧ gA σ 10 i = ld i ∧ gA σ 11 i = tA τ 43 i ∧ hd i ≤ 8 ∧ ld i ≤ 999) ∧ (∀ i, i < 16 → gA σ 12 i = tA τ 48 i) ∧ BarO σ (bfT τ) ∧ Cch (bfT τ) (gA σ 50) ∧ gN σ 52 = w ∧ w ≤ 12
theorem WX.of {σ : MS} {τ : Td} (h : MI σ τ) (hC : Cch (bfT τ) (gA σ 50)) (hw : gN σ 52 = 0) : WX σ τ (tA τ 41) (tA τ 42) 0 := ⟨h.1, h.2.1, fun i hi => ⟨(h.2.2.1 i hi).1, (h.2.2.1 i hi).2.1⟩, fun i hi => ⟨(h.2.2.2.1 i hi).1, (h.2.2.2.1 i hi).2.1, (h.2.2.2.1 i hi).2.2, (h.1.2.2.1 i hi).2.1, (h.1.2.2.1 i hi).2.2.1⟩, h.2.2.2.2.1, h.2.2.2.2.2, hC, hw, by decide⟩
theorem stN_congr {f g : Nat → Nat} : ∀ {n : Nat}, (∀ i, i < n → f i = g i) → stN f n = stN g n
  | 0, _ => rfl
  | n + 1, h => by
    unfold stN
    rw [stN_congr (fun i hi => h i (by omega)), h n (by omega)]
theorem WX.st {σ : MS} {τ : Td} {hd ld : Nat → Nat} {w : Nat} (h : WX σ τ hd ld w) : st0 (gA σ 11) (gN σ 3) (gN σ 5) = stT τ := by
  unfold stT st0
  rw [h.2.1.2.2.1, h.2.1.2.2.2.2.1, stN_congr (fun i hi => (h.2.2.2.1 i hi).2.2.1)]
theorem stT_lt {τ : Td} (h : TB τ) : stT τ < 4194304 := st0_lt h.1.2.2.2.1 (fun b hb => by have := (h.2.2.1 b hb).2.2.2; have := h.1; omega) (by have := h.1; omega)
theorem WX.b {σ : MS} {τ : Td} {hd ld : Nat → Nat} {w : Nat} (h : WX σ τ hd ld w) : gN σ 1 ≤ 4 ∧ gN σ 2 ≤ 8 ∧ gN σ 3 ≤ 2 ∧ gN σ 5 ≤ 4 ∧ gN σ 52 ≤ 12 ∧ 2 ≤ gN σ 1 ∧ gN σ 4 ≤ 12 ∧ gN σ 13 < 2 := by
  have := h.1.1
  rw [h.2.1.1, h.2.1.2.1, h.2.1.2.2.1, h.2.1.2.2.2.1, h.2.1.2.2.2.2.1, h.2.1.2.2.2.2.2, h.2.2.2.2.2.2.2.1]
  have := h.2.2.2.2.2.2.2.2
  omega
theorem WX.mn {σ : MS} {τ : Td} {hd ld : Nat → Nat} {w : Nat} (h : WX σ τ hd ld w) : ∀ t, t < gN σ 2 → gA σ 7 t < 2147483648 := fun t ht => by
  have ht : t < tN τ 30 := by rw [← h.2.1.2.1]; exact ht
  rw [(h.2.2.1 t ht).2]
  have := (h.1.2.1 t ht).2.1
  omega

theorem cX_barsShores {G : Gl} {m : Nat} {ad : Nat → Nat} {η0 : AH} (hap : Mp m ad) (σ : MS) (τ : Td) (hd ld : Nat → Nat) (w : Nat) (hW : WX σ τ hd ld w) (x gone gb lg : Nat) (hx : x < 2147483648) (hgb : gb < 2147483648) (hlg : lg < 2) : Ct G yX8_barsShores cX8_barsShores 9 (some .int) 5 0 0 [.ref m, .int (nI x), .int (nI gone), .int (nI gb), .int (nI lg)] (MH m ad (σ) η0) (ri fun r η => r = nI (bsT τ w x gone gb lg) ∧ ∃ c p, Cch (bfT τ) c ∧ η = MH m ad (sCP σ c p) η0) := by
  have h := cM_barsShores (G := G) (η0 := η0) hap σ (bfT τ) hW.2.2.2.2.2.1 hW.2.2.2.2.2.2.1 hW.b.2.2.1 hW.b.2.2.2.1 hW.b.2.2.2.2.1 x gone gb lg hx hgb hlg
  rw [hW.2.1.1, hW.2.1.2.1, hW.2.1.2.2.1, hW.2.1.2.2.2.2.1, hW.2.2.2.2.2.2.2.1] at h
  exact h
theorem cX_aboard {G : Gl} {m : Nat} {ad : Nat → Nat} {η0 : AH} (hap : Mp m ad) (σ : MS) (τ : Td) (hd ld : Nat → Nat) (w : Nat) (hW : WX σ τ hd ld w) (s : Nat) (hs : s < 256) : Ct G yX8_aboard cX8_aboard 2 (some .int) 5 0 0 [.ref m, .int (nI s)] (MH m ad (σ) η0) (ri fun r η => r = nI (abT τ w s) ∧ ∃ c p, Cch (bfT τ) c ∧ η = MH m ad (sCP σ c p) η0) := by
  have h := cM_aboard (G := G) (η0 := η0) hap σ (bfT τ) hW.2.2.2.2.2.1 hW.2.2.2.2.2.2.1 hW.b.2.2.1 hW.b.2.2.2.1 hW.b.2.2.2.2.1 s hs
  rw [hW.2.1.1, hW.2.1.2.2.2.2.1, hW.2.2.2.2.2.2.2.1] at h
  exact h
theorem cX_rowers {G : Gl} {m : Nat} {ad : Nat → Nat} {η0 : AH} (hap : Mp m ad) (σ : MS) (τ : Td) (hd ld : Nat → Nat) (w : Nat) (hW : WX σ τ hd ld w) (s : Nat) (hs : s < 2147483648) : Ct G yX8_rowers cX8_rowers 4 (some .int) 1 0 0 [.ref m, .int (nI s)] (MH m ad (σ) η0) (re (some (.int (nI (rowN (tA τ 39) s (tN τ 30))))) (MH m ad σ η0)) := by
  have h := cM_rowers (G := G) (η0 := η0) hap σ s hs hW.b.2.1 hW.mn
  rw [hW.2.1.2.1, rowN_congr (fun i hi => (hW.2.2.1 i hi).2)] at h
  exact h
theorem cX_sumOf {G : Gl} {m : Nat} {ad : Nat → Nat} {η0 : AH} (hap : Mp m ad) (σ : MS) (τ : Td) (hd ld : Nat → Nat) (w : Nat) (hW : WX σ τ hd ld w) (s : Nat) (hs : s < 2147483648) : Ct G yX8_sumOf cX8_sumOf 5 (some .int) 1 0 0 [.ref m, .int (nI s), .ref (ad 6)] (MH m ad (σ) η0) (re (some (.int (nI (sumN (tA τ 38) s (tN τ 30))))) (MH m ad σ η0)) := by
  have h := cM_sumOf (G := G) (η0 := η0) hap σ s hs hW.b.2.1
  rw [hW.2.1.2.1, sumN_congr (fun i hi => (hW.2.2.1 i hi).1)] at h
  exact h
theorem cX_minutesOf {G : Gl} {m : Nat} {ad : Nat → Nat} {η0 : AH} (hap : Mp m ad) (σ : MS) (τ : Td) (hd ld : Nat → Nat) (w : Nat) (hW : WX σ τ hd ld w) (s : Nat) (hs : s < 2147483648) : Ct G yX8_minutesOf cX8_minutesOf 4 (some .int) 1 0 0 [.ref m, .int (nI s)] (MH m ad (σ) η0) (re (some (.int (nI (mxN (tA τ 39) s (tN τ 30))))) (MH m ad σ η0)) := by
  have h := cM_minutesOf (G := G) (η0 := η0) hap σ s hs hW.b.2.1 hW.mn
  rw [hW.2.1.2.1, mxN_congr (fun i hi => (hW.2.2.1 i hi).2)] at h
  exact h
theorem cX_all {G : Gl} {m : Nat} {ad : Nat → Nat} {η0 : AH} (hap : Mp m ad) (σ : MS) (τ : Td) (hd ld : Nat → Nat) (w : Nat) (hW : WX σ τ hd ld w) : Ct G yX8_all cX8_all 1 (some .int) 1 0 0 [.ref m] (MH m ad (σ) η0) (re (some (.int (nI (2 ^ tN τ 30 - 1)))) (MH m ad σ η0)) := by
  have h := cM_all (G := G) (η0 := η0) hap σ hW.b.2.1
  rw [hW.2.1.2.1] at h
  exact h
theorem cX_setAt {G : Gl} {m : Nat} {ad : Nat → Nat} {η0 : AH} (hap : Mp m ad) (σ : MS) (τ : Td) (hd ld : Nat → Nat) (w : Nat) (hW : WX σ τ hd ld w) (x s : Nat) (hx : x < 2147483648) (hs : s < 2147483648) : Ct G yX8_setAt cX8_setAt 5 (some .int) 1 0 0 [.ref m, .int (nI x), .int (nI s)] (MH m ad (σ) η0) (re (some (.int (nI (setN x s (tN τ 30))))) (MH m ad σ η0)) := by
  have h := cM_setAt (G := G) (η0 := η0) hap σ x s hx hs hW.b.2.1
  rw [hW.2.1.2.1] at h
  exact h
theorem cX_isGoal {G : Gl} {m : Nat} {ad : Nat → Nat} {η0 : AH} (hap : Mp m ad) (σ : MS) (τ : Td) (hd ld : Nat → Nat) (w : Nat) (hW : WX σ τ hd ld w) (x : Nat) (hx : x < 2147483648) : Ct G yX8_isGoal cX8_isGoal 2 (some .boolean) 2 0 0 [.ref m, .int (nI x)] (MH m ad (σ) η0) (re (some (.int (nI (if goalT τ x then 1 else 0)))) (MH m ad σ η0)) := by
  have h := cM_isGoal (G := G) (η0 := η0) hap σ x hx hW.b.2.1 (by have := hW.b; omega) hW.b.1
  rw [hW.2.1.1, hW.2.1.2.1] at h
  exact h
theorem cX_isWater {G : Gl} {m : Nat} {ad : Nat → Nat} {η0 : AH} (hap : Mp m ad) (σ : MS) (τ : Td) (hd ld : Nat → Nat) (w : Nat) (hW : WX σ τ hd ld w) (a b : Nat) (ha : a < 4) (hb : b < 4) : Ct G yX8_isWater cX8_isWater 3 (some .boolean) 1 0 0 [.ref m, .int (nI a), .int (nI b)] (MH m ad (σ) η0) (re (some (.int (nI (flT τ a b)))) (MH m ad σ η0)) := by
  have hz : gA σ 12 (4 * a + b) < 2 := by rw [hW.2.2.2.2.1 _ (by omega)]; exact hW.1.2.2.2.1 _ (by omega)
  have h := cM_isWater (G := G) (η0 := η0) hap σ a b ha hb hW.b.2.2.2.2.2.2.2 hz
  rw [hW.2.1.2.2.2.2.2, hW.2.2.2.2.1 _ (by omega)] at h
  exact h
theorem cX_start {G : Gl} {m : Nat} {ad : Nat → Nat} {η0 : AH} (hap : Mp m ad) (σ : MS) (τ : Td) (hd ld : Nat → Nat) (w : Nat) (hW : WX σ τ hd ld w) : Ct G yX8_start cX8_start 3 (some .int) 1 0 0 [.ref m] (MH m ad (σ) η0) (re (some (.int (nI (stT τ)))) (MH m ad σ η0)) := by
  have h := cM_start (G := G) (η0 := η0) hap σ hW.b.2.2.1 hW.b.2.2.2.1
  rw [hW.st] at h
  exact h
theorem cX_behind {G : Gl} {m : Nat} {ad : Nat → Nat} {η0 : AH} (hap : Mp m ad) (σ : MS) (τ : Td) (hd ld : Nat → Nat) (w : Nat) (hW : WX σ τ hd ld w) (x b to s : Nat) (hb : b < 2) (hs : s < 2147483648) : Ct G yX8_behind cX8_behind 7 (some .int) 1 0 0 [.ref m, .int (nI x), .int (nI b), .int (nI to), .int (nI s)] (MH m ad (σ) η0) (re (some (.int (nI (bhT τ x b to s)))) (MH m ad σ η0)) := by
  have h := cM_behind (G := G) (η0 := η0) hap σ x b to s hb hs hW.b.2.1 hW.b.2.2.2.1
  rw [hW.2.1.2.1, hW.2.1.2.2.2.2.1] at h
  exact h
theorem cM_numberOf {G : Gl} {m : Nat} {ad : Nat → Nat} {η0 : AH} (hap : Mp m ad) (σ : MS) (x : Nat) (hx : x < 4194304) (hS : SLt hsM (gA σ 60) (gA σ 56) (gN σ 54)) (hst : ∀ j, j < gN σ 54 → gA σ 56 j < 2147483648) : Ct G yX8_numberOf cX8_numberOf 3 (some .int) 1 0 0 [.ref m, .int (nI x)] (MH m ad σ η0) (ri fun r η => (ixN (gA σ 56) x (gN σ 54) < gN σ 54 → r = nI (ixN (gA σ 56) x (gN σ 54)) ∧ η = MH m ad σ η0) ∧ (ixN (gA σ 56) x (gN σ 54) = gN σ 54 → gN σ 54 = 2000 → r = -1 ∧ η = MH m ad σ η0) ∧ (ixN (gA σ 56) x (gN σ 54) = gN σ 54 → gN σ 54 < 2000 → r = nI (gN σ 54) ∧ ∃ q, q < 8192 ∧ SLt hsM (va_up (gA σ 60) q (gN σ 54 + 1)) (va_up (gA σ 56) (gN σ 54) x) (gN σ 54 + 1) ∧ η = MH m ad (sN (sA (sA σ 56 (gN σ 54) x) 60 q (gN σ 54 + 1)) 54 (gN σ 54 + 1)) η0)) := by
  refine Ct.start rfl rfl (Nat.le_of_ble_eq_true rfl) (fun Γ => ?_)
  have hn2 := hS.1
  have hle := ixN_le (gA σ 56) x (gN σ 54)
  have L : ∀ (n d : Nat), 8192 - d = n → (∀ e, e < d → gA σ 60 ((hsM x + e) % 8192) ≠ 0 ∧ gA σ 56 (gA σ 60 ((hsM x + e) % 8192) - 1) ≠ x) → V G Γ yX8_numberOf cX8_numberOf 3 (some .int) [] 1 (ri fun r η => (ixN (gA σ 56) x (gN σ 54) < gN σ 54 → r = nI (ixN (gA σ 56) x (gN σ 54)) ∧ η = MH m ad σ η0) ∧ (ixN (gA σ 56) x (gN σ 54) = gN σ 54 → gN σ 54 = 2000 → r = -1 ∧ η = MH m ad σ η0) ∧ (ixN (gA σ 56) x (gN σ 54) = gN σ 54 → gN σ 54 < 2000 → r = nI (gN σ 54) ∧ ∃ q, q < 8192 ∧ SLt hsM (va_up (gA σ 60) q (gN σ 54 + 1)) (va_up (gA σ 56) (gN σ 54) x) (gN σ 54 + 1) ∧ η = MH m ad (sN (sA (sA σ 56 (gN σ 54) x) 60 q (gN σ 54 + 1)) 54 (gN σ 54 + 1)) η0)) 0 0 (MH m ad σ η0) 14 [some (.ref m), some (.int (nI x)), some (.int (nI ((hsM x + d) % 8192)))] [] := by
    intro n
    induction n using Nat.strongRecOn with
    | _ n ih =>
      intro d hd hp
      have hd2 := hS.room (fun e he => (hp e he).1)
      have hk : ((hsM x + d) % 8192) < 8192 := Nat.mod_lt _ (by decide)
      have hsl := hS.2.1 _ hk
      refine v_aload_n (i := 0) dX8_numberOf_14 rfl rfl ?_
      refine mg_slot rfl dX8_numberOf_15 ?_
      refine v_iload_n (i := 2) dX8_numberOf_18 rfl rfl ?_
      refine ml_slot hap (by omega) dX8_numberOf_19 ?_
      refine vn_if_eq (tgt := 51) dX8_numberOf_20 rfl (show gA σ 60 ((hsM x + d) % 8192) < _ by omega) (fun c20 => ?_) (fun c20 => ?_)
      · have c20 : gA σ 60 ((hsM x + d) % 8192) = 0 := c20
        refine v_aload_n (i := 0) dX8_numberOf_51 rfl rfl ?_
        refine mg_slot rfl dX8_numberOf_52 ?_
        refine v_iload_n (i := 2) dX8_numberOf_55 rfl rfl ?_
        refine ml_slot hap (by omega) dX8_numberOf_56 ?_
        refine vn_if_eq (tgt := 69) dX8_numberOf_57 rfl (show gA σ 60 ((hsM x + d) % 8192) < _ by omega) (fun c57 => ?_) (fun c57 => ?_)
        · have c57 : gA σ 60 ((hsM x + d) % 8192) = 0 := c57
          have hfree := hS.free hd2 c20 hp
          have eix := ixN_no hfree
          refine v_aload_n (i := 0) dX8_numberOf_69 rfl rfl ?_
          refine mg_states rfl dX8_numberOf_70 ?_
          refine v_sipush (v := nI 2000) dX8_numberOf_73 k_sipush_2000 ?_
          refine vn_icmp_ne (tgt := 81) dX8_numberOf_76 rfl (show gN σ 54 < _ by omega) (by decide) (fun c76 => ?_) (fun c76 => ?_)
          · have c76 : ¬ gN σ 54 = 2000 := c76
            refine v_aload_n (i := 0) dX8_numberOf_81 rfl rfl ?_
            refine mg_stateOf rfl dX8_numberOf_82 ?_
            refine v_aload_n (i := 0) dX8_numberOf_85 rfl rfl ?_
            refine mg_states rfl dX8_numberOf_86 ?_
            refine v_iload_n (i := 1) dX8_numberOf_89 rfl rfl ?_
            refine ms_stateOf hap (show gN σ 54 < 2001 by omega) dX8_numberOf_90 ?_
            refine v_aload_n (i := 0) dX8_numberOf_91 rfl rfl ?_
            refine mg_slot rfl dX8_numberOf_92 ?_
            refine v_iload_n (i := 2) dX8_numberOf_95 rfl rfl ?_
            refine v_aload_n (i := 0) dX8_numberOf_96 rfl rfl ?_
            refine mg_states rfl dX8_numberOf_97 ?_
            refine v_iconst (v := nI 1) dX8_numberOf_100 k_iconst_1 ?_
            refine vn_iadd dX8_numberOf_101 ?_
            refine ms_slot hap (by omega) dX8_numberOf_102 ?_
            refine v_aload_n (i := 0) dX8_numberOf_103 rfl rfl ?_
            refine v_dup dX8_numberOf_104 rfl ?_
            refine mg_states rfl dX8_numberOf_105 ?_
            refine v_iconst (v := nI 1) dX8_numberOf_108 k_iconst_1 ?_
            refine vn_iadd dX8_numberOf_109 ?_
            refine mp_states rfl dX8_numberOf_110 ?_
            refine v_aload_n (i := 0) dX8_numberOf_113 rfl rfl ?_
            refine mg_states rfl dX8_numberOf_114 ?_
            refine v_iconst (v := nI 1) dX8_numberOf_117 k_iconst_1 ?_
            refine vn_isub (show 1 ≤ gN σ 54 + 1 by omega) dX8_numberOf_118 ?_
            exact v_iret rfl dX8_numberOf_119 ⟨_, rfl, fun q => (by omega), fun _ q => absurd q c76, fun _ _ => ⟨congrArg nI (show gN σ 54 + 1 - 1 = gN σ 54 by omega), ((hsM x + d) % 8192), hk, hS.add (by omega) hd2 c20 hp, rfl⟩⟩
          · have c76 : gN σ 54 = 2000 := c76
            refine v_iconst (v := -1) dX8_numberOf_79 k_iconst_m1 ?_
            exact v_iret rfl dX8_numberOf_80 ⟨_, rfl, fun q => (by omega), fun _ _ => ⟨rfl, rfl⟩, fun _ q => (by omega)⟩
        · exact absurd c20 c57
      · have c20 : ¬ gA σ 60 ((hsM x + d) % 8192) = 0 := c20
        have hs1 := hst (gA σ 60 ((hsM x + d) % 8192) - 1) (by omega)
        refine v_aload_n (i := 0) dX8_numberOf_23 rfl rfl ?_
        refine mg_stateOf rfl dX8_numberOf_24 ?_
        refine v_aload_n (i := 0) dX8_numberOf_27 rfl rfl ?_
        refine mg_slot rfl dX8_numberOf_28 ?_
        refine v_iload_n (i := 2) dX8_numberOf_31 rfl rfl ?_
        refine ml_slot hap (by omega) dX8_numberOf_32 ?_
        refine v_iconst (v := nI 1) dX8_numberOf_33 k_iconst_1 ?_
        refine vn_isub (show 1 ≤ gA σ 60 ((hsM x + d) % 8192) by omega) dX8_numberOf_34 ?_
        refine ml_stateOf hap (show gA σ 60 ((hsM x + d) % 8192) - 1 < 2001 by omega) dX8_numberOf_35 ?_
        refine v_iload_n (i := 1) dX8_numberOf_36 rfl rfl ?_
        refine vn_icmp_eq (tgt := 51) dX8_numberOf_37 rfl (show gA σ 56 (gA σ 60 ((hsM x + d) % 8192) - 1) < _ by omega) (by omega) (fun c37 => ?_) (fun c37 => ?_)
        · have c37 : gA σ 56 (gA σ 60 ((hsM x + d) % 8192) - 1) = x := c37
          refine v_aload_n (i := 0) dX8_numberOf_51 rfl rfl ?_
          refine mg_slot rfl dX8_numberOf_52 ?_
          refine v_iload_n (i := 2) dX8_numberOf_55 rfl rfl ?_
          refine ml_slot hap (by omega) dX8_numberOf_56 ?_
          refine vn_if_eq (tgt := 69) dX8_numberOf_57 rfl (show gA σ 60 ((hsM x + d) % 8192) < _ by omega) (fun c57 => ?_) (fun c57 => ?_)
          · exact absurd c57 c20
          · refine v_aload_n (i := 0) dX8_numberOf_60 rfl rfl ?_
            refine mg_slot rfl dX8_numberOf_61 ?_
            refine v_iload_n (i := 2) dX8_numberOf_64 rfl rfl ?_
            refine ml_slot hap (by omega) dX8_numberOf_65 ?_
            refine v_iconst (v := nI 1) dX8_numberOf_66 k_iconst_1 ?_
            refine vn_isub (show 1 ≤ gA σ 60 ((hsM x + d) % 8192) by omega) dX8_numberOf_67 ?_
            exact v_iret rfl dX8_numberOf_68 (by
                  have e : ixN (gA σ 56) x (gN σ 54) = gA σ 60 ((hsM x + d) % 8192) - 1 := ixN_of (by omega) c37 hS.2.2.2.2
                  exact ⟨_, rfl, fun _ => ⟨by rw [e], rfl⟩, fun q => (by rw [e] at q; omega), fun q => (by rw [e] at q; omega)⟩)
        · have c37 : ¬ gA σ 56 (gA σ 60 ((hsM x + d) % 8192) - 1) = x := c37
          refine v_iload_n (i := 2) dX8_numberOf_40 rfl rfl ?_
          refine v_iconst (v := nI 1) dX8_numberOf_41 k_iconst_1 ?_
          refine vn_iadd dX8_numberOf_42 ?_
          refine v_sipush (v := nI 8191) dX8_numberOf_43 k_sipush_8191 ?_
          refine vn_and8191 dX8_numberOf_46 ?_
          refine v_istore_n (i := 2) dX8_numberOf_47 rfl (by decide) rfl ?_
          refine v_goto (tgt := 14) dX8_numberOf_48 rfl ?_
          rw [show (((hsM x + d) % 8192) + 1) % 8192 = (hsM x + (d + 1)) % 8192 by omega]
          exact ih _ (by omega) (d + 1) rfl (fun e he => by by_cases q : e = d; (rw [q]; exact ⟨c20, c37⟩); exact hp e (by omega))
  refine v_iload_n (i := 1) dX8_numberOf_0 rfl rfl ?_
  refine v_iload_n (i := 1) dX8_numberOf_1 rfl rfl ?_
  refine v_bipush (v := nI 9) dX8_numberOf_2 k_bipush_9 ?_
  refine vn_ishr (by omega) (by decide) dX8_numberOf_4 ?_
  refine vn_ixor dX8_numberOf_5 ?_
  refine v_bipush (v := nI 31) dX8_numberOf_6 k_bipush_31 ?_
  refine vn_imul dX8_numberOf_8 ?_
  refine v_sipush (v := nI 8191) dX8_numberOf_9 k_sipush_8191 ?_
  refine vn_and8191 dX8_numberOf_12 ?_
  refine v_istore_n (i := 2) dX8_numberOf_13 rfl (by decide) rfl ?_
  have L0 := L 8192 0 rfl (fun e he => absurd he (by omega))
  rw [show (hsM x + 0) % 8192 = hsM x by unfold hsM; omega] at L0
  exact L0
def SMa (σ : MS) (f g : Nat → Nat) : MS := stA (stA σ 68 f) 69 g
theorem SMa_68 (σ : MS) (f g : Nat → Nat) (i v : Nat) : sA (SMa σ f g) 68 i v = SMa σ (va_up f i v) g := by
  refine MS_ext (fun j => rfl) rfl rfl (fun j => ?_) rfl
  unfold SMa
  by_cases h : j = 68
  · subst h; rfl
  · rw [gA_sA, if_neg h, gA_stA, gA_stA, gA_stA, gA_stA, if_neg h, if_neg h]
theorem SMa_69 (σ : MS) (f g : Nat → Nat) (i v : Nat) : sA (SMa σ f g) 69 i v = SMa σ f (va_up g i v) := sA_stA (stA σ 68 f) 69 i v g
theorem SMa_self (σ : MS) : SMa σ (gA σ 68) (gA σ 69) = σ := by
  unfold SMa
  rw [stA_self]
  exact stA_self σ 69
theorem len_filter_le (p : Nat → Bool) : ∀ l : List Nat, (l.filter p).length ≤ l.length
  | [] => Nat.le_refl _
  | a :: l => by
    rw [List.filter_cons]
    have := len_filter_le p l
    split
    · simp; omega
    · simp; omega
theorem cM_sets {G : Gl} {m : Nat} {ad : Nat → Nat} {η0 : AH} (hap : Mp m ad) (σ : MS) (τ : Td) (hd ld : Nat → Nat) (w : Nat) (hW : WX σ τ hd ld w) : Ct G yX8_sets cX8_sets 3 none 2 0 0 [.ref m] (MH m ad σ η0) (rv fun η => ∃ f g, η = MH m ad (SMa σ f g) η0 ∧ ∀ b, b < tN τ 31 → f b = (mayL τ hd ld b).length ∧ holdsL g (256 * b) (mayL τ hd ld b)) := by
  refine Ct.start rfl rfl (Nat.le_of_ble_eq_true rfl) (fun Γ => ?_)
  obtain ⟨hb1, hb2, hb3, -⟩ := hW.b
  have eT := hW.2.1.2.1
  have eB := hW.2.1.2.2.1
  have hT8 : tN τ 30 ≤ 8 := by omega
  have hp8 : 2 ^ tN τ 30 ≤ 256 := p2_le (b := 8) hT8
  have hp0 : 1 ≤ 2 ^ tN τ 30 := Nat.two_pow_pos _
  have L2 : ∀ (n b : Nat) (f g : Nat → Nat) (z2 : Option Value), b + n = tN τ 31 → (∀ b', b' < b → f b' = (mayL τ hd ld b').length ∧ holdsL g (256 * b') (mayL τ hd ld b')) → V G Γ yX8_sets cX8_sets 3 none [] 2 (rv fun η => ∃ f g, η = MH m ad (SMa σ f g) η0 ∧ ∀ b, b < tN τ 31 → f b = (mayL τ hd ld b).length ∧ holdsL g (256 * b) (mayL τ hd ld b)) 0 0 (MH m ad (SMa σ f g) η0) 2 [some (.ref m), some (.int (nI b)), z2] [] := by
    intro n
    induction n with
    | zero =>
      intro b f g z2 hbn hpv
      refine v_iload_n (i := 1) dX8_sets_2 rfl rfl ?_
      refine v_aload_n (i := 0) dX8_sets_3 rfl rfl ?_
      refine mg_boats rfl dX8_sets_4 ?_
      refine vn_icmp_ge (tgt := 109) dX8_sets_7 rfl (by omega) (show gN σ 3 < _ by omega) (fun c7 => ?_) (fun c7 => ?_)
      · exact v_vret rfl dX8_sets_109 ⟨rfl, f, g, rfl, fun b' hb' => hpv b' (by omega)⟩
      · exact absurd (show b < gN σ 3 from c7) (by omega)
    | succ n ih =>
      intro b f g z2 hbn hpv
      have hbB : b < tN τ 31 := by omega
      have hb1 : b < 2 := by omega
      obtain ⟨w1, w2, w3, w4, w5⟩ := hW.2.2.2.1 b hbB
      have L19 : ∀ (k s : Nat) (f g : Nat → Nat) (l : List Nat), s + k = 2 ^ tN τ 30 → 1 ≤ s → f b = l.length → l = (List.range' 1 (s - 1)).filter (mayB τ hd ld b) → holdsL g (256 * b) l → (∀ b', b' < b → f b' = (mayL τ hd ld b').length ∧ holdsL g (256 * b') (mayL τ hd ld b')) → V G Γ yX8_sets cX8_sets 3 none [] 2 (rv fun η => ∃ f g, η = MH m ad (SMa σ f g) η0 ∧ ∀ b, b < tN τ 31 → f b = (mayL τ hd ld b).length ∧ holdsL g (256 * b) (mayL τ hd ld b)) 0 0 (MH m ad (SMa σ f g) η0) 19 [some (.ref m), some (.int (nI b)), some (.int (nI s))] [] := by
        intro k
        induction k with
        | zero =>
          intro s f g l hs h1 hfl hl hg hpv
          refine v_iload_n (i := 2) dX8_sets_19 rfl rfl ?_
          refine v_aload_n (i := 0) dX8_sets_20 rfl rfl ?_
          refine v_callVi (cX_all hap (SMa σ f g) τ hd ld w hW) (lw_V q2324 q2326 qs82 q136 q2327) iX8_all rfl KX8 MH_m rfl rfl (by decide) (by decide) (Nat.le_of_ble_eq_true rfl) dX8_sets_21 ?_
          refine vn_icmp_gt (tgt := 103) dX8_sets_24 rfl (by omega) (by omega) (fun c24 => ?_) (fun c24 => ?_)
          · refine vn_iinc 1 dX8_sets_103 rfl k_iconst_1 (by decide) rfl ?_
            refine v_goto (tgt := 2) dX8_sets_106 rfl ?_
            exact ih (b + 1) f g _ (by omega) (fun b' hb' => by
              by_cases q : b' = b
              · subst q
                have el : mayL τ hd ld b' = l := by rw [hl, show s = 2 ^ tN τ 30 by omega]; rfl
                rw [el]
                exact ⟨hfl, hg⟩
              · exact hpv b' (by omega))
          · omega
        | succ k ih2 =>
          intro s f g l hs h1 hfl hl hg hpv
          have hll : l.length ≤ s - 1 := by rw [hl]; have := len_filter_le (mayB τ hd ld b) (List.range' 1 (s - 1)); simpa using this
          have hrw := rowN_le (tA τ 39) s (tN τ 30)
          have hpc := popc_le s
          have hsm : sumN (tA τ 38) s (tN τ 30) ≤ tN τ 30 * 99 := sumN_le s _ (fun t ht => (hW.1.2.1 t ht).1)
          have hsm2 : tN τ 30 * 99 ≤ 8 * 99 := Nat.mul_le_mul_right 99 hT8
          have hrg : List.range' 1 (s + 1 - 1) = List.range' 1 (s - 1) ++ [s] := by
            have e := List.range'_1_concat (s := 1) (n := s - 1)
            rw [show s - 1 + 1 = s + 1 - 1 by omega, show 1 + (s - 1) = s by omega] at e
            exact e
          refine v_iload_n (i := 2) dX8_sets_19 rfl rfl ?_
          refine v_aload_n (i := 0) dX8_sets_20 rfl rfl ?_
          refine v_callVi (cX_all hap (SMa σ f g) τ hd ld w hW) (lw_V q2324 q2326 qs82 q136 q2327) iX8_all rfl KX8 MH_m rfl rfl (by decide) (by decide) (Nat.le_of_ble_eq_true rfl) dX8_sets_21 ?_
          refine vn_icmp_gt (tgt := 103) dX8_sets_24 rfl (by omega) (by omega) (fun c24 => ?_) (fun c24 => ?_)
          · omega
          · refine v_aload_n (i := 0) dX8_sets_27 rfl rfl ?_
            refine v_iload_n (i := 2) dX8_sets_28 rfl rfl ?_
            refine v_callVi (cX_rowers hap (SMa σ f g) τ hd ld w hW s (by omega)) (lw_V q2347 q2349 qs87 q136 q2350) iX8_rowers rfl KX8 MH_m rfl rfl (by decide) (by decide) (Nat.le_of_ble_eq_true rfl) dX8_sets_29 ?_
            refine vn_if_eq (tgt := 97) dX8_sets_32 rfl (by omega) (fun c32 => ?_) (fun c32 => ?_)
            · refine vn_iinc 1 dX8_sets_97 rfl k_iconst_1 (by decide) rfl ?_
              refine v_goto (tgt := 19) dX8_sets_100 rfl ?_
              exact ih2 (s + 1) f g l (by omega) (by omega) hfl (by rw [hrg, List.filter_append, ← hl, show [s].filter (mayB τ hd ld b) = [] by unfold mayB; rw [List.filter_cons, if_neg (by rw [decide_eq_true_eq]; exact (fun q => q.1 c32))]; rfl, List.append_nil]) hg hpv
            · refine v_iload_n (i := 2) dX8_sets_35 rfl rfl ?_
              refine v_callSi (cM_bits s (by omega)) (lw_S q2340 q2341 q136 q2342) iX8_bits rfl rfl (by decide) (by decide) (Nat.le_of_ble_eq_true rfl) dX8_sets_36 ?_
              refine v_aload_n (i := 0) dX8_sets_39 rfl rfl ?_
              refine mg_holds rfl dX8_sets_40 ?_
              refine v_iload_n (i := 1) dX8_sets_43 rfl rfl ?_
              refine ml_holds hap (by omega) dX8_sets_44 ?_
              refine v_top (show _ = nI (hd b) from congrArg nI w1) ?_
              refine vn_icmp_gt (tgt := 97) dX8_sets_45 rfl (by omega) (by omega) (fun c45 => ?_) (fun c45 => ?_)
              · refine vn_iinc 1 dX8_sets_97 rfl k_iconst_1 (by decide) rfl ?_
                refine v_goto (tgt := 19) dX8_sets_100 rfl ?_
                exact ih2 (s + 1) f g l (by omega) (by omega) hfl (by rw [hrg, List.filter_append, ← hl, show [s].filter (mayB τ hd ld b) = [] by unfold mayB; rw [List.filter_cons, if_neg (by rw [decide_eq_true_eq]; exact (fun q => absurd q.2.1 (by omega)))]; rfl, List.append_nil]) hg hpv
              · refine v_aload_n (i := 0) dX8_sets_48 rfl rfl ?_
                refine v_iload_n (i := 2) dX8_sets_49 rfl rfl ?_
                refine v_aload_n (i := 0) dX8_sets_50 rfl rfl ?_
                refine mg_weight rfl dX8_sets_51 ?_
                refine v_callVi (cX_sumOf hap (SMa σ f g) τ hd ld w hW s (by omega)) (lw_V q2343 q2345 qs86 q136 q2346) iX8_sumOf rfl KX8 MH_m rfl rfl (by decide) (by decide) (Nat.le_of_ble_eq_true rfl) dX8_sets_54 ?_
                refine v_aload_n (i := 0) dX8_sets_57 rfl rfl ?_
                refine mg_loads rfl dX8_sets_58 ?_
                refine v_iload_n (i := 1) dX8_sets_61 rfl rfl ?_
                refine ml_loads hap (by omega) dX8_sets_62 ?_
                refine v_top (show _ = nI (ld b) from congrArg nI w2) ?_
                refine vn_icmp_le (tgt := 69) dX8_sets_63 rfl (by omega) (by omega) (fun c63 => ?_) (fun c63 => ?_)
                · refine v_aload_n (i := 0) dX8_sets_69 rfl rfl ?_
                  refine mg_may rfl dX8_sets_70 ?_
                  refine v_sipush (v := nI 256) dX8_sets_73 k_sipush_256 ?_
                  refine v_iload_n (i := 1) dX8_sets_76 rfl rfl ?_
                  refine vn_imul dX8_sets_77 ?_
                  refine v_aload_n (i := 0) dX8_sets_78 rfl rfl ?_
                  refine mg_mayMany rfl dX8_sets_79 ?_
                  refine v_iload_n (i := 1) dX8_sets_82 rfl rfl ?_
                  refine ml_mayMany hap (by omega) dX8_sets_83 ?_
                  refine v_top (show _ = nI l.length from congrArg nI hfl) ?_
                  refine vn_iadd dX8_sets_84 ?_
                  refine v_iload_n (i := 2) dX8_sets_85 rfl rfl ?_
                  refine ms_may hap (by omega) dX8_sets_86 ?_
                  rw [SMa_69]
                  refine v_aload_n (i := 0) dX8_sets_87 rfl rfl ?_
                  refine mg_mayMany rfl dX8_sets_88 ?_
                  refine v_iload_n (i := 1) dX8_sets_91 rfl rfl ?_
                  refine v_dup2_11 dX8_sets_92 rfl rfl ?_
                  refine ml_mayMany hap (by omega) dX8_sets_93 ?_
                  refine v_top (show _ = nI l.length from congrArg nI hfl) ?_
                  refine v_iconst (v := nI 1) dX8_sets_94 k_iconst_1 ?_
                  refine vn_iadd dX8_sets_95 ?_
                  refine ms_mayMany hap (by omega) dX8_sets_96 ?_
                  rw [SMa_68]
                  refine vn_iinc 1 dX8_sets_97 rfl k_iconst_1 (by decide) rfl ?_
                  refine v_goto (tgt := 19) dX8_sets_100 rfl ?_
                  exact ih2 (s + 1) (va_up f b (l.length + 1)) (va_up g (256 * b + l.length) s) (l ++ [s]) (by omega) (by omega) (by rw [va_up_e]; simp) (by rw [hrg, List.filter_append, ← hl, show [s].filter (mayB τ hd ld b) = [s] by unfold mayB; rw [List.filter_cons, if_pos (by rw [decide_eq_true_eq]; exact ⟨c32, c45, c63⟩)]; rfl]) (holdsL_put hg) (fun b' hb' => ⟨by rw [va_up_n (by omega)]; exact (hpv b' hb').1, holdsL_low (hpv b' hb').2 (fun i h1 h2 => va_up_n (by have := (hpv b' hb').1; have h9 : (mayL τ hd ld b').length ≤ 255 := (by have := len_filter_le (mayB τ hd ld b') (allS τ); unfold allS at this; simp at this; unfold mayL allS; omega); omega))⟩)
                · refine v_goto (tgt := 97) dX8_sets_66 rfl ?_
                  refine vn_iinc 1 dX8_sets_97 rfl k_iconst_1 (by decide) rfl ?_
                  refine v_goto (tgt := 19) dX8_sets_100 rfl ?_
                  exact ih2 (s + 1) f g l (by omega) (by omega) hfl (by rw [hrg, List.filter_append, ← hl, show [s].filter (mayB τ hd ld b) = [] by unfold mayB; rw [List.filter_cons, if_neg (by rw [decide_eq_true_eq]; exact (fun q => absurd q.2.2 (by omega)))]; rfl, List.append_nil]) hg hpv
      refine v_iload_n (i := 1) dX8_sets_2 rfl rfl ?_
      refine v_aload_n (i := 0) dX8_sets_3 rfl rfl ?_
      refine mg_boats rfl dX8_sets_4 ?_
      refine vn_icmp_ge (tgt := 109) dX8_sets_7 rfl (by omega) (show gN σ 3 < _ by omega) (fun c7 => ?_) (fun c7 => ?_)
      · exact absurd (show gN σ 3 ≤ b from c7) (by omega)
      · refine v_aload_n (i := 0) dX8_sets_10 rfl rfl ?_
        refine mg_mayMany rfl dX8_sets_11 ?_
        refine v_iload_n (i := 1) dX8_sets_14 rfl rfl ?_
        refine v_iconst (v := nI 0) dX8_sets_15 k_iconst_0 ?_
        refine ms_mayMany hap (by omega) dX8_sets_16 ?_
        rw [SMa_68]
        refine v_iconst (v := nI 1) dX8_sets_17 k_iconst_1 ?_
        refine v_istore_n (i := 2) dX8_sets_18 rfl (by decide) rfl ?_
        exact L19 (2 ^ tN τ 30 - 1) 1 (va_up f b 0) g [] (by omega) (by omega) (by rw [va_up_e]; rfl) rfl trivial (fun b' hb' => ⟨by rw [va_up_n (by omega)]; exact (hpv b' hb').1, (hpv b' hb').2⟩)
  refine v_iconst (v := nI 0) dX8_sets_0 k_iconst_0 ?_
  refine v_istore_n (i := 1) dX8_sets_1 rfl (by decide) rfl ?_
  have L0 := L2 (tN τ 31) 0 (gA σ 68) (gA σ 69) none (by omega) (fun b' hb' => absurd hb' (by omega))
  rw [SMa_self] at L0
  exact L0
