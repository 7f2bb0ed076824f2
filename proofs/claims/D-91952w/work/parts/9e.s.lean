set_option maxRecDepth 100000
theorem xF_none {q : Nat → Bool} {stp : Nat → XT → Option XT} : ∀ {l : List Nat} {X : XT}, (∀ s, q s = false) → xF q stp l X = some X
  | [], _, _ => rfl
  | s :: l, X, h => (xF_n (by rw [h s]; decide)).trans (xF_none h)
theorem gS_no {τ : Td} {hd ld : Nat → Nat} {wo k x b to : Nat} (hb : b < tN τ 31) (hto : to < tN τ 29) (hS : tN τ 29 ≤ 4) (hB : tN τ 31 ≤ 2) (h : ¬ bsT τ wo (stT τ) 0 0 0 = 0) (X : XT) : gS τ hd ld wo k x b to X = some X := by
  unfold gS
  split
  · rfl
  · next hf => exact xF_none (fun s => decide_eq_false (fun q => h ((jgN_0 hb hto hS hB hf).mp q).1))
theorem gS_ok {τ : Td} {hd ld : Nat → Nat} {wo k x b to : Nat} (hb : b < tN τ 31) (hto : to < tN τ 29) (hS : tN τ 29 ≤ 4) (hT : tN τ 30 ≤ 8) (hB : tN τ 31 ≤ 2) (h : bsT τ wo (stT τ) 0 0 0 = 0) (X : XT) : gS τ hd ld wo k x b to X = if canG τ x b to then xSets (τ, hd, ld, wo) k x b to X else some X := by
  unfold gS
  by_cases hf : flT τ (bo x b) to = 0
  · rw [if_pos hf, if_neg (fun q => q.1 hf)]
  · rw [if_neg hf]
    by_cases hl : tN τ 33 = 0 ∨ la x = bo x b
    · rw [if_pos ⟨hf, hl⟩]
      unfold xSets mayL
      rw [xF_filter, sbL_all (setN_lt x (bo x b) (tN τ 30)) hT, xF_filter]
      congr 1
      funext s
      have hj := jgN_0 (hd := hd) (ld := ld) (wo := wo) (s := s) hb hto hS hB hf
      rw [Bool.eq_iff_iff, Bool.and_eq_true, Bool.and_eq_true]
      unfold gQ mayB ok_B
      rw [decide_eq_true_eq, decide_eq_true_eq, decide_eq_true_eq, hj, beq_iff_eq]
      constructor
      · rintro ⟨q1, q2, q3, q4, q5⟩
        exact ⟨q4, q5⟩
      · rintro ⟨q1, q2⟩
        exact ⟨q2.1, h, hl, q1, q2⟩
    · rw [if_neg (fun q => hl q.2)]
      exact xF_none (fun s => decide_eq_false (fun q => hl ((jgN_0 hb hto hS hB hf).mp q).2.1))
theorem gTo_no {τ : Td} {hd ld : Nat → Nat} {wo k x b : Nat} (hb : b < tN τ 31) (hS : tN τ 29 ≤ 4) (hB : tN τ 31 ≤ 2) (h : ¬ bsT τ wo (stT τ) 0 0 0 = 0) : ∀ (n to : Nat) (o : Option XT), to + n ≤ tN τ 29 → gTo τ hd ld wo k x b n to o = o
  | 0, _, _, _ => rfl
  | n + 1, to, o, hn => by
    unfold gTo
    rw [gTo_no hb hS hB h n (to + 1) _ (by omega)]
    cases o with
    | none => rfl
    | some X => exact gS_no hb (by omega) hS hB h X
theorem gTo_ok {τ : Td} {hd ld : Nat → Nat} {wo k x b : Nat} (hb : b < tN τ 31) (hS : tN τ 29 ≤ 4) (hT : tN τ 30 ≤ 8) (hB : tN τ 31 ≤ 2) (h : bsT τ wo (stT τ) 0 0 0 = 0) : ∀ (n to : Nat) (o : Option XT), to + n ≤ tN τ 29 → gTo τ hd ld wo k x b n to o = o.bind (xTo (τ, hd, ld, wo) k x b n to)
  | 0, _, o, _ => by cases o <;> rfl
  | n + 1, to, o, hn => by
    unfold gTo
    rw [gTo_ok hb hS hT hB h n (to + 1) _ (by omega)]
    cases o with
    | none => rfl
    | some X =>
      show (gS τ hd ld wo k x b to X).bind _ = xTo (τ, hd, ld, wo) k x b (n + 1) to X
      rw [gS_ok hb (by omega) hS hT hB h]
      rfl
theorem gBo_no {τ : Td} {hd ld : Nat → Nat} {wo k x : Nat} (hS : tN τ 29 ≤ 4) (hB : tN τ 31 ≤ 2) (h : ¬ bsT τ wo (stT τ) 0 0 0 = 0) : ∀ (n b : Nat) (o : Option XT), b + n ≤ tN τ 31 → gBo τ hd ld wo k x n b o = o
  | 0, _, _, _ => rfl
  | n + 1, b, o, hn => by
    unfold gBo
    rw [gBo_no hS hB h n (b + 1) _ (by omega), gTo_no (by omega) hS hB h _ _ _ (by omega)]
theorem gBo_ok {τ : Td} {hd ld : Nat → Nat} {wo k x : Nat} (hS : tN τ 29 ≤ 4) (hT : tN τ 30 ≤ 8) (hB : tN τ 31 ≤ 2) (h : bsT τ wo (stT τ) 0 0 0 = 0) : ∀ (n b : Nat) (o : Option XT), b + n ≤ tN τ 31 → gBo τ hd ld wo k x n b o = o.bind (xBo (τ, hd, ld, wo) k x n b)
  | 0, _, o, _ => by cases o <;> rfl
  | n + 1, b, o, hn => by
    unfold gBo
    rw [gBo_ok hS hT hB h n (b + 1) _ (by omega), gTo_ok (by omega) hS hT hB h _ _ _ (by omega)]
    cases o <;> rfl
theorem gBo_eq {τ : Td} {hd ld : Nat → Nat} {wo k x : Nat} (hTB : TB τ) (X : XT) : gBo τ hd ld wo k x (tN τ 31) 0 (some X) = if bsT τ wo (stT τ) 0 0 0 = 0 then xBo (τ, hd, ld, wo) k x (tN τ 31) 0 X else some X := by
  obtain ⟨⟨wb1, wb2, wb3, wb4, wb5, wb6, wb7⟩, -⟩ := hTB
  split
  · next h => rw [gBo_ok wb2 wb3 wb4 h _ _ _ (by omega)]; rfl
  · next h => rw [gBo_no wb2 wb4 h _ _ _ (by omega)]
/-- the last place below n where ej is j, and one more (0: none) -/
def lstE (ej : Nat → Nat) (j : Nat) : Nat → Nat
  | 0 => 0
  | n + 1 => if ej n = j then n + 1 else lstE ej j n
theorem lstE_le (ej : Nat → Nat) (j : Nat) : ∀ n, lstE ej j n ≤ n
  | 0 => Nat.le_refl _
  | n + 1 => by
    unfold lstE
    have := lstE_le ej j n
    split <;> omega
theorem lstE_congr {f g : Nat → Nat} {j : Nat} : ∀ {n : Nat}, (∀ i, i < n → f i = g i) → lstE f j n = lstE g j n
  | 0, _ => rfl
  | n + 1, h => by
    unfold lstE
    rw [h n (by omega), lstE_congr (fun i hi => h i (by omega))]
/-- crossings by where they come from, and to -/
def TU (μ : MS) (X : XT) : Prop := (∀ s, s < xn X → ∀ e, xfs X s ≤ e → e < xfs X (s + 1) → gA μ 16 e = s) ∧ (∀ j, j < xn X → gA μ 17 j = lstE (xej X) j (xe X)) ∧ ∀ e, e < xe X → gA μ 18 e = lstE (xej X) (xej X e) e
def FSm (μ : MS) (X : XT) : Prop := ∀ k, k ≤ xn X → gA μ 5 k = xfs X k
def MTk (μ μ' : MS) : Prop := (∀ k, gN μ' k = gN μ k) ∧ ∀ k, k ≠ 16 → k ≠ 17 → k ≠ 18 → gA μ' k = gA μ k
theorem MTk.rf (μ : MS) : MTk μ μ := ⟨fun _ => rfl, fun _ _ _ _ => rfl⟩
theorem MTk.tr {μ μ1 μ2 : MS} (h : MTk μ μ1) (h2 : MTk μ1 μ2) : MTk μ μ2 := ⟨fun k => (h2.1 k).trans (h.1 k), fun k a b c => (h2.2 k a b c).trans (h.2 k a b c)⟩
theorem MTk.st {μ μ1 : MS} (h : MTk μ μ1) {k i v : Nat} (hk : 16 ≤ k ∧ k ≤ 18) : MTk μ (sA μ1 k i v) := ⟨h.1, fun j a b c => by rw [gA_sA, if_neg (by omega)]; exact h.2 j a b c⟩
theorem MTk.mx {τ : Td} {μ μ' : MS} {X : XT} (h : MTk μ μ') (hX : MX τ μ X) : MX τ μ' X := by
  unfold MX
  rw [h.1, h.1, h.2 3 (by decide) (by decide) (by decide), h.2 2 (by decide) (by decide) (by decide), h.2 4 (by decide) (by decide) (by decide), h.2 6 (by decide) (by decide) (by decide), h.2 7 (by decide) (by decide) (by decide), h.2 8 (by decide) (by decide) (by decide)]
  exact hX
theorem XW.mono {X : XT} (h : XW X) {a b : Nat} (hab : a ≤ b) (hb : b ≤ xn X) : xfs X a ≤ xfs X b := by
  induction b with
  | zero => rw [show a = 0 by omega]; exact Nat.le_refl _
  | succ b ih =>
    by_cases c : a = b + 1
    · rw [c]; exact Nat.le_refl _
    · exact Nat.le_trans (ih (by omega) (by omega)) (h.2.2.2.1 b (by omega))
theorem cS_turn {G : Gl} {η0 : AH} {t m : Nat} {adm : Nat → Nat} {μ : MS} {τ : Td} {X : XT} (hMo : GO scX3 η0 (some t) m adm μ) (hX : MX τ μ X) (hw : XW X) (hF : FSm μ X) : Ct G yX3_turn cX3_turn 3 none 0 (0) (0) [.ref m] η0 (rv fun η => ∃ μ2, GO scX3 η (some t) m adm μ2 ∧ Kp t (t + 1) η0 η ∧ MTk μ μ2 ∧ TU μ2 X) := by
  refine Ct.start rfl rfl (Nat.le_of_ble_eq_true rfl) (fun Γ => ?_)
  obtain ⟨w1, w2, w3, w4, w5, w6⟩ := id hw
  obtain ⟨x1, x2, x3, x4, x5, x6⟩ := id hX
  have L57 : ∀ (n e : Nat), e + n = xe X → ∀ (η : AH) (μ1 : MS) (z : Option Value), GO scX3 η (some t) m adm μ1 → Kp t (t + 1) η0 η → MTk μ μ1 → (∀ s, s < xn X → ∀ e, xfs X s ≤ e → e < xfs X (s + 1) → gA μ1 16 e = s) → (∀ j, j < xn X → gA μ1 17 j = lstE (xej X) j e) → (∀ i, i < e → gA μ1 18 i = lstE (xej X) (xej X i) i) → V G Γ yX3_turn cX3_turn 3 none [] 0 (rv fun η => ∃ μ2, GO scX3 η (some t) m adm μ2 ∧ Kp t (t + 1) η0 η ∧ MTk μ μ2 ∧ TU μ2 X) (0) (0) (η) 57 [some (.ref m), some (.int (nI e)), z] [] := by
    intro n
    induction n with
    | zero =>
      intro e hn η μ1 z hMo h0 hMK q1 q2 q3
      have ee : e = xe X := by omega
      subst ee
      refine v_iload_n (i := 1) dX3_turn_57 rfl rfl ?_
      refine v_aload_n (i := 0) dX3_turn_58 rfl rfl ?_
      refine go_get0 hMo KX3 10 (by decide) rfl (xe X) ((hMK.1 10).trans x2) q292 dX3_turn_59 ?_
      refine vn_icmp_ge (tgt := 100) dX3_turn_62 rfl (by omega) (by omega) (fun c62 => ?_) (fun c62 => ?_)
      · exact v_vret rfl dX3_turn_100 ⟨rfl, μ1, hMo, h0, hMK, q1, q2, q3⟩
      · exact absurd (show xe X < xe X from c62) (by omega)
    | succ n ih =>
      intro e hn η μ1 z hMo h0 hMK q1 q2 q3
      have he : e < xe X := by omega
      have hej := x6 e he
      have hto : gA μ1 6 e = xej X e := by rw [hMK.2 6 (by decide) (by decide) (by decide)]; exact hej.1
      have hle := lstE_le (xej X) (xej X e) e
      refine v_iload_n (i := 1) dX3_turn_57 rfl rfl ?_
      refine v_aload_n (i := 0) dX3_turn_58 rfl rfl ?_
      refine go_get0 hMo KX3 10 (by decide) rfl (xe X) ((hMK.1 10).trans x2) q292 dX3_turn_59 ?_
      refine vn_icmp_ge (tgt := 100) dX3_turn_62 rfl (by omega) (by omega) (fun c62 => ?_) (fun c62 => ?_)
      · exact absurd (show xe X ≤ e from c62) (by omega)
      · refine v_aload_n (i := 0) dX3_turn_65 rfl rfl ?_
        refine go_getA hMo KX3 18 (by decide) (by decide) q302 dX3_turn_66 ?_
        refine v_iload_n (i := 1) dX3_turn_69 rfl rfl ?_
        refine v_aload_n (i := 0) dX3_turn_70 rfl rfl ?_
        refine go_getA hMo KX3 17 (by decide) (by decide) q301 dX3_turn_71 ?_
        refine v_aload_n (i := 0) dX3_turn_74 rfl rfl ?_
        refine go_getA hMo KX3 6 (by decide) (by decide) q285 dX3_turn_75 ?_
        refine v_iload_n (i := 1) dX3_turn_78 rfl rfl ?_
        refine go_ld10 hMo 6 (by decide) rfl (show _ < 40000 from (by omega)) (by decide) _ hto dX3_turn_79 ?_
        refine go_ld11 hMo 17 (by decide) rfl (show _ < 2000 from (by omega)) (by decide) _ (q2 _ hej.2.2.2.1) dX3_turn_80 ?_
        refine go_st11 hMo 18 (by decide) rfl (show _ < 40000 from (by omega)) (by decide) dX3_turn_81 (fun η hMo hk => ?_)
        have h0 := h0.th hk (by omega) (by omega)
        refine v_aload_n (i := 0) dX3_turn_82 rfl rfl ?_
        refine go_getA hMo KX3 17 (by decide) (by decide) q301 dX3_turn_83 ?_
        refine v_aload_n (i := 0) dX3_turn_86 rfl rfl ?_
        refine go_getA hMo KX3 6 (by decide) (by decide) q285 dX3_turn_87 ?_
        refine v_iload_n (i := 1) dX3_turn_90 rfl rfl ?_
        refine go_ld10 hMo 6 (by decide) rfl (show _ < 40000 from (by omega)) (by decide) _ hto dX3_turn_91 ?_
        refine v_iload_n (i := 1) dX3_turn_92 rfl rfl ?_
        refine go_st11n hMo 17 (by decide) rfl (show _ < 2000 from (by omega)) (by decide) dX3_turn_93 (fun η hMo hk => ?_)
        have h0 := h0.th hk (by omega) (by omega)
        refine vn_iinc 1 dX3_turn_94 rfl k_iconst_1 (by decide) rfl ?_
        refine v_goto (tgt := 57) dX3_turn_97 rfl ?_
        refine ih (e + 1) (by omega) η _ _ hMo h0 ((hMK.st (by decide)).st (by decide)) q1 (fun j hj => ?_) (fun i hi => ?_)
        · show va_up (gA μ1 17) (xej X e) (e + 1) j = if xej X e = j then e + 1 else lstE (xej X) j e
          by_cases c : j = xej X e
          · rw [c, va_up_e, if_pos rfl]
          · rw [va_up_n c, if_neg (fun q => c q.symm)]; exact q2 j hj
        · show va_up (gA μ1 18) e (lstE (xej X) (xej X e) e) i = _
          by_cases c : i = e
          · rw [c, va_up_e]
          · rw [va_up_n c]; exact q3 i (by omega)
  have L2 : ∀ (n s : Nat), s + n = xn X → ∀ (η : AH) (μ1 : MS) (z : Option Value), GO scX3 η (some t) m adm μ1 → Kp t (t + 1) η0 η → MTk μ μ1 → (∀ s', s' < s → ∀ e, xfs X s' ≤ e → e < xfs X (s' + 1) → gA μ1 16 e = s') → (∀ j, j < s → gA μ1 17 j = 0) → V G Γ yX3_turn cX3_turn 3 none [] 0 (rv fun η => ∃ μ2, GO scX3 η (some t) m adm μ2 ∧ Kp t (t + 1) η0 η ∧ MTk μ μ2 ∧ TU μ2 X) (0) (0) (η) 2 [some (.ref m), some (.int (nI s)), z] [] := by
    intro n
    induction n with
    | zero =>
      intro s hn η μ1 z hMo h0 hMK q1 q2
      have ee : s = xn X := by omega
      subst ee
      refine v_iload_n (i := 1) dX3_turn_2 rfl rfl ?_
      refine v_aload_n (i := 0) dX3_turn_3 rfl rfl ?_
      refine go_get0 hMo KX3 9 (by decide) rfl (xn X) ((hMK.1 9).trans x1) q290 dX3_turn_4 ?_
      refine vn_icmp_ge (tgt := 55) dX3_turn_7 rfl (by omega) (by omega) (fun c7 => ?_) (fun c7 => ?_)
      · refine v_iconst (v := nI 0) dX3_turn_55 k_iconst_0 ?_
        refine v_istore_n (i := 1) dX3_turn_56 rfl (by decide) rfl ?_
        exact L57 (xe X) 0 (Nat.zero_add _) η μ1 _ hMo h0 hMK q1 q2 (fun i hi => absurd hi (by omega))
      · exact absurd (show xn X < xn X from c7) (by omega)
    | succ n ih =>
      intro s hn η μ1 z hMo h0 hMK q1 q2
      have hs : s < xn X := by omega
      have f1 := w4 s hs
      have f2 := w5 (s + 1) (by omega)
      have L24 : ∀ (n2 e : Nat), e + n2 = xfs X (s + 1) → xfs X s ≤ e → ∀ (η : AH) (μ1 : MS), GO scX3 η (some t) m adm μ1 → Kp t (t + 1) η0 η → MTk μ μ1 → (∀ s', s' < s → ∀ e, xfs X s' ≤ e → e < xfs X (s' + 1) → gA μ1 16 e = s') → (∀ e', xfs X s ≤ e' → e' < e → gA μ1 16 e' = s) → (∀ j, j < s + 1 → gA μ1 17 j = 0) → V G Γ yX3_turn cX3_turn 3 none [] 0 (rv fun η => ∃ μ2, GO scX3 η (some t) m adm μ2 ∧ Kp t (t + 1) η0 η ∧ MTk μ μ2 ∧ TU μ2 X) (0) (0) (η) 24 [some (.ref m), some (.int (nI s)), some (.int (nI e))] [] := by
        intro n2
        induction n2 with
        | zero =>
          intro e he hle η μ1 hMo h0 hMK q1 q1b q2
          have ee : e = xfs X (s + 1) := by omega
          subst ee
          have hf2 : gA μ1 5 (s + 1) = xfs X (s + 1) := by rw [hMK.2 5 (by decide) (by decide) (by decide)]; exact hF _ (by omega)
          refine v_iload_n (i := 2) dX3_turn_24 rfl rfl ?_
          refine v_aload_n (i := 0) dX3_turn_25 rfl rfl ?_
          refine go_getA hMo KX3 5 (by decide) (by decide) q284 dX3_turn_26 ?_
          refine v_iload_n (i := 1) dX3_turn_29 rfl rfl ?_
          refine v_iconst (v := nI 1) dX3_turn_30 k_iconst_1 ?_
          refine vn_iadd dX3_turn_31 ?_
          refine go_ld10 hMo 5 (by decide) rfl (show _ < 2001 from (by omega)) (by decide) _ hf2 dX3_turn_32 ?_
          refine vn_icmp_ge (tgt := 49) dX3_turn_33 rfl (by omega) (by omega) (fun c33 => ?_) (fun c33 => ?_)
          · refine vn_iinc 1 dX3_turn_49 rfl k_iconst_1 (by decide) rfl ?_
            refine v_goto (tgt := 2) dX3_turn_52 rfl ?_
            refine ih (s + 1) (by omega) η μ1 _ hMo h0 hMK (fun s2 hs2 e' h1 h2 => ?_) q2
            by_cases c : s2 = s
            · rw [c] at h1 h2 ⊢; exact q1b e' h1 h2
            · exact q1 s2 (by omega) e' h1 h2
          · exact absurd (show xfs X (s + 1) < xfs X (s + 1) from c33) (by omega)
        | succ n2 ih2 =>
          intro e he hle η μ1 hMo h0 hMK q1 q1b q2
          have hf2 : gA μ1 5 (s + 1) = xfs X (s + 1) := by rw [hMK.2 5 (by decide) (by decide) (by decide)]; exact hF _ (by omega)
          refine v_iload_n (i := 2) dX3_turn_24 rfl rfl ?_
          refine v_aload_n (i := 0) dX3_turn_25 rfl rfl ?_
          refine go_getA hMo KX3 5 (by decide) (by decide) q284 dX3_turn_26 ?_
          refine v_iload_n (i := 1) dX3_turn_29 rfl rfl ?_
          refine v_iconst (v := nI 1) dX3_turn_30 k_iconst_1 ?_
          refine vn_iadd dX3_turn_31 ?_
          refine go_ld10 hMo 5 (by decide) rfl (show _ < 2001 from (by omega)) (by decide) _ hf2 dX3_turn_32 ?_
          refine vn_icmp_ge (tgt := 49) dX3_turn_33 rfl (by omega) (by omega) (fun c33 => ?_) (fun c33 => ?_)
          · exact absurd (show xfs X (s + 1) ≤ e from c33) (by omega)
          · refine v_aload_n (i := 0) dX3_turn_36 rfl rfl ?_
            refine go_getA hMo KX3 16 (by decide) (by decide) q300 dX3_turn_37 ?_
            refine v_iload_n (i := 2) dX3_turn_40 rfl rfl ?_
            refine v_iload_n (i := 1) dX3_turn_41 rfl rfl ?_
            refine go_st10 hMo 16 (by decide) rfl (show _ < 40000 from (by omega)) (by decide) dX3_turn_42 (fun η hMo hk => ?_)
            have h0 := h0.th hk (by omega) (by omega)
            refine vn_iinc 1 dX3_turn_43 rfl k_iconst_1 (by decide) rfl ?_
            refine v_goto (tgt := 24) dX3_turn_46 rfl ?_
            refine ih2 (e + 1) (by omega) (by omega) η _ hMo h0 (hMK.st (by decide)) (fun s2 hs2 e' h1 h2 => ?_) (fun e' h1 h2 => ?_) q2
            · show va_up (gA μ1 16) e s e' = s2
              have h3 : e' < e := by
                have := XW.mono hw (show s2 + 1 ≤ s by omega) (by omega)
                omega
              rw [va_up_n (by omega)]
              exact q1 s2 hs2 e' h1 h2
            · show va_up (gA μ1 16) e s e' = s
              by_cases c : e' = e
              · rw [c, va_up_e]
              · rw [va_up_n c]; exact q1b e' h1 (by omega)
      have hf1 : gA μ1 5 s = xfs X s := by rw [hMK.2 5 (by decide) (by decide) (by decide)]; exact hF _ (by omega)
      refine v_iload_n (i := 1) dX3_turn_2 rfl rfl ?_
      refine v_aload_n (i := 0) dX3_turn_3 rfl rfl ?_
      refine go_get0 hMo KX3 9 (by decide) rfl (xn X) ((hMK.1 9).trans x1) q290 dX3_turn_4 ?_
      refine vn_icmp_ge (tgt := 55) dX3_turn_7 rfl (by omega) (by omega) (fun c7 => ?_) (fun c7 => ?_)
      · exact absurd (show xn X ≤ s from c7) (by omega)
      · refine v_aload_n (i := 0) dX3_turn_10 rfl rfl ?_
        refine go_getA hMo KX3 17 (by decide) (by decide) q301 dX3_turn_11 ?_
        refine v_iload_n (i := 1) dX3_turn_14 rfl rfl ?_
        refine v_iconst (v := -1) dX3_turn_15 k_iconst_m1 ?_
        refine go_st11m hMo 17 (by decide) rfl (show _ < 2000 from (by omega)) (by decide) dX3_turn_16 (fun η hMo hk => ?_)
        have h0 := h0.th hk (by omega) (by omega)
        refine v_aload_n (i := 0) dX3_turn_17 rfl rfl ?_
        refine go_getA hMo KX3 5 (by decide) (by decide) q284 dX3_turn_18 ?_
        refine v_iload_n (i := 1) dX3_turn_21 rfl rfl ?_
        refine go_ld10 hMo 5 (by decide) rfl (show _ < 2001 from (by omega)) (by decide) _ hf1 dX3_turn_22 ?_
        refine v_istore_n (i := 2) dX3_turn_23 rfl (by decide) rfl ?_
        refine L24 (xfs X (s + 1) - xfs X s) (xfs X s) (by omega) (Nat.le_refl _) η _ hMo h0 (hMK.st (by decide)) q1 (fun e' h1 h2 => absurd h2 (by omega)) (fun j hj => ?_)
        show va_up (gA μ1 17) s 0 j = 0
        by_cases c : j = s
        · rw [c, va_up_e]
        · rw [va_up_n c]; exact q2 j (by omega)
  refine v_iconst (v := nI 0) dX3_turn_0 k_iconst_0 ?_
  refine v_istore_n (i := 1) dX3_turn_1 rfl (by decide) rfl ?_
  exact L2 (xn X) 0 (Nat.zero_add _) η0 μ none hMo Kp.rf (MTk.rf μ) (fun s hs => absurd hs (by omega)) (fun j hj => absurd hj (by omega))
