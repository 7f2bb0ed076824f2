/-! ===== laws, sizes ===== -/
noncomputable def spLaws (A : AS) (a : Int32) : Option Int32 := (nOf a 2).map fun j => match lawsT A.1 with
  | none => -1
  | some z => nI (if j = 0 then z.1 else z.2)
noncomputable def spSize (A : AS) (a : Int32) : Option Int32 := if tN A.1 31 = 0 then none else (nOf a 2).map fun j => if j = 0 then pI (holdT A.1) else pI (loadT A.1)
theorem skS_le (τ : Td) (hd ld : Nat → Nat) (w : Nat) : skS τ hd ld w ≤ 2001 := by
  unfold skS
  cases hx : expl (τ, hd, ld, w) with
  | none => exact Nat.zero_le _
  | some X =>
    dsimp only
    have hw := expl_w hx
    by_cases c : ∃ f, EQd X (glT τ X) (fun _ => 1) f
    · obtain ⟨f, hf⟩ := c
      have hd := dsF_ok hf
      by_cases c2 : dsF X (glT τ X) (fun _ => 1) 0 = 0
      · omega
      · have hk : 0 < xn X := by have := hw.1; omega
        have e1 := pathE_sum hd hw (fun _ => by decide) hk c2 (Nat.le_refl _)
        have e2 := pathL_le hd hw (fun _ => by decide) (n := dsF X (glT τ X) (fun _ => 1) 0) hk
        rw [pathE_L, List.length_map] at e2
        rw [sumW_1] at e1
        omega
    · have : dsF X (glT τ X) (fun _ => 1) 0 = 0 := by unfold dsF; rw [dif_neg c]
      omega
theorem pI_m2 {n : Nat} (h : n < 2147483648) : pI n = -2 ↔ n = 0 := by
  match n with
  | 0 => exact ⟨fun _ => rfl, fun _ => rfl⟩
  | 1 => exact ⟨fun q => absurd q (by decide), fun q => absurd q (by decide)⟩
  | k + 2 =>
    refine ⟨fun q => ?_, fun q => absurd q (by omega)⟩
    have q : nI k = -2 := q
    have h2 := nI_toInt (n := k) (by omega)
    rw [q] at h2
    exact absurd h2 (by have : ((-2 : Int32)).toInt = -2 := by decide
                        rw [this]; omega)
theorem pI_m1 {n : Nat} (h : n < 2147483648) : pI n = -1 ↔ n = 1 := by
  match n with
  | 0 => exact ⟨fun q => absurd q (by decide), fun q => absurd q (by decide)⟩
  | k + 1 =>
    show oI k = -1 ↔ _
    rw [oI_m1 (by omega)]
    omega
theorem pI_toInt {n : Nat} (h : n < 2147483648) : (pI n).toInt = (n : Int) - 2 := by
  match n with
  | 0 => rfl
  | k + 1 =>
    show (oI k).toInt = _
    rw [oI_toInt (by omega)]
    omega
theorem pI_lt0 {n : Nat} (h : n < 2147483648) : pI n < 0 ↔ n < 2 := by
  rw [i_lt, pI_toInt h]
  have : (0 : Int32).toInt = 0 := by decide
  omega
theorem pI_ge0 {n : Nat} (h : n < 2147483648) : 0 ≤ pI n ↔ 2 ≤ n := by
  rw [i_le, pI_toInt h]
  have : (0 : Int32).toInt = 0 := by decide
  omega
theorem pI_inj {a b : Nat} (ha : a < 2147483648) (hb : b < 2147483648) : pI a = pI b ↔ a = b := by
  rw [i_eq, pI_toInt ha, pI_toInt hb]
  omega
theorem pI_3 (v : Nat) : nI 3 + pI v = nI (v + 1) := by
  match v with
  | 0 => decide
  | 1 => decide
  | k + 2 =>
    show nI 3 + nI k = _
    rw [nI_add]
    congr 1
    omega
theorem pI_s3 (v : Nat) : nI (v + 1) - nI 3 = pI v := by
  match v with
  | 0 => decide
  | 1 => decide
  | k + 2 => exact pk_sub (by omega)
def EL (σ σ2 : MS) : Prop := (∀ k, k ≠ 52 → k ≠ 54 → k ≠ 55 → k ≠ 66 → k ≠ 67 → k ≠ 79 → k ≠ 80 → gN σ2 k = gN σ k) ∧ (∀ k, (k < 56 ∧ k ≠ 50) ∨ k = 65 ∨ 69 < k → gA σ2 k = gA σ k) ∧ (∀ k, k ≠ 51 → gB σ2 k = gB σ k) ∧ gC σ2 = gC σ
theorem EL.n {σ σ2 : MS} (h : EL σ σ2) {k v : Nat} (hk : k = 52 ∨ k = 54 ∨ k = 55 ∨ k = 66 ∨ k = 67 ∨ k = 79 ∨ k = 80) : EL σ (sN σ2 k v) := ⟨fun j h1 h2 h3 h4 h5 h6 h7 => by rw [gN_sN, if_neg (by omega)]; exact h.1 j h1 h2 h3 h4 h5 h6 h7, h.2.1, h.2.2.1, h.2.2.2⟩
theorem EL.rf (σ : MS) : EL σ σ := ⟨fun _ _ _ _ _ _ _ _ => rfl, fun _ _ => rfl, fun _ _ => rfl, rfl⟩
theorem EL.g {σ σ1 σ2 : MS} (h : EL σ σ1) (h2 : EG σ1 σ2) : EL σ σ2 := ⟨fun k a b c d e f g => (h2.1 k a b c d e).trans (h.1 k a b c d e f g), fun k a => (h2.2.1 k a).trans (h.2.1 k a), fun k a => (h2.2.2.1 k a).trans (h.2.2.1 k a), h2.2.2.2.trans h.2.2.2⟩
theorem EL.wx {σ σ2 : MS} (h : EL σ σ2) {τ : Td} {hd ld : Nat → Nat} {w w2 : Nat} (hW : WX σ τ hd ld w) (hc : Cch (bfT τ) (gA σ2 50)) (h52 : gN σ2 52 = w2) (hw2 : w2 ≤ 12) : WX σ2 τ hd ld w2 := by
  have n : ∀ k, k < 52 → gN σ2 k = gN σ k := fun k a => h.1 k (by omega) (by omega) (by omega) (by omega) (by omega) (by omega) (by omega)
  have a : ∀ k, k < 50 → gA σ2 k = gA σ k := fun k a => h.2.1 k (by omega)
  obtain ⟨h1, h2, h3, h4, h5, h6, h7, h8, h9⟩ := hW
  refine ⟨h1, ?_, ?_, ?_, ?_, ?_, hc, h52, hw2⟩
  · rw [n 1 (by decide), n 2 (by decide), n 3 (by decide), n 4 (by decide), n 5 (by decide), n 13 (by decide)]
    exact h2
  · rw [a 6 (by decide), a 7 (by decide)]
    exact h3
  · rw [a 9 (by decide), a 10 (by decide), a 11 (by decide)]
    exact h4
  · rw [a 12 (by decide)]
    exact h5
  · unfold BarO
    rw [n 1 (by decide), n 2 (by decide), n 4 (by decide), a 6 (by decide), a 7 (by decide), a 15 (by decide), a 16 (by decide), h.2.2.1 14 (by decide)]
    exact h6
theorem EL.mi {σ σ2 : MS} (h : EL σ σ2) {τ : Td} (hM : MI σ τ) : MI σ2 τ := by
  have n : ∀ k, k < 52 → gN σ2 k = gN σ k := fun k a => h.1 k (by omega) (by omega) (by omega) (by omega) (by omega) (by omega) (by omega)
  have a : ∀ k, k < 50 → gA σ2 k = gA σ k := fun k a => h.2.1 k (by omega)
  obtain ⟨h1, h2, h3, h4, h5, h6⟩ := hM
  refine ⟨h1, ?_, ?_, ?_, ?_, ?_⟩
  · rw [n 1 (by decide), n 2 (by decide), n 3 (by decide), n 4 (by decide), n 5 (by decide), n 13 (by decide)]
    exact h2
  · rw [a 6 (by decide), a 7 (by decide), a 8 (by decide)]
    exact h3
  · rw [a 9 (by decide), a 10 (by decide), a 11 (by decide)]
    exact h4
  · rw [a 12 (by decide)]
    exact h5
  · unfold BarO
    rw [n 1 (by decide), n 2 (by decide), n 4 (by decide), a 6 (by decide), a 7 (by decide), a 15 (by decide), a 16 (by decide), h.2.2.1 14 (by decide)]
    exact h6
theorem MG.laws {rt : Td → Nat} {σ σ2 : MS} {A : AS} (h : MG rt σ A) (hE : EL σ σ2) (hM : MF σ2 A.1) {v : Nat} (hL : LK (sN σ2 78 v) A.1) : MG rt (sN σ2 78 v) A := by
  obtain ⟨-, ⟨b1, b2, b3, b4, b5⟩, ⟨c1, c2⟩, d, e, f, g, p, i, j⟩ := h
  have n : ∀ k, k < 52 ∨ (67 < k ∧ k ≠ 78 ∧ k ≠ 79 ∧ k ≠ 80) → gN (sN σ2 78 v) k = gN σ k := fun k hk => by rw [gN_sN, if_neg (by omega)]; exact hE.1 k (by omega) (by omega) (by omega) (by omega) (by omega) (by omega) (by omega)
  have a : ∀ k, k < 50 ∨ 69 < k → gA (sN σ2 78 v) k = gA σ k := fun k hk => hE.2.1 k (by omega)
  refine ⟨hM, ⟨(a 17 (by decide)).trans b1, (n 18 (by decide)).trans b2, b3, b4, fun t ht => by rw [a 40 (by decide)]; exact b5 t ht⟩, ⟨(n 20 (by decide)).trans c1, c2⟩, d.q (n 70 (by decide)) (n 71 (by decide)) (fun k h1 h2 => a k (by omega)), hL, ?_, ?_, ?_, (n 85 (by decide)).trans i, j⟩
  · unfold SKn
    rw [a 81 (by decide)]
    exact f
  · unfold RK
    rw [n 82 (by decide)]
    exact g
  · unfold PL
    rw [n 84 (by decide), a 86 (by decide), a 87 (by decide)]
    exact p
theorem cM_triesLaws {G : Gl} {m : Nat} {ad : Nat → Nat} {η0 : AH} (hap : Mp m ad) (σ : MS) (τ : Td) (hW : WX σ τ (tA τ 41) (tA τ 42) 0) : Ct G yX8_triesLaws cX8_triesLaws 5 (some .boolean) 9 0 0 [.ref m] (MH m ad σ η0) (ri fun r η => ∃ σ2, η = MH m ad σ2 η0 ∧ EL σ σ2 ∧ Cch (bfT τ) (gA σ2 50) ∧ gN σ2 52 = 0 ∧ gN σ2 67 = 0 ∧ gN σ2 66 < 2 ∧ (lawsT τ = none → r = nI 0) ∧ ∀ z, lawsT τ = some z → r = nI 1 ∧ gN σ2 79 = z.1 ∧ gN σ2 80 = z.2) := by
  refine Ct.start rfl rfl (Nat.le_of_ble_eq_true rfl) (fun Γ => ?_)
  generalize hR : lawsT τ = R
  have hL12 : tN τ 32 ≤ 12 := hW.1.1.2.2.2.2.1
  have L38 : ∀ (n k gv is fr al : Nat) (σ2 : MS) (z4 : Option Value), k + n = tN τ 32 → ((gv = 1 ∧ is ≠ 0 ∧ lawsN τ is n k fr al = R) ∨ (gv = 0 ∧ R = none)) → is ≤ 2001 → EL σ σ2 → Cch (bfT τ) (gA σ2 50) → gN σ2 66 < 2 → gN σ2 79 = fr → gN σ2 80 = al → V G Γ yX8_triesLaws cX8_triesLaws 5 (some .boolean) [] 9 (ri fun r η => ∃ σ2, η = MH m ad σ2 η0 ∧ EL σ σ2 ∧ Cch (bfT τ) (gA σ2 50) ∧ gN σ2 52 = 0 ∧ gN σ2 67 = 0 ∧ gN σ2 66 < 2 ∧ (R = none → r = nI 0) ∧ ∀ z, R = some z → r = nI 1 ∧ gN σ2 79 = z.1 ∧ gN σ2 80 = z.2) 0 0 (MH m ad σ2 η0) 38 [some (.ref m), some (.int (pI is)), some (.int (nI gv)), some (.int (nI k)), z4] [] := by
    intro n
    induction n with
    | zero =>
      intro k gv is fr al σ2 z4 hkn hgv his hE hC h66 h79 h80
      have e4 : gN σ2 4 = tN τ 32 := (hE.1 4 (by decide) (by decide) (by decide) (by decide) (by decide) (by decide) (by decide)).trans hW.2.1.2.2.2.1
      have hgv2 : gv < 2 := by omega
      refine v_iload_n (i := 3) dX8_triesLaws_38 rfl rfl ?_
      refine v_aload_n (i := 0) dX8_triesLaws_39 rfl rfl ?_
      refine mg_laws rfl dX8_triesLaws_40 ?_
      refine vn_icmp_ge (tgt := 124) dX8_triesLaws_43 rfl (by omega) (show gN σ2 4 < _ by omega) (fun c43 => ?_) (fun c43 => ?_)
      · refine v_aload_n (i := 0) dX8_triesLaws_124 rfl rfl ?_
        refine v_iconst (v := -1) dX8_triesLaws_125 k_iconst_m1 ?_
        refine mp_without_m rfl dX8_triesLaws_126 ?_
        refine v_aload_n (i := 0) dX8_triesLaws_129 rfl rfl ?_
        refine v_iconst (v := nI 0) dX8_triesLaws_130 k_iconst_0 ?_
        refine mp_isFirst rfl (by decide) dX8_triesLaws_131 ?_
        refine v_iload_n (i := 2) dX8_triesLaws_134 rfl rfl ?_
        exact v_zret rfl (zb hgv2).1 dX8_triesLaws_135 ⟨_, rfl, _, rfl, (hE.n (by decide)).n (by decide), hC, rfl, rfl, h66, fun q => (hgv.elim (fun w => by rw [← w.2.2] at q; cases q) (fun w => by rw [w.1])), fun z q => (hgv.elim (fun w => by rw [← w.2.2] at q; cases q; exact ⟨by rw [w.1], h79, h80⟩) (fun w => by rw [w.2] at q; cases q))⟩
      · exact absurd (show k < gN σ2 4 from c43) (by omega)
    | succ n ih =>
      intro k gv is fr al σ2 z4 hkn hgv his hE hC h66 h79 h80
      have e4 : gN σ2 4 = tN τ 32 := (hE.1 4 (by decide) (by decide) (by decide) (by decide) (by decide) (by decide) (by decide)).trans hW.2.1.2.2.2.1
      have hgv2 : gv < 2 := by omega
      have hv := skS_le τ (tA τ 41) (tA τ 42) (k + 1)
      have hW1 : WX (sN σ2 52 (k + 1)) τ (tA τ 41) (tA τ 42) (k + 1) := (hE.n (k := 52) (v := k + 1) (by decide)).wx hW hC rfl (by omega)
      refine v_iload_n (i := 3) dX8_triesLaws_38 rfl rfl ?_
      refine v_aload_n (i := 0) dX8_triesLaws_39 rfl rfl ?_
      refine mg_laws rfl dX8_triesLaws_40 ?_
      refine vn_icmp_ge (tgt := 124) dX8_triesLaws_43 rfl (by omega) (show gN σ2 4 < _ by omega) (fun c43 => ?_) (fun c43 => ?_)
      · exact absurd (show gN σ2 4 ≤ k from c43) (by omega)
      · refine v_iload_n (i := 2) dX8_triesLaws_46 rfl rfl ?_
        refine vn_if_eq (tgt := 124) dX8_triesLaws_47 rfl (by omega) (fun c47 => ?_) (fun c47 => ?_)
        · refine v_aload_n (i := 0) dX8_triesLaws_124 rfl rfl ?_
          refine v_iconst (v := -1) dX8_triesLaws_125 k_iconst_m1 ?_
          refine mp_without_m rfl dX8_triesLaws_126 ?_
          refine v_aload_n (i := 0) dX8_triesLaws_129 rfl rfl ?_
          refine v_iconst (v := nI 0) dX8_triesLaws_130 k_iconst_0 ?_
          refine mp_isFirst rfl (by decide) dX8_triesLaws_131 ?_
          refine v_iload_n (i := 2) dX8_triesLaws_134 rfl rfl ?_
          exact v_zret rfl (zb hgv2).1 dX8_triesLaws_135 ⟨_, rfl, _, rfl, (hE.n (by decide)).n (by decide), hC, rfl, rfl, h66, fun q => (hgv.elim (fun w => absurd w.1 (by omega)) (fun w => by rw [w.1])), fun z q => (hgv.elim (fun w => absurd w.1 (by omega)) (fun w => by rw [w.2] at q; cases q))⟩
        · obtain ⟨g1, g2, hq⟩ := hgv.resolve_right (fun w => c47 w.1)
          have hq : (if skS τ (tA τ 41) (tA τ 42) (k + 1) = 0 then none else lawsN τ is n (k + 1) (if skS τ (tA τ 41) (tA τ 42) (k + 1) = is then fr ||| 1 * 2 ^ k else fr) (if is = 1 ∧ 2 ≤ skS τ (tA τ 41) (tA τ 42) (k + 1) then al ||| 1 * 2 ^ k else al)) = R := hq
          refine v_aload_n (i := 0) dX8_triesLaws_50 rfl rfl ?_
          refine v_iload_n (i := 3) dX8_triesLaws_51 rfl rfl ?_
          refine mp_without_n rfl dX8_triesLaws_52 ?_
          refine v_aload_n (i := 0) dX8_triesLaws_55 rfl rfl ?_
          refine v_aload_n (i := 0) dX8_triesLaws_56 rfl rfl ?_
          refine v_callVi (cX_start hap (sN σ2 52 (k + 1)) τ _ _ (k + 1) hW1) (lw_V q1912 q1914 qs54 q136 q1915) iX8_start rfl KX8 MH_m rfl rfl (by decide) (by decide) (Nat.le_of_ble_eq_true rfl) dX8_triesLaws_57 ?_
          refine v_callVI (kc' := 0) (ks' := 0) (cM_seeks hap (sN σ2 52 (k + 1)) τ _ _ (k + 1) hW1) (lw_V q2494 q2496 qs107 q136 q2497) iX8_seeks rfl KX8 MH_m rfl rfl (by decide) (by decide) (Nat.le_of_ble_eq_true rfl) (by decide) (by decide) dX8_triesLaws_60 (fun x_ η' h => ?_)
          obtain ⟨σ3, rfl, s1, s2, s3, s4, s5, rfl⟩ := h
          have hE3 : EL σ σ3 := (hE.n (by decide)).g s1
          have f79 : gN σ3 79 = fr := (s1.1 79 (by decide) (by decide) (by decide) (by decide) (by decide)).trans h79
          have f80 : gN σ3 80 = al := (s1.1 80 (by decide) (by decide) (by decide) (by decide) (by decide)).trans h80
          generalize hvv : skS τ (tA τ 41) (tA τ 42) (k + 1) = v at *
          refine v_istore (i := 4) dX8_triesLaws_63 (by decide) rfl ?_
          refine v_iload (i := 4) dX8_triesLaws_65 rfl ?_
          refine v_bipush (v := -2) dX8_triesLaws_67 k_bipush_m2 ?_
          refine v_icmp_eq (tgt := 76) dX8_triesLaws_69 rfl (fun c69 => ?_) (fun c69 => ?_)
          · have c69 : v = 0 := (pI_m2 (by omega)).mp c69
            refine v_iconst (v := nI 0) dX8_triesLaws_76 k_iconst_0 ?_
            refine v_istore_n (i := 2) dX8_triesLaws_77 rfl (by decide) rfl ?_
            refine v_iload (i := 4) dX8_triesLaws_78 rfl ?_
            refine v_iload_n (i := 1) dX8_triesLaws_80 rfl rfl ?_
            refine v_icmp_ne (tgt := 96) dX8_triesLaws_81 rfl (fun c81 => ?_) (fun c81 => ?_)
            · have c81 : ¬ v = is := fun y => c81 ((pI_inj (by omega) (by omega)).mpr y)
              refine v_iload_n (i := 1) dX8_triesLaws_96 rfl rfl ?_
              refine v_iconst (v := -1) dX8_triesLaws_97 k_iconst_m1 ?_
              refine v_icmp_ne (tgt := 118) dX8_triesLaws_98 rfl (fun c98 => ?_) (fun c98 => ?_)
              · have c98 : ¬ is = 1 := fun y => c98 ((pI_m1 (by omega)).mpr y)
                refine vn_iinc 1 dX8_triesLaws_118 rfl k_iconst_1 (by decide) rfl ?_
                refine v_goto (tgt := 38) dX8_triesLaws_121 rfl ?_
                exact ih (k + 1) 0 is fr al _ _ (by omega) (Or.inr ⟨rfl, by rw [← hq, if_pos c69]⟩) his hE3 s3 s5 f79 f80
              · have c98 : is = 1 := (pI_m1 (by omega)).mp c98
                refine v_iload (i := 4) dX8_triesLaws_101 rfl ?_
                refine v_if_lt (tgt := 118) dX8_triesLaws_103 rfl (fun c103 => ?_) (fun c103 => ?_)
                · have c103 : v < 2 := (pI_lt0 (by omega)).mp c103
                  refine vn_iinc 1 dX8_triesLaws_118 rfl k_iconst_1 (by decide) rfl ?_
                  refine v_goto (tgt := 38) dX8_triesLaws_121 rfl ?_
                  exact ih (k + 1) 0 is fr al _ _ (by omega) (Or.inr ⟨rfl, by rw [← hq, if_pos c69]⟩) his hE3 s3 s5 f79 f80
                · exact absurd (show v < 2 by omega) (fun y => c103 ((pI_lt0 (by omega)).mpr y))
            · exact absurd ((pI_inj (by omega) (by omega)).mp c81) (by omega)
          · have c69 : ¬ v = 0 := fun y => c69 ((pI_m2 (by omega)).mpr y)
            refine v_iconst (v := nI 1) dX8_triesLaws_72 k_iconst_1 ?_
            refine v_goto (tgt := 77) dX8_triesLaws_73 rfl ?_
            refine v_istore_n (i := 2) dX8_triesLaws_77 rfl (by decide) rfl ?_
            refine v_iload (i := 4) dX8_triesLaws_78 rfl ?_
            refine v_iload_n (i := 1) dX8_triesLaws_80 rfl rfl ?_
            refine v_icmp_ne (tgt := 96) dX8_triesLaws_81 rfl (fun c81 => ?_) (fun c81 => ?_)
            · have c81 : ¬ v = is := fun y => c81 ((pI_inj (by omega) (by omega)).mpr y)
              refine v_iload_n (i := 1) dX8_triesLaws_96 rfl rfl ?_
              refine v_iconst (v := -1) dX8_triesLaws_97 k_iconst_m1 ?_
              refine v_icmp_ne (tgt := 118) dX8_triesLaws_98 rfl (fun c98 => ?_) (fun c98 => ?_)
              · have c98 : ¬ is = 1 := fun y => c98 ((pI_m1 (by omega)).mpr y)
                refine vn_iinc 1 dX8_triesLaws_118 rfl k_iconst_1 (by decide) rfl ?_
                refine v_goto (tgt := 38) dX8_triesLaws_121 rfl ?_
                rw [if_neg c69, if_neg c81, if_neg (fun w => c98 w.1)] at hq
                exact ih (k + 1) 1 is fr al _ _ (by omega) (Or.inl ⟨rfl, g2, hq⟩) his hE3 s3 s5 f79 f80
              · have c98 : is = 1 := (pI_m1 (by omega)).mp c98
                refine v_iload (i := 4) dX8_triesLaws_101 rfl ?_
                refine v_if_lt (tgt := 118) dX8_triesLaws_103 rfl (fun c103 => ?_) (fun c103 => ?_)
                · have c103 : v < 2 := (pI_lt0 (by omega)).mp c103
                  refine vn_iinc 1 dX8_triesLaws_118 rfl k_iconst_1 (by decide) rfl ?_
                  refine v_goto (tgt := 38) dX8_triesLaws_121 rfl ?_
                  rw [if_neg c69, if_neg c81, if_neg (fun w => absurd w.2 (by omega))] at hq
                  exact ih (k + 1) 1 is fr al _ _ (by omega) (Or.inl ⟨rfl, g2, hq⟩) his hE3 s3 s5 f79 f80
                · have c103 : ¬ v < 2 := fun y => c103 ((pI_lt0 (by omega)).mpr y)
                  refine v_aload_n (i := 0) dX8_triesLaws_106 rfl rfl ?_
                  refine v_dup dX8_triesLaws_107 rfl ?_
                  refine mg_aloneLaws rfl dX8_triesLaws_108 ?_
                  refine v_iconst (v := nI 1) dX8_triesLaws_111 k_iconst_1 ?_
                  refine v_iload_n (i := 3) dX8_triesLaws_112 rfl rfl ?_
                  refine vn_ishl (by omega) dX8_triesLaws_113 ?_
                  refine vn_ior dX8_triesLaws_114 ?_
                  refine mp_aloneLaws rfl dX8_triesLaws_115 ?_
                  refine vn_iinc 1 dX8_triesLaws_118 rfl k_iconst_1 (by decide) rfl ?_
                  refine v_goto (tgt := 38) dX8_triesLaws_121 rfl ?_
                  rw [if_neg c69, if_neg c81, if_pos ⟨c98, by omega⟩] at hq
                  exact ih (k + 1) 1 is fr (al ||| 1 * 2 ^ k) _ _ (by omega) (Or.inl ⟨rfl, g2, hq⟩) his (hE3.n (by decide)) s3 s5 f79 (show gN σ3 80 ||| 1 * 2 ^ k = _ by rw [f80])
            · have c81 : v = is := (pI_inj (by omega) (by omega)).mp c81
              refine v_aload_n (i := 0) dX8_triesLaws_84 rfl rfl ?_
              refine v_dup dX8_triesLaws_85 rfl ?_
              refine mg_freeLaws rfl dX8_triesLaws_86 ?_
              refine v_iconst (v := nI 1) dX8_triesLaws_89 k_iconst_1 ?_
              refine v_iload_n (i := 3) dX8_triesLaws_90 rfl rfl ?_
              refine vn_ishl (by omega) dX8_triesLaws_91 ?_
              refine vn_ior dX8_triesLaws_92 ?_
              refine mp_freeLaws rfl dX8_triesLaws_93 ?_
              refine v_iload_n (i := 1) dX8_triesLaws_96 rfl rfl ?_
              refine v_iconst (v := -1) dX8_triesLaws_97 k_iconst_m1 ?_
              refine v_icmp_ne (tgt := 118) dX8_triesLaws_98 rfl (fun c98 => ?_) (fun c98 => ?_)
              · have c98 : ¬ is = 1 := fun y => c98 ((pI_m1 (by omega)).mpr y)
                refine vn_iinc 1 dX8_triesLaws_118 rfl k_iconst_1 (by decide) rfl ?_
                refine v_goto (tgt := 38) dX8_triesLaws_121 rfl ?_
                rw [if_neg c69, if_pos c81, if_neg (fun w => c98 w.1)] at hq
                exact ih (k + 1) 1 is (fr ||| 1 * 2 ^ k) al _ _ (by omega) (Or.inl ⟨rfl, g2, hq⟩) his (hE3.n (by decide)) s3 s5 (show gN σ3 79 ||| 1 * 2 ^ k = _ by rw [f79]) f80
              · have c98 : is = 1 := (pI_m1 (by omega)).mp c98
                refine v_iload (i := 4) dX8_triesLaws_101 rfl ?_
                refine v_if_lt (tgt := 118) dX8_triesLaws_103 rfl (fun c103 => ?_) (fun c103 => ?_)
                · have c103 : v < 2 := (pI_lt0 (by omega)).mp c103
                  refine vn_iinc 1 dX8_triesLaws_118 rfl k_iconst_1 (by decide) rfl ?_
                  refine v_goto (tgt := 38) dX8_triesLaws_121 rfl ?_
                  rw [if_neg c69, if_pos c81, if_neg (fun w => absurd w.2 (by omega))] at hq
                  exact ih (k + 1) 1 is (fr ||| 1 * 2 ^ k) al _ _ (by omega) (Or.inl ⟨rfl, g2, hq⟩) his (hE3.n (by decide)) s3 s5 (show gN σ3 79 ||| 1 * 2 ^ k = _ by rw [f79]) f80
                · have c103 : ¬ v < 2 := fun y => c103 ((pI_lt0 (by omega)).mpr y)
                  refine v_aload_n (i := 0) dX8_triesLaws_106 rfl rfl ?_
                  refine v_dup dX8_triesLaws_107 rfl ?_
                  refine mg_aloneLaws rfl dX8_triesLaws_108 ?_
                  refine v_iconst (v := nI 1) dX8_triesLaws_111 k_iconst_1 ?_
                  refine v_iload_n (i := 3) dX8_triesLaws_112 rfl rfl ?_
                  refine vn_ishl (by omega) dX8_triesLaws_113 ?_
                  refine vn_ior dX8_triesLaws_114 ?_
                  refine mp_aloneLaws rfl dX8_triesLaws_115 ?_
                  refine vn_iinc 1 dX8_triesLaws_118 rfl k_iconst_1 (by decide) rfl ?_
                  refine v_goto (tgt := 38) dX8_triesLaws_121 rfl ?_
                  rw [if_neg c69, if_pos c81, if_pos ⟨c98, by omega⟩] at hq
                  exact ih (k + 1) 1 is (fr ||| 1 * 2 ^ k) (al ||| 1 * 2 ^ k) _ _ (by omega) (Or.inl ⟨rfl, g2, hq⟩) his ((hE3.n (by decide)).n (by decide)) s3 s5 (show gN σ3 79 ||| 1 * 2 ^ k = _ by rw [f79]) (show gN σ3 80 ||| 1 * 2 ^ k = _ by rw [f80])
  have hv := skS_le τ (tA τ 41) (tA τ 42) 0
  refine v_aload_n (i := 0) dX8_triesLaws_0 rfl rfl ?_
  refine v_iconst (v := nI 0) dX8_triesLaws_1 k_iconst_0 ?_
  refine mp_freeLaws rfl dX8_triesLaws_2 ?_
  refine v_aload_n (i := 0) dX8_triesLaws_5 rfl rfl ?_
  refine v_iconst (v := nI 0) dX8_triesLaws_6 k_iconst_0 ?_
  refine mp_aloneLaws rfl dX8_triesLaws_7 ?_
  refine v_aload_n (i := 0) dX8_triesLaws_10 rfl rfl ?_
  refine v_iconst (v := -1) dX8_triesLaws_11 k_iconst_m1 ?_
  refine mp_without_m rfl dX8_triesLaws_12 ?_
  have hE1 : EL σ (sN (sN (sN σ 79 0) 80 0) 52 0) := (((EL.rf σ).n (by decide)).n (by decide)).n (by decide)
  have hW1 : WX (sN (sN (sN σ 79 0) 80 0) 52 0) τ (tA τ 41) (tA τ 42) 0 := hE1.wx hW hW.2.2.2.2.2.2.1 rfl (by decide)
  refine v_aload_n (i := 0) dX8_triesLaws_15 rfl rfl ?_
  refine v_aload_n (i := 0) dX8_triesLaws_16 rfl rfl ?_
  refine v_callVi (cX_start hap (sN (sN (sN σ 79 0) 80 0) 52 0) τ _ _ 0 hW1) (lw_V q1912 q1914 qs54 q136 q1915) iX8_start rfl KX8 MH_m rfl rfl (by decide) (by decide) (Nat.le_of_ble_eq_true rfl) dX8_triesLaws_17 ?_
  refine v_callVI (kc' := 0) (ks' := 0) (cM_seeks hap (sN (sN (sN σ 79 0) 80 0) 52 0) τ _ _ 0 hW1) (lw_V q2494 q2496 qs107 q136 q2497) iX8_seeks rfl KX8 MH_m rfl rfl (by decide) (by decide) (Nat.le_of_ble_eq_true rfl) (by decide) (by decide) dX8_triesLaws_20 (fun x_ η' h => ?_)
  obtain ⟨σ3, rfl, s1, s2, s3, s4, s5, rfl⟩ := h
  have hE3 : EL σ σ3 := hE1.g s1
  have f79 : gN σ3 79 = 0 := s1.1 79 (by decide) (by decide) (by decide) (by decide) (by decide)
  have f80 : gN σ3 80 = 0 := s1.1 80 (by decide) (by decide) (by decide) (by decide) (by decide)
  refine v_istore_n (i := 1) dX8_triesLaws_23 rfl (by decide) rfl ?_
  refine v_iload_n (i := 1) dX8_triesLaws_24 rfl rfl ?_
  refine v_bipush (v := -2) dX8_triesLaws_25 k_bipush_m2 ?_
  refine v_icmp_eq (tgt := 34) dX8_triesLaws_27 rfl (fun c27 => ?_) (fun c27 => ?_)
  · have c27 : skS τ (tA τ 41) (tA τ 42) 0 = 0 := (pI_m2 (by omega)).mp c27
    refine v_iconst (v := nI 0) dX8_triesLaws_34 k_iconst_0 ?_
    refine v_istore_n (i := 2) dX8_triesLaws_35 rfl (by decide) rfl ?_
    refine v_iconst (v := nI 0) dX8_triesLaws_36 k_iconst_0 ?_
    refine v_istore_n (i := 3) dX8_triesLaws_37 rfl (by decide) rfl ?_
    exact L38 (tN τ 32) 0 0 _ 0 0 σ3 _ (by omega) (Or.inr ⟨rfl, by rw [← hR]; unfold lawsT; rw [if_pos c27]⟩) hv hE3 s3 s5 f79 f80
  · have c27 : ¬ skS τ (tA τ 41) (tA τ 42) 0 = 0 := fun y => c27 ((pI_m2 (by omega)).mpr y)
    refine v_iconst (v := nI 1) dX8_triesLaws_30 k_iconst_1 ?_
    refine v_goto (tgt := 35) dX8_triesLaws_31 rfl ?_
    refine v_istore_n (i := 2) dX8_triesLaws_35 rfl (by decide) rfl ?_
    refine v_iconst (v := nI 0) dX8_triesLaws_36 k_iconst_0 ?_
    refine v_istore_n (i := 3) dX8_triesLaws_37 rfl (by decide) rfl ?_
    exact L38 (tN τ 32) 0 1 _ 0 0 σ3 _ (by omega) (Or.inl ⟨rfl, c27, by rw [← hR]; unfold lawsT; rw [if_neg c27]⟩) hv hE3 s3 s5 f79 f80
theorem cA_laws {G : Gl} {m : Nat} {ad : Nat → Nat} {η0 : AH} (hap : Mp m ad) (σ : MS) {rt : Td → Nat} (A : AS) (hG : MG rt σ A) (a : Int32) : Ct G yX8_laws cX8_laws 2 (some .int) 10 0 0 [.ref m, .int a] (MH m ad σ η0) (ap rt m ad η0 (spLaws A a) A) := by
  refine Ct.start rfl rfl (Nat.le_of_ble_eq_true rfl) (fun Γ => ?_)
  by_cases hin : inr a 2
  case neg =>
    refine v_aload_n (i := 0) dX8_laws_0 rfl rfl ?_
    refine v_iconst (v := nI 0) dX8_laws_1 k_iconst_0 ?_
    refine mp_thrown rfl dX8_laws_2 ?_
    refine v_aload_n (i := 0) dX8_laws_5 rfl rfl ?_
    refine v_iload_n (i := 1) dX8_laws_6 rfl rfl ?_
    refine v_if_eq (tgt := 15) dX8_laws_7 rfl (fun c7 => ?_) (fun c7 => ?_)
    · exact absurd ⟨0, by decide, c7⟩ hin
    · refine v_iload_n (i := 1) dX8_laws_10 rfl rfl ?_
      refine v_iconst (v := nI 1) dX8_laws_11 k_iconst_1 ?_
      refine v_icmp_ne (tgt := 19) dX8_laws_12 rfl (fun c12 => ?_) (fun c12 => ?_)
      · refine v_iconst (v := nI 0) dX8_laws_19 k_iconst_0 ?_
        refine v_iconst (v := nI 1) dX8_laws_20 k_iconst_1 ?_
        refine v_callVi (cM_right0 hap σ) (lw_V q2197 q2199 qs56 q136 q2200) iX8_right rfl KX8 MH_m rfl rfl (by decide) (by decide) (Nat.le_of_ble_eq_true rfl) dX8_laws_21 ?_
        refine vn_if_ne (tgt := 29) dX8_laws_24 rfl (by decide) (fun c24 => ?_) (fun c24 => ?_)
        · exact absurd rfl c24
        · refine v_iconst (v := nI 0) dX8_laws_27 k_iconst_0 ?_
          exact v_iret rfl dX8_laws_28 ⟨_, rfl, sN σ 0 1, rfl, hG, fun _ => rfl, fun v q => (by unfold spLaws at q; rw [nOf_none hin (by decide)] at q; cases q)⟩
      · exact absurd ⟨1, by decide, c12⟩ hin
  obtain ⟨j, hj, rfl⟩ := hin
  have hno := nOf_some hj (by decide)
  have L52 : ∀ σ2, MG rt σ2 A → gN σ2 0 = 0 → gN σ2 78 ≠ 0 → V G Γ yX8_laws cX8_laws 2 (some .int) [] 10 (ap rt m ad η0 (spLaws A (nI j)) A) 0 0 (MH m ad σ2 η0) 52 [some (.ref m), some (.int (nI j))] [] := by
    intro σ2 hG2 h00 h78
    obtain ⟨l1, l2, l3⟩ := hG2.2.2.2.2.1
    refine v_aload_n (i := 0) dX8_laws_52 rfl rfl ?_
    refine mg_lawsKnown rfl dX8_laws_53 ?_
    refine v_iconst (v := nI 2) dX8_laws_56 k_iconst_2 ?_
    refine vn_icmp_ne (tgt := 64) dX8_laws_57 rfl (show gN σ2 78 < _ by omega) (by decide) (fun c57 => ?_) (fun c57 => ?_)
    · have c57 : ¬ gN σ2 78 = 2 := c57
      have hl := l2 (by omega)
      refine v_iload_n (i := 1) dX8_laws_64 rfl rfl ?_
      refine vn_if_ne (tgt := 75) dX8_laws_65 rfl (by omega) (fun c65 => ?_) (fun c65 => ?_)
      · refine v_aload_n (i := 0) dX8_laws_75 rfl rfl ?_
        refine mg_aloneLaws rfl dX8_laws_76 ?_
        exact v_iret rfl dX8_laws_79 ⟨_, rfl, σ2, rfl, hG2, fun q => (by unfold spLaws at q; rw [hno] at q; cases q), fun v q => (by unfold spLaws at q; rw [hno] at q; simp only [Option.map_some, hl] at q; cases q; exact ⟨by rw [if_neg c65], h00⟩)⟩
      · refine v_aload_n (i := 0) dX8_laws_68 rfl rfl ?_
        refine mg_freeLaws rfl dX8_laws_69 ?_
        refine v_goto (tgt := 79) dX8_laws_72 rfl ?_
        exact v_iret rfl dX8_laws_79 ⟨_, rfl, σ2, rfl, hG2, fun q => (by unfold spLaws at q; rw [hno] at q; cases q), fun v q => (by unfold spLaws at q; rw [hno] at q; simp only [Option.map_some, hl] at q; cases q; exact ⟨by rw [if_pos c65], h00⟩)⟩
    · have c57 : gN σ2 78 = 2 := c57
      have hl := l3 c57
      refine v_iconst (v := -1) dX8_laws_60 k_iconst_m1 ?_
      refine v_goto (tgt := 79) dX8_laws_61 rfl ?_
      exact v_iret rfl dX8_laws_79 ⟨_, rfl, σ2, rfl, hG2, fun q => (by unfold spLaws at q; rw [hno] at q; cases q), fun v q => (by unfold spLaws at q; rw [hno] at q; simp only [Option.map_some, hl] at q; cases q; exact ⟨rfl, h00⟩)⟩
  refine v_aload_n (i := 0) dX8_laws_0 rfl rfl ?_
  refine v_iconst (v := nI 0) dX8_laws_1 k_iconst_0 ?_
  refine mp_thrown rfl dX8_laws_2 ?_
  refine v_aload_n (i := 0) dX8_laws_5 rfl rfl ?_
  refine v_iload_n (i := 1) dX8_laws_6 rfl rfl ?_
  refine vn_if_eq (tgt := 15) dX8_laws_7 rfl (by omega) (fun c7 => ?_) (fun c7 => ?_)
  · refine v_iconst (v := nI 1) dX8_laws_15 k_iconst_1 ?_
    refine v_goto (tgt := 20) dX8_laws_16 rfl ?_
    refine v_iconst (v := nI 1) dX8_laws_20 k_iconst_1 ?_
    refine v_callVi (cM_right1 hap σ) (lw_V q2197 q2199 qs56 q136 q2200) iX8_right rfl KX8 MH_m rfl rfl (by decide) (by decide) (Nat.le_of_ble_eq_true rfl) dX8_laws_21 ?_
    refine vn_if_ne (tgt := 29) dX8_laws_24 rfl (by decide) (fun c24 => ?_) (fun c24 => ?_)
    · refine v_aload_n (i := 0) dX8_laws_29 rfl rfl ?_
      refine mg_lawsKnown rfl dX8_laws_30 ?_
      refine vn_if_ne (tgt := 52) dX8_laws_33 rfl (show gN σ 78 < _ by have := hG.2.2.2.2.1.1; omega) (fun c33 => ?_) (fun c33 => ?_)
      · exact L52 (sN σ 0 0) hG rfl c33
      · refine v_aload_n (i := 0) dX8_laws_36 rfl rfl ?_
        refine v_aload_n (i := 0) dX8_laws_37 rfl rfl ?_
        refine v_callVI (kc' := 0) (ks' := 0) (cM_triesLaws hap (sN σ 0 0) A.1 hG.1.wx) (lw_V q2490 q2492 qs106 q136 q2493) iX8_triesLaws rfl KX8 MH_m rfl rfl (by decide) (by decide) (Nat.le_of_ble_eq_true rfl) (by decide) (by decide) dX8_laws_38 (fun x_ η' h => ?_)
        obtain ⟨σ2, rfl, t1, t2, t3, t4, t5, t6, t7⟩ := h
        have hM2 : MF σ2 A.1 := ⟨t1.mi hG.1.1, t2, t3, by omega, t5, fun q => by omega⟩
        have h00 : gN σ2 0 = 0 := t1.1 0 (by decide) (by decide) (by decide) (by decide) (by decide) (by decide) (by decide)
        cases hl : lawsT A.1
        · obtain rfl := t6 hl
          refine vn_if_eq (tgt := 48) dX8_laws_41 rfl (by decide) (fun c41 => ?_) (fun c41 => ?_)
          · refine v_iconst (v := nI 2) dX8_laws_48 k_iconst_2 ?_
            refine mp_lawsKnown rfl dX8_laws_49 ?_
            exact L52 (sN σ2 78 2) (MG.laws (σ := sN σ 0 0) hG t1 hM2 ⟨by show 2 < 3; decide, fun q => absurd q (by show ¬ 2 = 1; decide), fun _ => hl⟩) h00 (by show 2 ≠ 0; decide)
          · exact absurd rfl c41
        · rename_i zz
          obtain ⟨rfl, t8, t9⟩ := t7 zz hl
          refine vn_if_eq (tgt := 48) dX8_laws_41 rfl (by decide) (fun c41 => ?_) (fun c41 => ?_)
          · exact absurd c41 (by decide)
          · refine v_iconst (v := nI 1) dX8_laws_44 k_iconst_1 ?_
            refine v_goto (tgt := 49) dX8_laws_45 rfl ?_
            refine mp_lawsKnown rfl dX8_laws_49 ?_
            exact L52 (sN σ2 78 1) (MG.laws (σ := sN σ 0 0) hG t1 hM2 ⟨by show 1 < 3; decide, fun _ => (by rw [hl]; show _ = some (gN σ2 79, gN σ2 80); rw [t8, t9]), fun q => absurd q (by show ¬ 1 = 2; decide)⟩) h00 (by show 1 ≠ 0; decide)
    · exact absurd c24 (by decide)
  · refine v_iload_n (i := 1) dX8_laws_10 rfl rfl ?_
    refine v_iconst (v := nI 1) dX8_laws_11 k_iconst_1 ?_
    refine vn_icmp_ne (tgt := 19) dX8_laws_12 rfl (by omega) (by decide) (fun c12 => ?_) (fun c12 => ?_)
    · omega
    · refine v_iconst (v := nI 1) dX8_laws_15 k_iconst_1 ?_
      refine v_goto (tgt := 20) dX8_laws_16 rfl ?_
      refine v_iconst (v := nI 1) dX8_laws_20 k_iconst_1 ?_
      refine v_callVi (cM_right1 hap σ) (lw_V q2197 q2199 qs56 q136 q2200) iX8_right rfl KX8 MH_m rfl rfl (by decide) (by decide) (Nat.le_of_ble_eq_true rfl) dX8_laws_21 ?_
      refine vn_if_ne (tgt := 29) dX8_laws_24 rfl (by decide) (fun c24 => ?_) (fun c24 => ?_)
      · refine v_aload_n (i := 0) dX8_laws_29 rfl rfl ?_
        refine mg_lawsKnown rfl dX8_laws_30 ?_
        refine vn_if_ne (tgt := 52) dX8_laws_33 rfl (show gN σ 78 < _ by have := hG.2.2.2.2.1.1; omega) (fun c33 => ?_) (fun c33 => ?_)
        · exact L52 (sN σ 0 0) hG rfl c33
        · refine v_aload_n (i := 0) dX8_laws_36 rfl rfl ?_
          refine v_aload_n (i := 0) dX8_laws_37 rfl rfl ?_
          refine v_callVI (kc' := 0) (ks' := 0) (cM_triesLaws hap (sN σ 0 0) A.1 hG.1.wx) (lw_V q2490 q2492 qs106 q136 q2493) iX8_triesLaws rfl KX8 MH_m rfl rfl (by decide) (by decide) (Nat.le_of_ble_eq_true rfl) (by decide) (by decide) dX8_laws_38 (fun x_ η' h => ?_)
          obtain ⟨σ2, rfl, t1, t2, t3, t4, t5, t6, t7⟩ := h
          have hM2 : MF σ2 A.1 := ⟨t1.mi hG.1.1, t2, t3, by omega, t5, fun q => by omega⟩
          have h00 : gN σ2 0 = 0 := t1.1 0 (by decide) (by decide) (by decide) (by decide) (by decide) (by decide) (by decide)
          cases hl : lawsT A.1
          · obtain rfl := t6 hl
            refine vn_if_eq (tgt := 48) dX8_laws_41 rfl (by decide) (fun c41 => ?_) (fun c41 => ?_)
            · refine v_iconst (v := nI 2) dX8_laws_48 k_iconst_2 ?_
              refine mp_lawsKnown rfl dX8_laws_49 ?_
              exact L52 (sN σ2 78 2) (MG.laws (σ := sN σ 0 0) hG t1 hM2 ⟨by show 2 < 3; decide, fun q => absurd q (by show ¬ 2 = 1; decide), fun _ => hl⟩) h00 (by show 2 ≠ 0; decide)
            · exact absurd rfl c41
          · rename_i zz
            obtain ⟨rfl, t8, t9⟩ := t7 zz hl
            refine vn_if_eq (tgt := 48) dX8_laws_41 rfl (by decide) (fun c41 => ?_) (fun c41 => ?_)
            · exact absurd c41 (by decide)
            · refine v_iconst (v := nI 1) dX8_laws_44 k_iconst_1 ?_
              refine v_goto (tgt := 49) dX8_laws_45 rfl ?_
              refine mp_lawsKnown rfl dX8_laws_49 ?_
              exact L52 (sN σ2 78 1) (MG.laws (σ := sN σ 0 0) hG t1 hM2 ⟨by show 1 < 3; decide, fun _ => (by rw [hl]; show _ = some (gN σ2 79, gN σ2 80); rw [t8, t9]), fun q => absurd q (by show ¬ 1 = 2; decide)⟩) h00 (by show 1 ≠ 0; decide)
      · exact absurd c24 (by decide)
