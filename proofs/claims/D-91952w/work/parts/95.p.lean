set_option maxRecDepth 100000
def lcT (τ : Td) (x : Nat) : Nat := if tN τ 33 = 0 then 0 else la x + 1
theorem lcT_le (τ : Td) (x : Nat) : lcT τ x ≤ 4 := by
  have := la_lt x
  unfold lcT
  split <;> omega
/-- the place p, of the tag t, in the world w stands for x -/
def Pl (η : AH) (t p w : Nat) (τ : Td) (x : Nat) : Prop := ∃ (ad : Nat → Nat) (π : MS), GO scX7 η (some t) p ad π ∧ gN π 0 = w + 1 ∧ gN π 3 = lcT τ x ∧ (∀ b, b < tN τ 31 → gA π 1 b = bo x b) ∧ ∀ s, s < 4 → gA π 2 s = setN x s (tN τ 30)
/-- .. a place of that world -/
def P0 (η : AH) (t p w : Nat) : Prop := ∃ (ad : Nat → Nat) (π : MS), GO scX7 η (some t) p ad π ∧ gN π 0 = w + 1
theorem Pl.p0 {η : AH} {t p w : Nat} {τ : Td} {x : Nat} (h : Pl η t p w τ x) : P0 η t p w := by
  obtain ⟨ad, π, h1, h2, -⟩ := h
  exact ⟨ad, π, h1, h2⟩
theorem Pl.kp {lo hi : Nat} {η η' : AH} {t p w : Nat} {τ : Td} {x : Nat} (h : Pl η t p w τ x) (hk : Kp lo hi η η') (ho : t < lo ∨ hi ≤ t) : Pl η' t p w τ x := by
  obtain ⟨ad, π, h1, h2⟩ := h
  exact ⟨ad, π, h1.kpS hk ho, h2⟩
theorem P0.kp {lo hi : Nat} {η η' : AH} {t p w : Nat} (h : P0 η t p w) (hk : Kp lo hi η η') (ho : t < lo ∨ hi ≤ t) : P0 η' t p w := by
  obtain ⟨ad, π, h1, h2⟩ := h
  exact ⟨ad, π, h1.kpS hk ho, h2⟩
theorem Pl.rcv {η : AH} {t p w : Nat} {τ : Td} {x : Nat} (h : Pl η t p w τ x) : ∃ z : Option Nat × (Nat → Value), η p = some (z.1, ob 8 z.2) := by
  obtain ⟨ad, π, h1, -⟩ := h
  exact h1.rcv
theorem P0.rcv {η : AH} {t p w : Nat} (h : P0 η t p w) : ∃ z : Option Nat × (Nat → Value), η p = some (z.1, ob 8 z.2) := by
  obtain ⟨ad, π, h1, -⟩ := h
  exact h1.rcv
theorem WdL.rcv {G : Gl} {η : AH} {w : Nat} {τ : Td} {ad L : Nat → Nat} (h : WdL G η w τ ad L) : ∃ z : Option Nat × (Nat → Value), η w = some (z.1, ob 1 z.2) := h.2.1.rcv
theorem Wd.rcv {G : Gl} {η : AH} {w : Nat} {τ : Td} (h : Wd G η w τ) : ∃ z : Option Nat × (Nat → Value), η w = some (z.1, ob 1 z.2) := by
  obtain ⟨ad, L, h⟩ := h
  exact h.rcv
theorem setN_b (x s k T : Nat) (hk : k < T) : setN x s T / 2 ^ k % 2 = if th x k = s then 1 else 0 := by
  have h := setN_tb x s k T
  rw [← tb_m] at h
  by_cases c : th x k = s
  · rw [if_pos c]
    exact h.mpr ⟨hk, c⟩
  · rw [if_neg c]
    have h1 : ¬ setN x s T / 2 ^ k % 2 = 1 := fun q => c (h.mp q).2
    have h2 := Nat.mod_lt (setN x s T / 2 ^ k) (show 0 < 2 by decide)
    omega
theorem setN_st {τ : Td} (h : TB τ) (s : Nat) : setN (stT τ) s (tN τ 30) = if s = 0 then 2 ^ tN τ 30 - 1 else 0 := by
  have h4 := h.at4
  obtain ⟨⟨b1, b2, b3, b4, b5, b6, b7⟩, -⟩ := h
  have ht : ∀ t, t < tN τ 30 → th (stT τ) t = 0 := fun t ht => th_st0 b4 h4 (by omega) (by omega)
  apply Nat.eq_of_testBit_eq
  intro i
  rw [Bool.eq_iff_iff, setN_tb]
  by_cases c : s = 0
  · rw [if_pos c, c, Nat.testBit_two_pow_sub_one, decide_eq_true_eq]
    exact ⟨fun q => q.1, fun q => ⟨q, ht i q⟩⟩
  · rw [if_neg c, Nat.zero_testBit]
    exact ⟨fun q => absurd (ht i q.1 ▸ q.2).symm c, fun q => absurd q (by decide)⟩
theorem lcT_st {τ : Td} (h : TB τ) : lcT τ (stT τ) = tN τ 33 := by
  have h4 := h.at4
  obtain ⟨⟨b1, b2, b3, b4, b5, b6, b7⟩, -⟩ := h
  unfold lcT
  by_cases c : tN τ 33 = 0
  · rw [if_pos c, c]
  · rw [if_neg c]
    show la (st0 _ _ _) + 1 = _
    rw [la_st0 b4 h4 (by omega)]
    omega
theorem bo_st {τ : Td} (h : TB τ) (b : Nat) (hb : b < tN τ 31) : bo (stT τ) b = tA τ 43 b := by
  have h4 := h.at4
  obtain ⟨⟨b1, b2, b3, b4, b5, b6, b7⟩, -⟩ := h
  show bo (st0 _ _ _) b = _
  rw [bo_st0 h4 (by omega) (by omega), if_pos hb]
theorem cP_isGoal {G : Gl} {η : AH} {w : Nat} {τ : Td} (hW : Wd G η w τ) {t p x : Nat} (hP : Pl η t p w τ x) : Ct G yX7_isGoal cX7_isGoal 1 (some .boolean) 1 (0) (0) [.ref p] η (re (some (.int (nI (if setN x (tN τ 29 - 1) (tN τ 30) = 2 ^ tN τ 30 - 1 then 1 else 0)))) η) := by
  refine Ct.start rfl rfl (Nat.le_of_ble_eq_true rfl) (fun Γ => ?_)
  have hWW := hW
  obtain ⟨ad, L, hTB, hWo, hWw, hWb, ⟨xl, cl, hWl, hWln⟩, hWr⟩ := hW
  obtain ⟨⟨wb1, wb2, wb3, wb4, wb5, wb6, wb7⟩, wb8, wb9, wb10, wb11, wb12⟩ := id hTB
  obtain ⟨adp, π, hPo, p0, p3, p1, p2⟩ := hP
  have hs := setN_256 x (tN τ 29 - 1) wb3
  have h2 : 2 ^ tN τ 30 ≤ 2 ^ 8 := p2_le wb3
  refine v_aload_n (i := 0) dX7_isGoal_0 rfl rfl ?_
  refine go_getA hPo KX7 2 (by decide) (by decide) q514 dX7_isGoal_1 ?_
  refine v_aload_n (i := 0) dX7_isGoal_4 rfl rfl ?_
  refine go_get3 hPo KX7 0 (by decide) rfl (w) p0 q508 dX7_isGoal_5 ?_
  refine go_get0N hWo KX2 0 (by decide) rfl (tN τ 29) rfl q209 dX7_isGoal_8 ?_
  refine v_iconst (v := nI 1) dX7_isGoal_11 k_iconst_1 ?_
  refine vn_isub (by omega) dX7_isGoal_12 ?_
  refine go_ld10 hPo 2 (by decide) rfl (show _ < 4 from (by omega)) (by decide) _ (p2 _ (by omega)) dX7_isGoal_13 ?_
  refine v_aload_n (i := 0) dX7_isGoal_14 rfl rfl ?_
  refine go_get3 hPo KX7 0 (by decide) rfl (w) p0 q508 dX7_isGoal_15 ?_
  refine v_callVe (cW_all hWW) (lw_V q536 q537 q538 q120 q539) iX2_all rfl KX2 hWo.rcv rfl rfl (by decide) (by decide) (Nat.le_of_ble_eq_true rfl) (Nat.le_refl _) (Nat.le_refl _) dX7_isGoal_18 (kr_ei ?_) kx_e
  refine vn_icmp_ne (tgt := 28) dX7_isGoal_21 rfl (by omega) (by omega) (fun c21 => ?_) (fun c21 => ?_)
  · refine v_iconst (v := nI 0) dX7_isGoal_28 k_iconst_0 ?_
    exact v_zret rfl rfl dX7_isGoal_29 (by rw [if_neg c21]; exact ⟨rfl, rfl⟩)
  · refine v_iconst (v := nI 1) dX7_isGoal_24 k_iconst_1 ?_
    refine v_goto (tgt := 29) dX7_isGoal_25 rfl ?_
    exact v_zret rfl rfl dX7_isGoal_29 (by rw [if_pos c21]; exact ⟨rfl, rfl⟩)
theorem cP_shoreOf {G : Gl} {η : AH} {w : Nat} {τ : Td} (hW : Wd G η w τ) {t p x : Nat} (hP : Pl η t p w τ x) {k : Nat} (hk : k < tN τ 30) : Ct G yX7_shoreOf cX7_shoreOf 3 (some .int) 0 (0) (0) [.ref p, .int (nI k)] η (re (some (.int (nI (th x k)))) η) := by
  refine Ct.start rfl rfl (Nat.le_of_ble_eq_true rfl) (fun Γ => ?_)
  obtain ⟨ad, L, hTB, hWo, hWw, hWb, ⟨xl, cl, hWl, hWln⟩, hWr⟩ := hW
  obtain ⟨⟨wb1, wb2, wb3, wb4, wb5, wb6, wb7⟩, wb8, wb9, wb10, wb11, wb12⟩ := id hTB
  obtain ⟨adp, π, hPo, p0, p3, p1, p2⟩ := hP
  have h4 := th4 x k
  have L0 : ∀ (n : Nat) (sh : Nat), th x k - sh = n → sh ≤ th x k → V G Γ yX7_shoreOf cX7_shoreOf 3 (some .int) [] 0 (re (some (.int (nI (th x k)))) η) (0) (0) (η) 2 [some (.ref p), some (.int (nI k)), some (.int (nI sh))] [] := by
    intro n
    induction n using Nat.strongRecOn with
    | _ n ih =>
      intro sh hn hs
      have hsb := setN_b x sh k (tN τ 30) hk
      have hs2 := setN_256 x sh wb3
      refine v_aload_n (i := 0) dX7_shoreOf_2 rfl rfl ?_
      refine go_getA hPo KX7 2 (by decide) (by decide) q514 dX7_shoreOf_3 ?_
      refine v_iload_n (i := 2) dX7_shoreOf_6 rfl rfl ?_
      refine go_ld10 hPo 2 (by decide) rfl (show _ < 4 from (by omega)) (by decide) _ (p2 _ (by omega)) dX7_shoreOf_7 ?_
      refine v_iload_n (i := 1) dX7_shoreOf_8 rfl rfl ?_
      refine vn_ishr (by omega) (by omega) dX7_shoreOf_9 ?_
      refine v_iconst (v := nI 1) dX7_shoreOf_10 k_iconst_1 ?_
      refine vn_and1 dX7_shoreOf_11 ?_
      refine vn_if_ne (tgt := 21) dX7_shoreOf_12 rfl (by omega) (fun c12 => ?_) (fun c12 => ?_)
      · have e : th x k = sh := by
          by_cases q : th x k = sh
          · exact q
          · rw [if_neg q] at hsb; omega
        refine v_iload_n (i := 2) dX7_shoreOf_21 rfl rfl ?_
        exact v_iret rfl dX7_shoreOf_22 ⟨by rw [e], rfl⟩
      · have e : ¬ th x k = sh := fun q => by rw [if_pos q] at hsb; omega
        refine vn_iinc 1 dX7_shoreOf_15 rfl k_iconst_1 (by decide) rfl ?_
        refine v_goto (tgt := 2) dX7_shoreOf_18 rfl ?_
        exact ih _ (by omega) (sh + 1) rfl (by omega)
  refine v_iconst (v := nI 0) dX7_shoreOf_0 k_iconst_0 ?_
  refine v_istore_n (i := 2) dX7_shoreOf_1 rfl (by decide) rfl ?_
  exact L0 _ 0 rfl (by omega)
theorem cP_code {G : Gl} {η : AH} {w : Nat} {τ : Td} (hW : Wd G η w τ) {t p x : Nat} (hP : Pl η t p w τ x) : Ct G yX7_code cX7_code 3 (some .int) 1 (0) (0) [.ref p] η (re (some (.int (nI (cdT τ x)))) η) := by
  refine Ct.start rfl rfl (Nat.le_of_ble_eq_true rfl) (fun Γ => ?_)
  have hPP := hP
  have hWW := hW
  obtain ⟨ad, L, hTB, hWo, hWw, hWb, ⟨xl, cl, hWl, hWln⟩, hWr⟩ := hW
  obtain ⟨⟨wb1, wb2, wb3, wb4, wb5, wb6, wb7⟩, wb8, wb9, wb10, wb11, wb12⟩ := id hTB
  obtain ⟨xb, cb, hBl, hBn, hBo⟩ := hWb
  obtain ⟨adp, π, hPo, p0, p3, p1, p2⟩ := hP
  have hlc := lcT_le τ x
  have LB : ∀ (n b : Nat) (z : Option Value), b + n = tN τ 31 → V G Γ yX7_code cX7_code 3 (some .int) [] 1 (re (some (.int (nI (cdT τ x)))) η) (0) (0) (η) 33 [some (.ref p), some (.int (nI (cdB x (cdA x (tN τ 30)) b))), some (.int (nI b))] [] := by
    intro n
    induction n with
    | zero =>
      intro b z hn
      have e : b = tN τ 31 := by omega
      subst e
      refine v_iload_n (i := 2) dX7_code_33 rfl rfl ?_
      refine v_aload_n (i := 0) dX7_code_34 rfl rfl ?_
      refine go_get3 hPo KX7 0 (by decide) rfl (w) p0 q508 dX7_code_35 ?_
      refine go_get3N hWo KX2 8 (by decide) rfl (L 8) rfl q238 dX7_code_38 ?_
      refine v_Lsize hBl q541 (by decide) (Nat.le_of_ble_eq_true rfl) dX7_code_41 ?_
      refine v_top (x' := nI (tN τ 31)) (by rw [hBn]) ?_
      refine vn_icmp_ge (tgt := 66) dX7_code_46 rfl (by omega) (by omega) (fun c46 => ?_) (fun c46 => ?_)
      · refine v_iload_n (i := 1) dX7_code_66 rfl rfl ?_
        refine v_iconst (v := nI 4) dX7_code_67 k_iconst_4 ?_
        refine vn_imul dX7_code_68 ?_
        refine v_iconst (v := nI 0) dX7_code_69 k_iconst_0 ?_
        refine v_aload_n (i := 0) dX7_code_70 rfl rfl ?_
        refine go_get1 hPo KX7 3 (by decide) rfl (lcT τ x) p3 q519 dX7_code_71 ?_
        refine v_mmax q651 (oI_max0 (by omega)) (by decide) (Nat.le_of_ble_eq_true rfl) dX7_code_74 ?_
        refine vn_iadd dX7_code_77 ?_
        exact v_iret rfl dX7_code_78 (by
          have e : lcT τ x - 1 = if tN τ 33 = 0 then 0 else la x := by unfold lcT; split <;> omega
          rw [e]
          exact ⟨rfl, rfl⟩)
      · exact absurd (show tN τ 31 < tN τ 31 from c46) (by omega)
    | succ n ih =>
      intro b z hn
      refine v_iload_n (i := 2) dX7_code_33 rfl rfl ?_
      refine v_aload_n (i := 0) dX7_code_34 rfl rfl ?_
      refine go_get3 hPo KX7 0 (by decide) rfl (w) p0 q508 dX7_code_35 ?_
      refine go_get3N hWo KX2 8 (by decide) rfl (L 8) rfl q238 dX7_code_38 ?_
      refine v_Lsize hBl q541 (by decide) (Nat.le_of_ble_eq_true rfl) dX7_code_41 ?_
      refine v_top (x' := nI (tN τ 31)) (by rw [hBn]) ?_
      refine vn_icmp_ge (tgt := 66) dX7_code_46 rfl (by omega) (by omega) (fun c46 => ?_) (fun c46 => ?_)
      · exact absurd (show tN τ 31 ≤ b from c46) (by omega)
      · refine v_iload_n (i := 1) dX7_code_49 rfl rfl ?_
        refine v_iconst (v := nI 4) dX7_code_50 k_iconst_4 ?_
        refine vn_imul dX7_code_51 ?_
        refine v_aload_n (i := 0) dX7_code_52 rfl rfl ?_
        refine go_getA hPo KX7 1 (by decide) (by decide) q509 dX7_code_53 ?_
        refine v_iload_n (i := 2) dX7_code_56 rfl rfl ?_
        refine go_ld10 hPo 1 (by decide) rfl (show _ < 2 from (by omega)) (by decide) _ (p1 _ (by omega)) dX7_code_57 ?_
        refine vn_iadd dX7_code_58 ?_
        refine v_istore_n (i := 1) dX7_code_59 rfl (by decide) rfl ?_
        refine vn_iinc 1 dX7_code_60 rfl k_iconst_1 (by decide) rfl ?_
        refine v_goto (tgt := 33) dX7_code_63 rfl ?_
        exact ih (b + 1) none (by omega)
  have LA : ∀ (n k : Nat) (z : Option Value), k + n = tN τ 30 → V G Γ yX7_code cX7_code 3 (some .int) [] 1 (re (some (.int (nI (cdT τ x)))) η) (0) (0) (η) 4 [some (.ref p), some (.int (nI (cdA x k))), some (.int (nI k))] [] := by
    intro n
    induction n with
    | zero =>
      intro k z hn
      have e : k = tN τ 30 := by omega
      subst e
      refine v_iload_n (i := 2) dX7_code_4 rfl rfl ?_
      refine v_aload_n (i := 0) dX7_code_5 rfl rfl ?_
      refine go_get3 hPo KX7 0 (by decide) rfl (w) p0 q508 dX7_code_6 ?_
      refine go_get0N hWo KX2 1 (by decide) rfl (tN τ 30) rfl q215 dX7_code_9 ?_
      refine vn_icmp_ge (tgt := 31) dX7_code_12 rfl (by omega) (by omega) (fun c12 => ?_) (fun c12 => ?_)
      · refine v_iconst (v := nI 0) dX7_code_31 k_iconst_0 ?_
        refine v_istore_n (i := 2) dX7_code_32 rfl (by decide) rfl ?_
        exact LB _ 0 none (Nat.zero_add _)
      · exact absurd (show tN τ 30 < tN τ 30 from c12) (by omega)
    | succ n ih =>
      intro k z hn
      refine v_iload_n (i := 2) dX7_code_4 rfl rfl ?_
      refine v_aload_n (i := 0) dX7_code_5 rfl rfl ?_
      refine go_get3 hPo KX7 0 (by decide) rfl (w) p0 q508 dX7_code_6 ?_
      refine go_get0N hWo KX2 1 (by decide) rfl (tN τ 30) rfl q215 dX7_code_9 ?_
      refine vn_icmp_ge (tgt := 31) dX7_code_12 rfl (by omega) (by omega) (fun c12 => ?_) (fun c12 => ?_)
      · exact absurd (show tN τ 30 ≤ k from c12) (by omega)
      · refine v_iload_n (i := 1) dX7_code_15 rfl rfl ?_
        refine v_iconst (v := nI 4) dX7_code_16 k_iconst_4 ?_
        refine vn_imul dX7_code_17 ?_
        refine v_aload_n (i := 0) dX7_code_18 rfl rfl ?_
        refine v_iload_n (i := 2) dX7_code_19 rfl rfl ?_
        refine v_callVe (cP_shoreOf hWW hPP (k := k) (by omega)) (lw_V q647 q648 q649 q135 q650) iX7_shoreOf rfl KX7 hPo.rcv rfl rfl (by decide) (by decide) (Nat.le_of_ble_eq_true rfl) (Nat.le_refl _) (Nat.le_refl _) dX7_code_20 (kr_ei ?_) kx_e
        refine vn_iadd dX7_code_23 ?_
        refine v_istore_n (i := 1) dX7_code_24 rfl (by decide) rfl ?_
        refine vn_iinc 1 dX7_code_25 rfl k_iconst_1 (by decide) rfl ?_
        refine v_goto (tgt := 4) dX7_code_28 rfl ?_
        exact ih (k + 1) none (by omega)
  refine v_iconst (v := nI 0) dX7_code_0 k_iconst_0 ?_
  refine v_istore_n (i := 1) dX7_code_1 rfl (by decide) rfl ?_
  refine v_iconst (v := nI 0) dX7_code_2 k_iconst_0 ?_
  refine v_istore_n (i := 2) dX7_code_3 rfl (by decide) rfl ?_
  exact LA _ 0 none (Nat.zero_add _)
theorem cP_boatsAt {G : Gl} {η : AH} {w : Nat} {τ : Td} (hW : Wd G η w τ) {t p x : Nat} (hP : Pl η t p w τ x) {sh gb : Nat} (hsh : sh < 2147483648) (hgb : gb < 2147483648) : Ct G yX7_boatsAt cX7_boatsAt 5 (some .int) 1 (0) (0) [.ref p, .int (nI sh), .int (nI gb)] η (re (some (.int (nI (thereN x gb sh (tN τ 31))))) η) := by
  refine Ct.start rfl rfl (Nat.le_of_ble_eq_true rfl) (fun Γ => ?_)
  obtain ⟨ad, L, hTB, hWo, hWw, hWb, ⟨xl, cl, hWl, hWln⟩, hWr⟩ := hW
  obtain ⟨⟨wb1, wb2, wb3, wb4, wb5, wb6, wb7⟩, wb8, wb9, wb10, wb11, wb12⟩ := id hTB
  obtain ⟨xb, cb, hBl, hBn, hBo⟩ := hWb
  obtain ⟨adp, π, hPo, p0, p3, p1, p2⟩ := hP
  have L0 : ∀ (n : Nat) (b v : Nat), tN τ 31 - b = n → b ≤ tN τ 31 → v = thereN x gb sh b → V G Γ yX7_boatsAt cX7_boatsAt 5 (some .int) [] 1 (re (some (.int (nI (thereN x gb sh (tN τ 31))))) η) (0) (0) (η) 5 [some (.ref p), some (.int (nI sh)), some (.int (nI gb)), some (.int (nI v)), some (.int (nI b))] [] := by
    intro n
    induction n using Nat.strongRecOn with
    | _ n ih =>
      intro b v hn hb hv
      have hbl := bo_lt x b
      refine v_iload (i := 4) dX7_boatsAt_5 rfl ?_
      refine v_aload_n (i := 0) dX7_boatsAt_7 rfl rfl ?_
      refine go_get3 hPo KX7 0 (by decide) rfl (w) p0 q508 dX7_boatsAt_8 ?_
      refine go_get3N hWo KX2 8 (by decide) rfl (L 8) rfl q238 dX7_boatsAt_11 ?_
      refine v_Lsize hBl q541 (by decide) (Nat.le_of_ble_eq_true rfl) dX7_boatsAt_14 ?_
      refine v_top (x' := nI (tN τ 31)) (by rw [hBn]) ?_
      refine vn_icmp_ge (tgt := 51) dX7_boatsAt_19 rfl (by omega) (by omega) (fun c19 => ?_) (fun c19 => ?_)
      · have e : b = tN τ 31 := by omega
        subst e
        refine v_iload_n (i := 3) dX7_boatsAt_51 rfl rfl ?_
        exact v_iret rfl dX7_boatsAt_52 ⟨by rw [hv], rfl⟩
      · refine v_iload_n (i := 2) dX7_boatsAt_22 rfl rfl ?_
        refine v_iload (i := 4) dX7_boatsAt_23 rfl ?_
        refine vn_ishr (by omega) (by omega) dX7_boatsAt_25 ?_
        refine v_iconst (v := nI 1) dX7_boatsAt_26 k_iconst_1 ?_
        refine vn_and1 dX7_boatsAt_27 ?_
        refine vn_if_ne (tgt := 45) dX7_boatsAt_28 rfl (by omega) (fun c28 => ?_) (fun c28 => ?_)
        · refine vn_iinc 1 dX7_boatsAt_45 rfl k_iconst_1 (by decide) rfl ?_
          refine v_goto (tgt := 5) dX7_boatsAt_48 rfl ?_
          exact ih _ (by omega) (b + 1) _ rfl (by omega) (by rw [hv]; show _ = thereN x gb sh b + (if bt gb b = 0 ∧ bo x b = sh then 1 else 0); rw [if_neg (fun q => by have := q.1; unfold bt at this; omega)]; rfl)
        · refine v_aload_n (i := 0) dX7_boatsAt_31 rfl rfl ?_
          refine go_getA hPo KX7 1 (by decide) (by decide) q509 dX7_boatsAt_32 ?_
          refine v_iload (i := 4) dX7_boatsAt_35 rfl ?_
          refine go_ld10 hPo 1 (by decide) rfl (show _ < 2 from (by omega)) (by decide) _ (p1 _ (by omega)) dX7_boatsAt_37 ?_
          refine v_iload_n (i := 1) dX7_boatsAt_38 rfl rfl ?_
          refine vn_icmp_ne (tgt := 45) dX7_boatsAt_39 rfl (by omega) (by omega) (fun c39 => ?_) (fun c39 => ?_)
          · refine vn_iinc 1 dX7_boatsAt_45 rfl k_iconst_1 (by decide) rfl ?_
            refine v_goto (tgt := 5) dX7_boatsAt_48 rfl ?_
            exact ih _ (by omega) (b + 1) _ rfl (by omega) (by rw [hv]; show _ = thereN x gb sh b + (if bt gb b = 0 ∧ bo x b = sh then 1 else 0); rw [if_neg (fun q => c39 q.2)]; rfl)
          · refine vn_iinc 1 dX7_boatsAt_42 rfl k_iconst_1 (by decide) rfl ?_
            refine vn_iinc 1 dX7_boatsAt_45 rfl k_iconst_1 (by decide) rfl ?_
            refine v_goto (tgt := 5) dX7_boatsAt_48 rfl ?_
            exact ih _ (by omega) (b + 1) _ rfl (by omega) (by rw [hv]; show _ = thereN x gb sh b + (if bt gb b = 0 ∧ bo x b = sh then 1 else 0); rw [if_pos ⟨by unfold bt; omega, by omega⟩])
  refine v_iconst (v := nI 0) dX7_boatsAt_0 k_iconst_0 ?_
  refine v_istore_n (i := 3) dX7_boatsAt_1 rfl (by decide) rfl ?_
  refine v_iconst (v := nI 0) dX7_boatsAt_2 k_iconst_0 ?_
  refine v_istore (i := 4) dX7_boatsAt_3 (by decide) rfl ?_
  exact L0 _ 0 0 rfl (by omega) rfl
theorem cP_barred {G : Gl} {η : AH} {w : Nat} {τ : Td} (hW : Wd G η w τ) {t p x : Nat} (hP : Pl η t p w τ x) {gb gone : Nat} (hgb : gb < 2147483648) : Ct G yX7_barred cX7_barred 5 (some .int) 2 (0) (0) [.ref p, .int (nI gb), .int (nI gone)] η (re (some (.int (nI (bsN (bfT τ) (tN τ 30) (tN τ 31) (tN τ 33) x gone gb (if gb = 0 then 0 else 1) (tN τ 29))))) η) := by
  refine Ct.start rfl rfl (Nat.le_of_ble_eq_true rfl) (fun Γ => ?_)
  have hPP := hP
  have hWW := hW
  obtain ⟨ad, L, hTB, hWo, hWw, hWb, ⟨xl, cl, hWl, hWln⟩, hWr⟩ := hW
  obtain ⟨⟨wb1, wb2, wb3, wb4, wb5, wb6, wb7⟩, wb8, wb9, wb10, wb11, wb12⟩ := id hTB
  obtain ⟨adp, π, hPo, p0, p3, p1, p2⟩ := hP
  obtain ⟨g4, c4, d4⟩ := hWr
  have hM : 2 ^ tN τ 30 < 2 ^ 31 := Nat.lt_of_le_of_lt (p2_le wb3) (by decide)
  have hlc := lcT_le τ x
  have L0 : ∀ (n : Nat) (sh v : Nat), tN τ 29 - sh = n → sh ≤ tN τ 29 → v = bsN (bfT τ) (tN τ 30) (tN τ 31) (tN τ 33) x gone gb (if gb = 0 then 0 else 1) sh → V G Γ yX7_barred cX7_barred 5 (some .int) [] 2 (re (some (.int (nI (bsN (bfT τ) (tN τ 30) (tN τ 31) (tN τ 33) x gone gb (if gb = 0 then 0 else 1) (tN τ 29))))) η) (0) (0) (η) 5 [some (.ref p), some (.int (nI gb)), some (.int (nI gone)), some (.int (nI v)), some (.int (nI sh))] [] := by
    intro n
    induction n using Nat.strongRecOn with
    | _ n ih =>
      intro sh v hn hsh hv
      refine v_iload (i := 4) dX7_barred_5 rfl ?_
      refine v_aload_n (i := 0) dX7_barred_7 rfl rfl ?_
      refine go_get3 hPo KX7 0 (by decide) rfl (w) p0 q508 dX7_barred_8 ?_
      refine go_get0N hWo KX2 0 (by decide) rfl (tN τ 29) rfl q209 dX7_barred_11 ?_
      refine vn_icmp_ge (tgt := 75) dX7_barred_14 rfl (by omega) (by omega) (fun c14 => ?_) (fun c14 => ?_)
      · have e : sh = tN τ 29 := by omega
        subst e
        refine v_iload_n (i := 3) dX7_barred_75 rfl rfl ?_
        exact v_iret rfl dX7_barred_76 ⟨by rw [hv], rfl⟩
      · have hth := thereN_le x gb sh (tN τ 31)
        obtain ⟨a3, g3, e3, c3, d3⟩ := d4 sh (by omega)
        obtain ⟨a2, g2, e2, c2, d2⟩ := d3 (thereN x gb sh (tN τ 31)) (by omega)
        have hs8 : ndf (setN x sh (tN τ 30)) gone < 2 ^ tN τ 30 := Nat.lt_of_le_of_lt (ndf_le _ _) (setN_lt x sh _)
        refine v_iload_n (i := 3) dX7_barred_17 rfl rfl ?_
        refine v_aload_n (i := 0) dX7_barred_18 rfl rfl ?_
        refine go_get3 hPo KX7 0 (by decide) rfl (w) p0 q508 dX7_barred_19 ?_
        refine go_get3N hWo KX2 10 (by decide) rfl (L 10) rfl q246 dX7_barred_22 ?_
        refine v_iload (i := 4) dX7_barred_25 rfl ?_
        refine v_aald (v := .ref a3) c4 (by decide) (vp_in_nI (show sh < 5 by omega) (by decide)) (by rw [nI_clamp (by omega), e3]; rfl) dX7_barred_27 ?_
        refine v_aload_n (i := 0) dX7_barred_28 rfl rfl ?_
        refine v_iload (i := 4) dX7_barred_29 rfl ?_
        refine v_iload_n (i := 1) dX7_barred_31 rfl rfl ?_
        refine v_callVe (cP_boatsAt hWW hPP (by omega) hgb) (lw_V q658 q659 q660 q135 q661) iX7_boatsAt rfl KX7 hPo.rcv rfl rfl (by decide) (by decide) (Nat.le_of_ble_eq_true rfl) (Nat.le_refl _) (Nat.le_refl _) dX7_barred_32 (kr_ei ?_) kx_e
        refine v_aald (v := .ref a2) c3 (by decide) (vp_in_nI (show thereN x gb sh (tN τ 31) < 3 by omega) (by decide)) (by rw [nI_clamp (by omega), e2]; rfl) dX7_barred_35 ?_
        refine v_iload_n (i := 1) dX7_barred_36 rfl rfl ?_
        refine vn_if_ne (tgt := 53) dX7_barred_37 rfl (by omega) (fun c37 => ?_) (fun c37 => ?_)
        · refine v_iconst (v := nI 0) dX7_barred_53 k_iconst_0 ?_
          obtain ⟨a1, g1, e1, c1, d1⟩ := d2 0 (by decide)
          have f1 := d1 _ hs8
          rw [if_neg (show ¬ sh = tN τ 29 by omega)] at f1
          have hl : lmp (tN τ 33) (if gb = 0 then 0 else 1) x sh = 0 := by
            unfold lmp
            rw [if_neg]
            rintro ⟨q1, q2, q3⟩
            rw [if_neg c37] at q2; cases q2
          rw [← hl] at f1
          refine v_aald (v := .ref a1) c2 (by decide) (vp_in_nI (by decide) (by decide)) (by rw [nI_clamp (by decide), e1]; rfl) dX7_barred_54 ?_
          refine v_aload_n (i := 0) dX7_barred_55 rfl rfl ?_
          refine go_getA hPo KX7 2 (by decide) (by decide) q514 dX7_barred_56 ?_
          refine v_iload (i := 4) dX7_barred_59 rfl ?_
          refine go_ld10 hPo 2 (by decide) rfl (show _ < 4 from (by omega)) (by decide) _ (p2 _ (by omega)) dX7_barred_61 ?_
          refine v_iload_n (i := 2) dX7_barred_62 rfl rfl ?_
          refine v_iconst (v := -1) dX7_barred_63 k_iconst_m1 ?_
          refine v_ixor dX7_barred_64 ?_
          refine vn_andc dX7_barred_65 ?_
          refine v_sald c1 (vp_in_nI hs8 hM) dX7_barred_66 ?_
          refine v_top (x' := nI (bfT τ sh (thereN x gb sh (tN τ 31)) (lmp (tN τ 33) (if gb = 0 then 0 else 1) x sh) (ndf (setN x sh (tN τ 30)) gone))) (by rw [nI_clamp (Nat.lt_trans hs8 hM), f1]) ?_
          refine vn_ior dX7_barred_67 ?_
          refine v_istore_n (i := 3) dX7_barred_68 rfl (by decide) rfl ?_
          refine vn_iinc 1 dX7_barred_69 rfl k_iconst_1 (by decide) rfl ?_
          refine v_goto (tgt := 5) dX7_barred_72 rfl ?_
          exact ih _ (by omega) (sh + 1) _ rfl (by omega) (by rw [hv]; rfl)
        · refine v_aload_n (i := 0) dX7_barred_40 rfl rfl ?_
          refine go_get1 hPo KX7 3 (by decide) rfl (lcT τ x) p3 q519 dX7_barred_41 ?_
          refine v_iload (i := 4) dX7_barred_44 rfl ?_
          refine von_icmp_ne (tgt := 53) dX7_barred_46 rfl (by omega) (by omega) (fun c46 => ?_) (fun c46 => ?_)
          · refine v_iconst (v := nI 0) dX7_barred_53 k_iconst_0 ?_
            obtain ⟨a1, g1, e1, c1, d1⟩ := d2 0 (by decide)
            have f1 := d1 _ hs8
            rw [if_neg (show ¬ sh = tN τ 29 by omega)] at f1
            have hl : lmp (tN τ 33) (if gb = 0 then 0 else 1) x sh = 0 := by
              unfold lmp
              rw [if_neg]
              rintro ⟨q1, q2, q3⟩
              unfold lcT at c46
              rw [if_neg q1] at c46
              omega
            rw [← hl] at f1
            refine v_aald (v := .ref a1) c2 (by decide) (vp_in_nI (by decide) (by decide)) (by rw [nI_clamp (by decide), e1]; rfl) dX7_barred_54 ?_
            refine v_aload_n (i := 0) dX7_barred_55 rfl rfl ?_
            refine go_getA hPo KX7 2 (by decide) (by decide) q514 dX7_barred_56 ?_
            refine v_iload (i := 4) dX7_barred_59 rfl ?_
            refine go_ld10 hPo 2 (by decide) rfl (show _ < 4 from (by omega)) (by decide) _ (p2 _ (by omega)) dX7_barred_61 ?_
            refine v_iload_n (i := 2) dX7_barred_62 rfl rfl ?_
            refine v_iconst (v := -1) dX7_barred_63 k_iconst_m1 ?_
            refine v_ixor dX7_barred_64 ?_
            refine vn_andc dX7_barred_65 ?_
            refine v_sald c1 (vp_in_nI hs8 hM) dX7_barred_66 ?_
            refine v_top (x' := nI (bfT τ sh (thereN x gb sh (tN τ 31)) (lmp (tN τ 33) (if gb = 0 then 0 else 1) x sh) (ndf (setN x sh (tN τ 30)) gone))) (by rw [nI_clamp (Nat.lt_trans hs8 hM), f1]) ?_
            refine vn_ior dX7_barred_67 ?_
            refine v_istore_n (i := 3) dX7_barred_68 rfl (by decide) rfl ?_
            refine vn_iinc 1 dX7_barred_69 rfl k_iconst_1 (by decide) rfl ?_
            refine v_goto (tgt := 5) dX7_barred_72 rfl ?_
            exact ih _ (by omega) (sh + 1) _ rfl (by omega) (by rw [hv]; rfl)
          · refine v_iconst (v := nI 1) dX7_barred_49 k_iconst_1 ?_
            refine v_goto (tgt := 54) dX7_barred_50 rfl ?_
            obtain ⟨a1, g1, e1, c1, d1⟩ := d2 1 (by decide)
            have f1 := d1 _ hs8
            rw [if_neg (show ¬ sh = tN τ 29 by omega)] at f1
            have hl : lmp (tN τ 33) (if gb = 0 then 0 else 1) x sh = 1 := by
              unfold lmp
              rw [if_pos]
              unfold lcT at c46
              refine ⟨fun q => ?_, by rw [if_pos c37], ?_⟩
              · rw [if_pos q] at c46; omega
              · split at c46 <;> omega
            rw [← hl] at f1
            refine v_aald (v := .ref a1) c2 (by decide) (vp_in_nI (by decide) (by decide)) (by rw [nI_clamp (by decide), e1]; rfl) dX7_barred_54 ?_
            refine v_aload_n (i := 0) dX7_barred_55 rfl rfl ?_
            refine go_getA hPo KX7 2 (by decide) (by decide) q514 dX7_barred_56 ?_
            refine v_iload (i := 4) dX7_barred_59 rfl ?_
            refine go_ld10 hPo 2 (by decide) rfl (show _ < 4 from (by omega)) (by decide) _ (p2 _ (by omega)) dX7_barred_61 ?_
            refine v_iload_n (i := 2) dX7_barred_62 rfl rfl ?_
            refine v_iconst (v := -1) dX7_barred_63 k_iconst_m1 ?_
            refine v_ixor dX7_barred_64 ?_
            refine vn_andc dX7_barred_65 ?_
            refine v_sald c1 (vp_in_nI hs8 hM) dX7_barred_66 ?_
            refine v_top (x' := nI (bfT τ sh (thereN x gb sh (tN τ 31)) (lmp (tN τ 33) (if gb = 0 then 0 else 1) x sh) (ndf (setN x sh (tN τ 30)) gone))) (by rw [nI_clamp (Nat.lt_trans hs8 hM), f1]) ?_
            refine vn_ior dX7_barred_67 ?_
            refine v_istore_n (i := 3) dX7_barred_68 rfl (by decide) rfl ?_
            refine vn_iinc 1 dX7_barred_69 rfl k_iconst_1 (by decide) rfl ?_
            refine v_goto (tgt := 5) dX7_barred_72 rfl ?_
            exact ih _ (by omega) (sh + 1) _ rfl (by omega) (by rw [hv]; rfl)
  refine v_iconst (v := nI 0) dX7_barred_0 k_iconst_0 ?_
  refine v_istore_n (i := 3) dX7_barred_1 rfl (by decide) rfl ?_
  refine v_iconst (v := nI 0) dX7_barred_2 k_iconst_0 ?_
  refine v_istore (i := 4) dX7_barred_3 (by decide) rfl ?_
  exact L0 _ 0 0 rfl (by omega) rfl
theorem cP_aboard {G : Gl} {η : AH} {w : Nat} {τ : Td} (hW : Wd G η w τ) {t p x : Nat} (hP : Pl η t p w τ x) {s : Nat} (hs : s < 2 ^ tN τ 30) : Ct G yX7_aboard cX7_aboard 2 (some .int) 0 (0) (0) [.ref p, .int (nI s)] η (re (some (.int (nI (bfT τ (tN τ 29) 1 (if tN τ 33 = 0 then 0 else 1) s)))) η) := by
  refine Ct.start rfl rfl (Nat.le_of_ble_eq_true rfl) (fun Γ => ?_)
  obtain ⟨ad, L, hTB, hWo, hWw, hWb, ⟨xl, cl, hWl, hWln⟩, hWr⟩ := hW
  obtain ⟨⟨wb1, wb2, wb3, wb4, wb5, wb6, wb7⟩, wb8, wb9, wb10, wb11, wb12⟩ := id hTB
  obtain ⟨adp, π, hPo, p0, p3, p1, p2⟩ := hP
  obtain ⟨g4, c4, d4⟩ := hWr
  obtain ⟨a3, g3, e3, c3, d3⟩ := d4 (tN τ 29) (Nat.le_refl _)
  obtain ⟨a2, g2, e2, c2, d2⟩ := d3 1 (by decide)
  have hM : 2 ^ tN τ 30 < 2 ^ 31 := Nat.lt_of_le_of_lt (p2_le wb3) (by decide)
  have hs9 : s < 2147483648 := Nat.lt_trans hs hM
  refine v_aload_n (i := 0) dX7_aboard_0 rfl rfl ?_
  refine go_get3 hPo KX7 0 (by decide) rfl (w) p0 q508 dX7_aboard_1 ?_
  refine go_get3N hWo KX2 10 (by decide) rfl (L 10) rfl q246 dX7_aboard_4 ?_
  refine v_aload_n (i := 0) dX7_aboard_7 rfl rfl ?_
  refine go_get3 hPo KX7 0 (by decide) rfl (w) p0 q508 dX7_aboard_8 ?_
  refine go_get0N hWo KX2 0 (by decide) rfl (tN τ 29) rfl q209 dX7_aboard_11 ?_
  refine v_aald (v := .ref a3) c4 (by decide) (vp_in_nI (show tN τ 29 < 5 by omega) (by decide)) (by rw [nI_clamp (by omega), e3]; rfl) dX7_aboard_14 ?_
  refine v_iconst (v := nI 1) dX7_aboard_15 k_iconst_1 ?_
  refine v_aald (v := .ref a2) c3 (by decide) (vp_in_nI (by decide) (by decide)) (by rw [nI_clamp (by decide), e2]; rfl) dX7_aboard_16 ?_
  refine v_aload_n (i := 0) dX7_aboard_17 rfl rfl ?_
  refine go_get3 hPo KX7 0 (by decide) rfl (w) p0 q508 dX7_aboard_18 ?_
  refine go_get1N hWo KX2 2 (by decide) rfl (tN τ 33) rfl q219 dX7_aboard_21 ?_
  refine v_iconst (v := -1) dX7_aboard_24 k_iconst_m1 ?_
  refine vo_icmp_ne (tgt := 32) dX7_aboard_25 rfl (by omega) (fun c25 => ?_) (fun c25 => ?_)
  · refine v_iconst (v := nI 1) dX7_aboard_32 k_iconst_1 ?_
    obtain ⟨a1, g1, e1, c1, d1⟩ := d2 1 (by decide)
    have f1 := d1 s hs
    rw [if_pos rfl] at f1
    refine v_aald (v := .ref a1) c2 (by decide) (vp_in_nI (by decide) (by decide)) (by rw [nI_clamp (by decide), e1]; rfl) dX7_aboard_33 ?_
    refine v_iload_n (i := 1) dX7_aboard_34 rfl rfl ?_
    refine v_sald c1 (vp_in_nI hs hM) dX7_aboard_35 ?_
    exact v_iret rfl dX7_aboard_36 (by rw [nI_clamp hs9, f1, if_neg c25]; exact ⟨rfl, rfl⟩)
  · refine v_iconst (v := nI 0) dX7_aboard_28 k_iconst_0 ?_
    refine v_goto (tgt := 33) dX7_aboard_29 rfl ?_
    obtain ⟨a1, g1, e1, c1, d1⟩ := d2 0 (by decide)
    have f1 := d1 s hs
    rw [if_pos rfl] at f1
    refine v_aald (v := .ref a1) c2 (by decide) (vp_in_nI (by decide) (by decide)) (by rw [nI_clamp (by decide), e1]; rfl) dX7_aboard_33 ?_
    refine v_iload_n (i := 1) dX7_aboard_34 rfl rfl ?_
    refine v_sald c1 (vp_in_nI hs hM) dX7_aboard_35 ?_
    exact v_iret rfl dX7_aboard_36 (by rw [nI_clamp hs9, f1, if_pos c25]; exact ⟨rfl, rfl⟩)
