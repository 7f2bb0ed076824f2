set_option maxRecDepth 100000
theorem Wd.tb {G : Gl} {η : AH} {w : Nat} {τ : Td} (h : Wd G η w τ) : TB τ := by
  obtain ⟨ad, L, h⟩ := h
  exact h.1
theorem oI_pred (k : Nat) : nI k + Int32.ofInt (-1) = oI k := by
  cases k with
  | zero => decide
  | succ k =>
    show nI (k + 1) + Int32.ofInt (-1) = nI k
    exact pk_m1 k
theorem nI_sub1 (n : Nat) : nI n - nI 1 = oI n := by
  cases n with
  | zero => decide
  | succ k => exact nI_sub (by omega)
theorem cP_start {G : Gl} {η0 : AH} {w : Nat} {τ : Td} (hW : Wd G η0 w τ) {t p : Nat} (hP : P0 η0 t p w) : Ct G yX7_start cX7_start 2 none 3 (0) (0) [.ref p] η0 (rv fun η => Pl η t p w τ (stT τ) ∧ Kp t (t + 1) η0 η) := by
  refine Ct.start rfl rfl (Nat.le_of_ble_eq_true rfl) (fun Γ => ?_)
  obtain ⟨adp, π0, hPo, p0⟩ := hP
  have L2 : ∀ (n b : Nat), b + n = tN τ 31 → ∀ (η : AH) (π : MS), Wd G η w τ → GO scX7 η (some t) p adp π → gN π 0 = w + 1 → Kp t (t + 1) η0 η → (∀ c, c < b → gA π 1 c = tA τ 43 c) → (∀ s, s < 4 → gA π 2 s = setN (stT τ) s (tN τ 30)) → V G Γ yX7_start cX7_start 2 none [] 3 (rv fun η => Pl η t p w τ (stT τ) ∧ Kp t (t + 1) η0 η) (0) (0) (η) 35 [some (.ref p), some (.int (nI b))] [] := by
    intro n
    induction n with
    | zero =>
      intro b hn η π hW hPo p0 h0 q1 q2
      have hWW := hW
      obtain ⟨ad, L, hTB, hWo, hWw, hWb, ⟨xl, cl, hWl, hWln⟩, hWr⟩ := id hW
      obtain ⟨⟨wb1, wb2, wb3, wb4, wb5, wb6, wb7⟩, wb8, wb9, wb10, wb11, wb12⟩ := id hTB
      obtain ⟨xb, cb, hBl, hBn, hBo⟩ := hWb
      have e : b = tN τ 31 := by omega
      subst e
      refine v_iload_n (i := 1) dX7_start_35 rfl rfl ?_
      refine v_aload_n (i := 0) dX7_start_36 rfl rfl ?_
      refine go_get3 hPo KX7 0 (by decide) rfl (w) p0 q508 dX7_start_37 ?_
      refine go_get3N hWo KX2 8 (by decide) rfl (L 8) rfl q238 dX7_start_40 ?_
      refine v_Lsize hBl q541 (by decide) (Nat.le_of_ble_eq_true rfl) dX7_start_43 ?_
      refine v_top (x' := nI (tN τ 31)) (by rw [hBn]) ?_
      refine vn_icmp_ge (tgt := 82) dX7_start_48 rfl (by omega) (by omega) (fun c48 => ?_) (fun c48 => ?_)
      · refine v_aload_n (i := 0) dX7_start_82 rfl rfl ?_
        refine v_aload_n (i := 0) dX7_start_83 rfl rfl ?_
        refine go_get3 hPo KX7 0 (by decide) rfl (w) p0 q508 dX7_start_84 ?_
        refine go_get1N hWo KX2 2 (by decide) rfl (tN τ 33) rfl q219 dX7_start_87 ?_
        refine go_put1 hPo KX7 3 (by decide) rfl q519 rfl rfl rfl dX7_start_90 (fun η hPo hk => ?_)
        have h0 := h0.th hk (by omega) (by omega)
        have hW := hW.kp hk
        obtain ⟨ad, L, hTB, hWo, hWw, hWb, ⟨xl, cl, hWl, hWln⟩, hWr⟩ := id hW
        obtain ⟨⟨wb1, wb2, wb3, wb4, wb5, wb6, wb7⟩, wb8, wb9, wb10, wb11, wb12⟩ := id hTB
        obtain ⟨xb, cb, hBl, hBn, hBo⟩ := hWb
        exact v_vret rfl dX7_start_93 ⟨rfl, ⟨_, _, hPo, p0, (lcT_st hTB).symm, fun c hc => (q1 c hc).trans (bo_st hTB c hc).symm, q2⟩, h0⟩
      · exact absurd (show tN τ 31 < tN τ 31 from c48) (by omega)
    | succ n ih =>
      intro b hn η π hW hPo p0 h0 q1 q2
      obtain ⟨ad, L, hTB, hWo, hWw, hWb, ⟨xl, cl, hWl, hWln⟩, hWr⟩ := id hW
      obtain ⟨⟨wb1, wb2, wb3, wb4, wb5, wb6, wb7⟩, wb8, wb9, wb10, wb11, wb12⟩ := id hTB
      obtain ⟨xb, cb, hBl, hBn, hBo⟩ := hWb
      obtain ⟨qb, adb, hbq, hbo⟩ := hBo b (by omega)
      obtain ⟨Fb, hFb⟩ := hbo.me
      have hbat := (wb9 b (by omega)).2.2.2
      refine v_iload_n (i := 1) dX7_start_35 rfl rfl ?_
      refine v_aload_n (i := 0) dX7_start_36 rfl rfl ?_
      refine go_get3 hPo KX7 0 (by decide) rfl (w) p0 q508 dX7_start_37 ?_
      refine go_get3N hWo KX2 8 (by decide) rfl (L 8) rfl q238 dX7_start_40 ?_
      refine v_Lsize hBl q541 (by decide) (Nat.le_of_ble_eq_true rfl) dX7_start_43 ?_
      refine v_top (x' := nI (tN τ 31)) (by rw [hBn]) ?_
      refine vn_icmp_ge (tgt := 82) dX7_start_48 rfl (by omega) (by omega) (fun c48 => ?_) (fun c48 => ?_)
      · exact absurd (show tN τ 31 ≤ b from c48) (by omega)
      · refine v_aload_n (i := 0) dX7_start_51 rfl rfl ?_
        refine go_getA hPo KX7 1 (by decide) (by decide) q509 dX7_start_52 ?_
        refine v_iload_n (i := 1) dX7_start_55 rfl rfl ?_
        refine v_aload_n (i := 0) dX7_start_56 rfl rfl ?_
        refine go_get3 hPo KX7 0 (by decide) rfl (w) p0 q508 dX7_start_57 ?_
        refine go_get3N hWo KX2 8 (by decide) rfl (L 8) rfl q238 dX7_start_60 ?_
        refine v_iload_n (i := 1) dX7_start_63 rfl rfl ?_
        refine v_Lget hBl hbq q543 (by decide) (Nat.le_of_ble_eq_true rfl) dX7_start_64 ?_
        refine v_castS hFb KX11 q544 dX7_start_69 ?_
        refine go_get0N hbo KX11 2 (by decide) rfl (tA τ 43 b) rfl q1351 dX7_start_72 ?_
        refine go_st10 hPo 1 (by decide) rfl (show _ < 2 from (by omega)) (by decide) dX7_start_75 (fun η hPo hk => ?_)
        have h0 := h0.th hk (by omega) (by omega)
        have hW := hW.kp hk
        obtain ⟨ad, L, hTB, hWo, hWw, hWb, ⟨xl, cl, hWl, hWln⟩, hWr⟩ := id hW
        obtain ⟨⟨wb1, wb2, wb3, wb4, wb5, wb6, wb7⟩, wb8, wb9, wb10, wb11, wb12⟩ := id hTB
        obtain ⟨xb, cb, hBl, hBn, hBo⟩ := hWb
        refine vn_iinc 1 dX7_start_76 rfl k_iconst_1 (by decide) rfl ?_
        refine v_goto (tgt := 35) dX7_start_79 rfl ?_
        refine ih (b + 1) (by omega) η _ hW hPo p0 h0 (fun c hc => ?_) q2
        show va_up (gA π 1) b (tA τ 43 b) c = _
        by_cases k : c = b
        · rw [k, va_up_e]
        · rw [va_up_n k]; exact q1 c (by omega)
  have L1 : ∀ (n k : Nat), k + n = 4 → ∀ (η : AH) (π : MS), Wd G η w τ → GO scX7 η (some t) p adp π → gN π 0 = w + 1 → Kp t (t + 1) η0 η → (∀ s, s < k → gA π 2 s = 0) → V G Γ yX7_start cX7_start 2 none [] 3 (rv fun η => Pl η t p w τ (stT τ) ∧ Kp t (t + 1) η0 η) (0) (0) (η) 2 [some (.ref p), some (.int (nI k))] [] := by
    intro n
    induction n with
    | zero =>
      intro k hn η π hW hPo p0 h0 q2
      have e : k = 4 := by omega
      subst e
      have hWW := hW
      obtain ⟨ad, L, hTB, hWo, hWw, hWb, ⟨xl, cl, hWl, hWln⟩, hWr⟩ := id hW
      obtain ⟨⟨wb1, wb2, wb3, wb4, wb5, wb6, wb7⟩, wb8, wb9, wb10, wb11, wb12⟩ := id hTB
      obtain ⟨xb, cb, hBl, hBn, hBo⟩ := hWb
      refine v_iload_n (i := 1) dX7_start_2 rfl rfl ?_
      refine v_iconst (v := nI 4) dX7_start_3 k_iconst_4 ?_
      refine vn_icmp_ge (tgt := 20) dX7_start_4 rfl (by omega) (by omega) (fun c4 => ?_) (fun c4 => ?_)
      · refine v_aload_n (i := 0) dX7_start_20 rfl rfl ?_
        refine go_getA hPo KX7 2 (by decide) (by decide) q514 dX7_start_21 ?_
        refine v_iconst (v := nI 0) dX7_start_24 k_iconst_0 ?_
        refine v_aload_n (i := 0) dX7_start_25 rfl rfl ?_
        refine go_get3 hPo KX7 0 (by decide) rfl (w) p0 q508 dX7_start_26 ?_
        refine v_callVe (cW_all hWW) (lw_V q536 q537 q538 q120 q539) iX2_all rfl KX2 hWo.rcv rfl rfl (by decide) (by decide) (Nat.le_of_ble_eq_true rfl) (Nat.le_refl _) (Nat.le_refl _) dX7_start_29 (kr_ei ?_) kx_e
        refine go_st10 hPo 2 (by decide) rfl (show _ < 4 from (by omega)) (by decide) dX7_start_32 (fun η hPo hk => ?_)
        have h0 := h0.th hk (by omega) (by omega)
        have hW := hW.kp hk
        obtain ⟨ad, L, hTB, hWo, hWw, hWb, ⟨xl, cl, hWl, hWln⟩, hWr⟩ := id hW
        obtain ⟨⟨wb1, wb2, wb3, wb4, wb5, wb6, wb7⟩, wb8, wb9, wb10, wb11, wb12⟩ := id hTB
        obtain ⟨xb, cb, hBl, hBn, hBo⟩ := hWb
        refine v_iconst (v := nI 0) dX7_start_33 k_iconst_0 ?_
        refine v_istore_n (i := 1) dX7_start_34 rfl (by decide) rfl ?_
        refine L2 _ 0 (Nat.zero_add _) η _ hW hPo p0 h0 (fun c hc => absurd hc (by omega)) (fun s hs => ?_)
        show va_up (gA π 2) 0 (2 ^ tN τ 30 - 1) s = _
        rw [setN_st hTB]
        by_cases k : s = 0
        · rw [k, va_up_e, if_pos rfl]
        · rw [va_up_n k, if_neg k]; exact q2 s hs
      · exact absurd (show 4 < 4 from c4) (by omega)
    | succ n ih =>
      intro k hn η π hW hPo p0 h0 q2
      obtain ⟨ad, L, hTB, hWo, hWw, hWb, ⟨xl, cl, hWl, hWln⟩, hWr⟩ := id hW
      obtain ⟨⟨wb1, wb2, wb3, wb4, wb5, wb6, wb7⟩, wb8, wb9, wb10, wb11, wb12⟩ := id hTB
      obtain ⟨xb, cb, hBl, hBn, hBo⟩ := hWb
      refine v_iload_n (i := 1) dX7_start_2 rfl rfl ?_
      refine v_iconst (v := nI 4) dX7_start_3 k_iconst_4 ?_
      refine vn_icmp_ge (tgt := 20) dX7_start_4 rfl (by omega) (by omega) (fun c4 => ?_) (fun c4 => ?_)
      · exact absurd (show 4 ≤ k from c4) (by omega)
      · refine v_aload_n (i := 0) dX7_start_7 rfl rfl ?_
        refine go_getA hPo KX7 2 (by decide) (by decide) q514 dX7_start_8 ?_
        refine v_iload_n (i := 1) dX7_start_11 rfl rfl ?_
        refine v_iconst (v := nI 0) dX7_start_12 k_iconst_0 ?_
        refine go_st10 hPo 2 (by decide) rfl (show _ < 4 from (by omega)) (by decide) dX7_start_13 (fun η hPo hk => ?_)
        have h0 := h0.th hk (by omega) (by omega)
        have hW := hW.kp hk
        obtain ⟨ad, L, hTB, hWo, hWw, hWb, ⟨xl, cl, hWl, hWln⟩, hWr⟩ := id hW
        obtain ⟨⟨wb1, wb2, wb3, wb4, wb5, wb6, wb7⟩, wb8, wb9, wb10, wb11, wb12⟩ := id hTB
        obtain ⟨xb, cb, hBl, hBn, hBo⟩ := hWb
        refine vn_iinc 1 dX7_start_14 rfl k_iconst_1 (by decide) rfl ?_
        refine v_goto (tgt := 2) dX7_start_17 rfl ?_
        refine ih (k + 1) (by omega) η _ hW hPo p0 h0 (fun s hs => ?_)
        show va_up (gA π 2) k 0 s = 0
        by_cases c : s = k
        · rw [c, va_up_e]
        · rw [va_up_n c]; exact q2 s (by omega)
  refine v_iconst (v := nI 0) dX7_start_0 k_iconst_0 ?_
  refine v_istore_n (i := 1) dX7_start_1 rfl (by decide) rfl ?_
  exact L1 4 0 rfl η0 π0 hW hPo p0 Kp.rf (fun s hs => absurd hs (by omega))
theorem cP_read {G : Gl} {η0 : AH} {w : Nat} {τ : Td} (hW : Wd G η0 w τ) {t p : Nat} (hP : P0 η0 t p w) (x : Nat) : Ct G yX7_read cX7_read 4 none 1 (0) (0) [.ref p, .int (nI (cdT τ x))] η0 (rv fun η => Pl η t p w τ x ∧ Kp t (t + 1) η0 η) := by
  refine Ct.start rfl rfl (Nat.le_of_ble_eq_true rfl) (fun Γ => ?_)
  obtain ⟨adp, π0, hPo, p0⟩ := hP
  have hTB := hW.tb
  have hcd := cdT_lt hTB x
  obtain ⟨⟨wb1, wb2, wb3, wb4, wb5, wb6, wb7⟩, -⟩ := id hTB
  have L3 : ∀ (n : Nat), n ≤ tN τ 30 → ∀ (η : AH) (π : MS), Wd G η w τ → GO scX7 η (some t) p adp π → gN π 0 = w + 1 → gN π 3 = lcT τ x → (∀ c, c < tN τ 31 → True → gA π 1 c = bo x c) → Kp t (t + 1) η0 η → (∀ s, s < 4 → ∀ i, (gA π 2 s).testBit i = true ↔ n ≤ i ∧ i < tN τ 30 ∧ th x i = s) → V G Γ yX7_read cX7_read 4 none [] 1 (rv fun η => Pl η t p w τ x ∧ Kp t (t + 1) η0 η) (0) (0) (η) 96 [some (.ref p), some (.int (nI (cdT τ x))), some (.int (nI (cdA x n))), some (.int (oI n))] [] := by
    intro n
    induction n with
    | zero =>
      intro hn η π hW hPo p0 p3 q1 h0 q2
      refine v_iload_n (i := 3) dX7_read_96 rfl rfl ?_
      refine vo_if_lt (tgt := 124) dX7_read_97 rfl (by omega) (fun c97 => ?_) (fun c97 => ?_)
      · exact v_vret rfl dX7_read_124 (by
          refine ⟨rfl, ⟨_, _, hPo, p0, p3, fun c hc => q1 c hc trivial, fun s hs => ?_⟩, h0⟩
          apply Nat.eq_of_testBit_eq
          intro i
          rw [Bool.eq_iff_iff, setN_tb, q2 s hs i]
          exact ⟨fun w => w.2, fun w => ⟨Nat.zero_le _, w⟩⟩)
      · exact absurd c97 (by omega)
    | succ n ih =>
      intro hn η π hW hPo p0 p3 q1 h0 q2
      have h4 := th4 x n
      have hA := cdA_lt x n
      have hA2 : 4 ^ n ≤ 4 ^ 8 := Nat.pow_le_pow_right (by decide) (by omega)
      have hA3 : (4 : Nat) ^ 8 = 65536 := by decide
      have e0 : cdA x (n + 1) = cdA x n * 4 + th x n := rfl
      have e1 : cdA x (n + 1) % 4 = th x n := by omega
      have e2 : cdA x (n + 1) / 4 = cdA x n := by omega
      show V G Γ yX7_read cX7_read 4 none [] 1 (rv fun η => Pl η t p w τ x ∧ Kp t (t + 1) η0 η) (0) (0) (η) 96 [some (.ref p), some (.int (nI (cdT τ x))), some (.int (nI (cdA x (n + 1)))), some (.int (nI n))] []
      refine v_iload_n (i := 3) dX7_read_96 rfl rfl ?_
      refine vn_if_lt (tgt := 124) dX7_read_97 rfl (by omega) ?_
      refine v_aload_n (i := 0) dX7_read_100 rfl rfl ?_
      refine go_getA hPo KX7 2 (by decide) (by decide) q514 dX7_read_101 ?_
      refine v_iload_n (i := 2) dX7_read_104 rfl rfl ?_
      refine v_iconst (v := nI 4) dX7_read_105 k_iconst_4 ?_
      refine vn_irem (by omega) (by decide) (by decide) dX7_read_106 ?_
      refine v_top (by rw [e1]) ?_
      refine v_dup2_11 dX7_read_107 rfl rfl ?_
      refine go_ld10 hPo 2 (by decide) rfl (show _ < 4 from (by omega)) (by decide) _ rfl dX7_read_108 ?_
      refine v_iconst (v := nI 1) dX7_read_109 k_iconst_1 ?_
      refine v_iload_n (i := 3) dX7_read_110 rfl rfl ?_
      refine vn_ishl (by omega) dX7_read_111 ?_
      refine vn_ior dX7_read_112 ?_
      refine go_st10 hPo 2 (by decide) rfl (show _ < 4 from (by omega)) (by decide) dX7_read_113 (fun η hPo hk => ?_)
      have hW := hW.kp hk
      have h0 := h0.th hk (by omega) (by omega)
      refine v_iload_n (i := 2) dX7_read_114 rfl rfl ?_
      refine v_iconst (v := nI 4) dX7_read_115 k_iconst_4 ?_
      refine vn_idiv (by omega) (by decide) (by decide) dX7_read_116 ?_
      refine v_top (by rw [e2]) ?_
      refine v_istore_n (i := 2) dX7_read_117 rfl (by decide) rfl ?_
      refine v_iinc dX7_read_118 rfl (oI_pred n) (by decide) rfl ?_
      refine v_goto (tgt := 96) dX7_read_121 rfl ?_
      refine ih (by omega) η _ hW hPo p0 p3 q1 h0 (fun s hs i => ?_)
      show (va_up (gA π 2) (th x n) (gA π 2 (th x n) ||| 1 * 2 ^ n) s).testBit i = true ↔ _
      by_cases c : s = th x n
      · rw [c, va_up_e, tb_or, tb1 (by decide), q2 _ h4 i]
        constructor
        · rintro (⟨g1, g2, g3⟩ | ⟨g1, g2⟩)
          · exact ⟨by omega, g2, g3⟩
          · rw [g1]; exact ⟨Nat.le_refl _, by omega, rfl⟩
        · rintro ⟨g1, g2, g3⟩
          by_cases k : i = n
          · exact Or.inr ⟨k, rfl⟩
          · exact Or.inl ⟨by omega, g2, g3⟩
      · rw [va_up_n c, q2 s hs i]
        constructor
        · rintro ⟨g1, g2, g3⟩
          exact ⟨by omega, g2, g3⟩
        · rintro ⟨g1, g2, g3⟩
          have : i ≠ n := fun k => c (by rw [← g3, k])
          exact ⟨by omega, g2, g3⟩
  have L2 : ∀ (n k : Nat), k + n = 4 → ∀ (η : AH) (π : MS), Wd G η w τ → GO scX7 η (some t) p adp π → gN π 0 = w + 1 → gN π 3 = lcT τ x → (∀ c, c < tN τ 31 → True → gA π 1 c = bo x c) → Kp t (t + 1) η0 η → (∀ s, s < k → gA π 2 s = 0) → V G Γ yX7_read cX7_read 4 none [] 1 (rv fun η => Pl η t p w τ x ∧ Kp t (t + 1) η0 η) (0) (0) (η) 68 [some (.ref p), some (.int (nI (cdT τ x))), some (.int (nI (cdA x (tN τ 30)))), some (.int (nI k))] [] := by
    intro n
    induction n with
    | zero =>
      intro k hn η π hW hPo p0 p3 q1 h0 q2
      have e : k = 4 := by omega
      subst e
      have hWW := hW
      obtain ⟨ad, L, hTB, hWo, hWw, hWb, ⟨xl, cl, hWl, hWln⟩, hWr⟩ := id hW
      obtain ⟨⟨wb1, wb2, wb3, wb4, wb5, wb6, wb7⟩, wb8, wb9, wb10, wb11, wb12⟩ := id hTB
      obtain ⟨xb, cb, hBl, hBn, hBo⟩ := hWb
      refine v_iload_n (i := 3) dX7_read_68 rfl rfl ?_
      refine v_iconst (v := nI 4) dX7_read_69 k_iconst_4 ?_
      refine vn_icmp_ge (tgt := 86) dX7_read_70 rfl (by omega) (by omega) (fun c70 => ?_) (fun c70 => ?_)
      · refine v_aload_n (i := 0) dX7_read_86 rfl rfl ?_
        refine go_get3 hPo KX7 0 (by decide) rfl (w) p0 q508 dX7_read_87 ?_
        refine go_get0N hWo KX2 1 (by decide) rfl (tN τ 30) rfl q215 dX7_read_90 ?_
        refine v_iconst (v := nI 1) dX7_read_93 k_iconst_1 ?_
        refine v_isub dX7_read_94 ?_
        refine v_top (x' := oI (tN τ 30)) (nI_sub1 _) ?_
        refine v_istore_n (i := 3) dX7_read_95 rfl (by decide) rfl ?_
        refine L3 _ (Nat.le_refl _) η _ hW hPo p0 p3 q1 h0 (fun s hs i => ?_)
        rw [q2 s hs, Nat.zero_testBit]
        exact ⟨fun w => absurd w (by decide), fun w => absurd w.1 (by omega)⟩
      · exact absurd (show 4 < 4 from c70) (by omega)
    | succ n ih =>
      intro k hn η π hW hPo p0 p3 q1 h0 q2
      refine v_iload_n (i := 3) dX7_read_68 rfl rfl ?_
      refine v_iconst (v := nI 4) dX7_read_69 k_iconst_4 ?_
      refine vn_icmp_ge (tgt := 86) dX7_read_70 rfl (by omega) (by omega) (fun c70 => ?_) (fun c70 => ?_)
      · exact absurd (show 4 ≤ k from c70) (by omega)
      · refine v_aload_n (i := 0) dX7_read_73 rfl rfl ?_
        refine go_getA hPo KX7 2 (by decide) (by decide) q514 dX7_read_74 ?_
        refine v_iload_n (i := 3) dX7_read_77 rfl rfl ?_
        refine v_iconst (v := nI 0) dX7_read_78 k_iconst_0 ?_
        refine go_st10 hPo 2 (by decide) rfl (show _ < 4 from (by omega)) (by decide) dX7_read_79 (fun η hPo hk => ?_)
        have hW := hW.kp hk
        have h0 := h0.th hk (by omega) (by omega)
        refine vn_iinc 1 dX7_read_80 rfl k_iconst_1 (by decide) rfl ?_
        refine v_goto (tgt := 68) dX7_read_83 rfl ?_
        refine ih (k + 1) (by omega) η _ hW hPo p0 p3 q1 h0 (fun s hs => ?_)
        show va_up (gA π 2) k 0 s = 0
        by_cases c : s = k
        · rw [c, va_up_e]
        · rw [va_up_n c]; exact q2 s (by omega)
  have L1 : ∀ (n : Nat), n ≤ tN τ 31 → ∀ (η : AH) (π : MS), Wd G η w τ → GO scX7 η (some t) p adp π → gN π 0 = w + 1 → gN π 3 = lcT τ x → (∀ c, c < tN τ 31 → n ≤ c → gA π 1 c = bo x c) → Kp t (t + 1) η0 η → V G Γ yX7_read cX7_read 4 none [] 1 (rv fun η => Pl η t p w τ x ∧ Kp t (t + 1) η0 η) (0) (0) (η) 43 [some (.ref p), some (.int (nI (cdT τ x))), some (.int (nI (cdB x (cdA x (tN τ 30)) n))), some (.int (oI n))] [] := by
    intro n
    induction n with
    | zero =>
      intro hn η π hW hPo p0 p3 q1 h0
      refine v_iload_n (i := 3) dX7_read_43 rfl rfl ?_
      refine vo_if_lt (tgt := 66) dX7_read_44 rfl (by omega) (fun c44 => ?_) (fun c44 => ?_)
      · refine v_iconst (v := nI 0) dX7_read_66 k_iconst_0 ?_
        refine v_istore_n (i := 3) dX7_read_67 rfl (by decide) rfl ?_
        exact L2 4 0 rfl η _ hW hPo p0 p3 (fun c hc _ => q1 c hc (Nat.zero_le _)) h0 (fun s hs => absurd hs (by omega))
      · exact absurd c44 (by omega)
    | succ n ih =>
      intro hn η π hW hPo p0 p3 q1 h0
      have h4 := bo_lt x n
      have hA := cdB_lt x _ _ (cdA_lt x (tN τ 30)) (n + 1)
      have hA2 : 4 ^ (tN τ 30 + (n + 1)) ≤ 4 ^ 10 := Nat.pow_le_pow_right (by decide) (by omega)
      have hA3 : (4 : Nat) ^ 10 = 1048576 := by decide
      have e0 : cdB x (cdA x (tN τ 30)) (n + 1) = cdB x (cdA x (tN τ 30)) n * 4 + bo x n := rfl
      have e1 : cdB x (cdA x (tN τ 30)) (n + 1) % 4 = bo x n := by omega
      have e2 : cdB x (cdA x (tN τ 30)) (n + 1) / 4 = cdB x (cdA x (tN τ 30)) n := by omega
      show V G Γ yX7_read cX7_read 4 none [] 1 (rv fun η => Pl η t p w τ x ∧ Kp t (t + 1) η0 η) (0) (0) (η) 43 [some (.ref p), some (.int (nI (cdT τ x))), some (.int (nI (cdB x (cdA x (tN τ 30)) (n + 1)))), some (.int (nI n))] []
      refine v_iload_n (i := 3) dX7_read_43 rfl rfl ?_
      refine vn_if_lt (tgt := 66) dX7_read_44 rfl (by omega) ?_
      refine v_aload_n (i := 0) dX7_read_47 rfl rfl ?_
      refine go_getA hPo KX7 1 (by decide) (by decide) q509 dX7_read_48 ?_
      refine v_iload_n (i := 3) dX7_read_51 rfl rfl ?_
      refine v_iload_n (i := 2) dX7_read_52 rfl rfl ?_
      refine v_iconst (v := nI 4) dX7_read_53 k_iconst_4 ?_
      refine vn_irem (by omega) (by decide) (by decide) dX7_read_54 ?_
      refine v_top (by rw [e1]) ?_
      refine go_st10 hPo 1 (by decide) rfl (show _ < 2 from (by omega)) (by decide) dX7_read_55 (fun η hPo hk => ?_)
      have hW := hW.kp hk
      have h0 := h0.th hk (by omega) (by omega)
      refine v_iload_n (i := 2) dX7_read_56 rfl rfl ?_
      refine v_iconst (v := nI 4) dX7_read_57 k_iconst_4 ?_
      refine vn_idiv (by omega) (by decide) (by decide) dX7_read_58 ?_
      refine v_top (by rw [e2]) ?_
      refine v_istore_n (i := 2) dX7_read_59 rfl (by decide) rfl ?_
      refine v_iinc dX7_read_60 rfl (oI_pred n) (by decide) rfl ?_
      refine v_goto (tgt := 43) dX7_read_63 rfl ?_
      refine ih (by omega) η _ hW hPo p0 p3 (fun c hc k => ?_) h0
      show va_up (gA π 1) n (bo x n) c = bo x c
      by_cases e : c = n
      · rw [e, va_up_e]
      · rw [va_up_n e]; exact q1 c hc (by omega)
  have hWW := hW
  have h0 : Kp t (t + 1) η0 η0 := Kp.rf
  have hlx := la_lt x
  obtain ⟨ad, L, hTB, hWo, hWw, hWb, ⟨xl, cl, hWl, hWln⟩, hWr⟩ := id hW
  obtain ⟨⟨wb1, wb2, wb3, wb4, wb5, wb6, wb7⟩, wb8, wb9, wb10, wb11, wb12⟩ := id hTB
  obtain ⟨xb, cb, hBl, hBn, hBo⟩ := hWb
  have hcB : cdT τ x / 4 = cdB x (cdA x (tN τ 30)) (tN τ 31) := by unfold cdT; split <;> omega
  have hcL : ¬ tN τ 33 = 0 → cdT τ x % 4 = la x := fun q => by unfold cdT; rw [if_neg q]; omega
  refine v_iload_n (i := 1) dX7_read_0 rfl rfl ?_
  refine v_istore_n (i := 2) dX7_read_1 rfl (by decide) rfl ?_
  refine v_aload_n (i := 0) dX7_read_2 rfl rfl ?_
  refine v_aload_n (i := 0) dX7_read_3 rfl rfl ?_
  refine go_get3 hPo KX7 0 (by decide) rfl (w) p0 q508 dX7_read_4 ?_
  refine go_get1N hWo KX2 2 (by decide) rfl (tN τ 33) rfl q219 dX7_read_7 ?_
  refine v_iconst (v := -1) dX7_read_10 k_iconst_m1 ?_
  refine vo_icmp_ne (tgt := 18) dX7_read_11 rfl (by omega) (fun c11 => ?_) (fun c11 => ?_)
  · refine v_iload_n (i := 2) dX7_read_18 rfl rfl ?_
    refine v_iconst (v := nI 4) dX7_read_19 k_iconst_4 ?_
    refine vn_irem (by omega) (by decide) (by decide) dX7_read_20 ?_
    refine v_top (by rw [hcL c11]) ?_
    refine go_put1n hPo KX7 3 (by decide) rfl q519 rfl rfl rfl dX7_read_21 (fun η hPo hk => ?_)
    have h0 := h0.th hk (by omega) (by omega)
    have hW := hW.kp hk
    obtain ⟨ad, L, hTB, hWo, hWw, hWb, ⟨xl, cl, hWl, hWln⟩, hWr⟩ := id hW
    obtain ⟨⟨wb1, wb2, wb3, wb4, wb5, wb6, wb7⟩, wb8, wb9, wb10, wb11, wb12⟩ := id hTB
    obtain ⟨xb, cb, hBl, hBn, hBo⟩ := hWb
    refine v_iload_n (i := 2) dX7_read_24 rfl rfl ?_
    refine v_iconst (v := nI 4) dX7_read_25 k_iconst_4 ?_
    refine vn_idiv (by omega) (by decide) (by decide) dX7_read_26 ?_
    refine v_top (by rw [hcB]) ?_
    refine v_istore_n (i := 2) dX7_read_27 rfl (by decide) rfl ?_
    refine v_aload_n (i := 0) dX7_read_28 rfl rfl ?_
    refine go_get3 hPo KX7 0 (by decide) rfl (w) p0 q508 dX7_read_29 ?_
    refine go_get3N hWo KX2 8 (by decide) rfl (L 8) rfl q238 dX7_read_32 ?_
    refine v_Lsize hBl q541 (by decide) (Nat.le_of_ble_eq_true rfl) dX7_read_35 ?_
    refine v_top (x' := nI (tN τ 31)) (by rw [hBn]) ?_
    refine v_iconst (v := nI 1) dX7_read_40 k_iconst_1 ?_
    refine v_isub dX7_read_41 ?_
    refine v_top (x' := oI (tN τ 31)) (nI_sub1 _) ?_
    refine v_istore_n (i := 3) dX7_read_42 rfl (by decide) rfl ?_
    exact L1 _ (Nat.le_refl _) η _ hW hPo p0 (by show la x + 1 = lcT τ x; unfold lcT; rw [if_neg c11]) (fun c hc k => absurd hc (by omega)) h0
  · refine v_iconst (v := -1) dX7_read_14 k_iconst_m1 ?_
    refine v_goto (tgt := 21) dX7_read_15 rfl ?_
    refine go_put1m hPo KX7 3 (by decide) rfl q519 rfl rfl rfl dX7_read_21 (fun η hPo hk => ?_)
    have h0 := h0.th hk (by omega) (by omega)
    have hW := hW.kp hk
    obtain ⟨ad, L, hTB, hWo, hWw, hWb, ⟨xl, cl, hWl, hWln⟩, hWr⟩ := id hW
    obtain ⟨⟨wb1, wb2, wb3, wb4, wb5, wb6, wb7⟩, wb8, wb9, wb10, wb11, wb12⟩ := id hTB
    obtain ⟨xb, cb, hBl, hBn, hBo⟩ := hWb
    refine v_iload_n (i := 2) dX7_read_24 rfl rfl ?_
    refine v_iconst (v := nI 4) dX7_read_25 k_iconst_4 ?_
    refine vn_idiv (by omega) (by decide) (by decide) dX7_read_26 ?_
    refine v_top (by rw [hcB]) ?_
    refine v_istore_n (i := 2) dX7_read_27 rfl (by decide) rfl ?_
    refine v_aload_n (i := 0) dX7_read_28 rfl rfl ?_
    refine go_get3 hPo KX7 0 (by decide) rfl (w) p0 q508 dX7_read_29 ?_
    refine go_get3N hWo KX2 8 (by decide) rfl (L 8) rfl q238 dX7_read_32 ?_
    refine v_Lsize hBl q541 (by decide) (Nat.le_of_ble_eq_true rfl) dX7_read_35 ?_
    refine v_top (x' := nI (tN τ 31)) (by rw [hBn]) ?_
    refine v_iconst (v := nI 1) dX7_read_40 k_iconst_1 ?_
    refine v_isub dX7_read_41 ?_
    refine v_top (x' := oI (tN τ 31)) (nI_sub1 _) ?_
    refine v_istore_n (i := 3) dX7_read_42 rfl (by decide) rfl ?_
    exact L1 _ (Nat.le_refl _) η _ hW hPo p0 (by show 0 = lcT τ x; unfold lcT; rw [if_pos c11]) (fun c hc k => absurd hc (by omega)) h0
