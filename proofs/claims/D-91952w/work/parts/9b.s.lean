set_option maxRecDepth 100000
theorem cS_slotOf {G : Gl} {η : AH} {t m : Nat} {adm : Nat → Nat} {μ : MS} (hMo : GO scX3 η (some t) m adm μ) (hS : SLt hsC (gA μ 3) (gA μ 2) (gN μ 9)) (hst : ∀ j, j < gN μ 9 → gA μ 2 j < 4194304) {c : Nat} (hc : c < 4194304) : Ct G yX3_slotOf cX3_slotOf 3 (some .int) 0 (0) (0) [.ref m, .int (nI c)] η (ri fun r η2 => η2 = η ∧ ∃ d, d < 8192 ∧ r = nI ((hsC c + d) % 8192) ∧ (∀ e, e < d → gA μ 3 ((hsC c + e) % 8192) ≠ 0 ∧ gA μ 2 (gA μ 3 ((hsC c + e) % 8192) - 1) ≠ c) ∧ (gA μ 3 ((hsC c + d) % 8192) = 0 ∨ gA μ 2 (gA μ 3 ((hsC c + d) % 8192) - 1) = c)) := by
  refine Ct.start rfl rfl (Nat.le_of_ble_eq_true rfl) (fun Γ => ?_)
  have hn2 := hS.1
  have L : ∀ (n d : Nat), 8192 - d = n → (∀ e, e < d → gA μ 3 ((hsC c + e) % 8192) ≠ 0 ∧ gA μ 2 (gA μ 3 ((hsC c + e) % 8192) - 1) ≠ c) → V G Γ yX3_slotOf cX3_slotOf 3 (some .int) [] 0 (ri fun r η2 => η2 = η ∧ ∃ d, d < 8192 ∧ r = nI ((hsC c + d) % 8192) ∧ (∀ e, e < d → gA μ 3 ((hsC c + e) % 8192) ≠ 0 ∧ gA μ 2 (gA μ 3 ((hsC c + e) % 8192) - 1) ≠ c) ∧ (gA μ 3 ((hsC c + d) % 8192) = 0 ∨ gA μ 2 (gA μ 3 ((hsC c + d) % 8192) - 1) = c)) (0) (0) (η) 14 [some (.ref m), some (.int (nI c)), some (.int (nI ((hsC c + d) % 8192)))] [] := by
    intro n
    induction n using Nat.strongRecOn with
    | _ n ih =>
      intro d hd hp
      have hd2 := hS.room (fun e he => (hp e he).1)
      have hk : ((hsC c + d) % 8192) < 8192 := Nat.mod_lt _ (by decide)
      have hsl := hS.2.1 _ hk
      refine v_aload_n (i := 0) dX3_slotOf_14 rfl rfl ?_
      refine go_getA hMo KX3 3 (by decide) (by decide) q281 dX3_slotOf_15 ?_
      refine v_iload_n (i := 2) dX3_slotOf_18 rfl rfl ?_
      refine go_ld11 hMo 3 (by decide) rfl (show _ < 8192 from (by omega)) (by decide) _ rfl dX3_slotOf_19 ?_
      refine v_iconst (v := -1) dX3_slotOf_20 k_iconst_m1 ?_
      refine vo_icmp_eq (tgt := 50) dX3_slotOf_21 rfl (by omega) (fun c21 => ?_) (fun c21 => ?_)
      · refine v_iload_n (i := 2) dX3_slotOf_50 rfl rfl ?_
        exact v_iret rfl dX3_slotOf_51 ⟨_, rfl, rfl, d, hd2, rfl, hp, Or.inl c21⟩
      · obtain ⟨k, hk1⟩ : ∃ k, gA μ 3 ((hsC c + d) % 8192) = k + 1 := ⟨gA μ 3 ((hsC c + d) % 8192) - 1, by omega⟩
        have hs1 := hst k (by omega)
        refine v_aload_n (i := 0) dX3_slotOf_24 rfl rfl ?_
        refine go_getA hMo KX3 2 (by decide) (by decide) q280 dX3_slotOf_25 ?_
        refine v_aload_n (i := 0) dX3_slotOf_28 rfl rfl ?_
        refine go_getA hMo KX3 3 (by decide) (by decide) q281 dX3_slotOf_29 ?_
        refine v_iload_n (i := 2) dX3_slotOf_32 rfl rfl ?_
        refine go_ld11 hMo 3 (by decide) rfl (show _ < 8192 from (by omega)) (by decide) _ hk1 dX3_slotOf_33 ?_
        refine go_ld10 hMo 2 (by decide) rfl (show _ < 2000 from (by omega)) (by decide) _ rfl dX3_slotOf_34 ?_
        refine v_iload_n (i := 1) dX3_slotOf_35 rfl rfl ?_
        refine vn_icmp_eq (tgt := 50) dX3_slotOf_36 rfl (by omega) (by omega) (fun c36 => ?_) (fun c36 => ?_)
        · refine v_iload_n (i := 2) dX3_slotOf_50 rfl rfl ?_
          exact v_iret rfl dX3_slotOf_51 ⟨_, rfl, rfl, d, hd2, rfl, hp, Or.inr (by rw [hk1]; exact c36)⟩
        · refine v_iload_n (i := 2) dX3_slotOf_39 rfl rfl ?_
          refine v_iconst (v := nI 1) dX3_slotOf_40 k_iconst_1 ?_
          refine vn_iadd dX3_slotOf_41 ?_
          refine v_sipush (v := nI 8191) dX3_slotOf_42 k_sipush_8191 ?_
          refine vn_and8191 dX3_slotOf_45 ?_
          refine v_istore_n (i := 2) dX3_slotOf_46 rfl (by decide) rfl ?_
          refine v_goto (tgt := 14) dX3_slotOf_47 rfl ?_
          rw [show (((hsC c + d) % 8192) + 1) % 8192 = (hsC c + (d + 1)) % 8192 by omega]
          exact ih _ (by omega) (d + 1) rfl (fun e he => by by_cases q : e = d; (rw [q, hk1]; exact ⟨Nat.succ_ne_zero _, c36⟩); exact hp e (by omega))
  refine v_iload_n (i := 1) dX3_slotOf_0 rfl rfl ?_
  refine v_bipush (v := nI 31) dX3_slotOf_1 k_bipush_31 ?_
  refine vn_imul dX3_slotOf_3 ?_
  refine v_iload_n (i := 1) dX3_slotOf_4 rfl rfl ?_
  refine v_bipush (v := nI 11) dX3_slotOf_5 k_bipush_11 ?_
  refine vn_iushr (by omega) (by decide) dX3_slotOf_7 ?_
  refine vn_ixor dX3_slotOf_8 ?_
  refine v_sipush (v := nI 8191) dX3_slotOf_9 k_sipush_8191 ?_
  refine vn_and8191 dX3_slotOf_12 ?_
  refine v_istore_n (i := 2) dX3_slotOf_13 rfl (by decide) rfl ?_
  have L0 := L 8192 0 rfl (fun e he => absurd he (by omega))
  rw [show (hsC c + 0) % 8192 = hsC c by unfold hsC; omega] at L0
  exact L0
theorem cS_add {G : Gl} {η0 : AH} {t m : Nat} {adm : Nat → Nat} {μ : MS} (hMo : GO scX3 η0 (some t) m adm μ) (hS : SLt hsC (gA μ 3) (gA μ 2) (gN μ 9)) (hst : ∀ j, j < gN μ 9 → gA μ 2 j < 4194304) {c : Nat} (hc : c < 4194304) (f : Nat) : Ct G yX3_add cX3_add 4 (some .int) 1 (0) (0) [.ref m, .int (nI c), .int (nI f)] η0 (ri fun r η => ∃ μ2, GO scX3 η (some t) m adm μ2 ∧ Kp t (t + 1) η0 η ∧ (ixN (gA μ 2) c (gN μ 9) < gN μ 9 → r = nI (ixN (gA μ 2) c (gN μ 9)) ∧ μ2 = μ) ∧ (ixN (gA μ 2) c (gN μ 9) = gN μ 9 → gN μ 9 = 2000 → r = -1 ∧ μ2 = sN μ 11 1) ∧ (ixN (gA μ 2) c (gN μ 9) = gN μ 9 → gN μ 9 < 2000 → r = nI (gN μ 9) ∧ ∃ q, q < 8192 ∧ SLt hsC (va_up (gA μ 3) q (gN μ 9 + 1)) (va_up (gA μ 2) (gN μ 9) c) (gN μ 9 + 1) ∧ μ2 = sN (sA (sA (sA μ 2 (gN μ 9) c) 4 (gN μ 9) f) 3 q (gN μ 9 + 1)) 9 (gN μ 9 + 1))) := by
  refine Ct.start rfl rfl (Nat.le_of_ble_eq_true rfl) (fun Γ => ?_)
  have h0 : Kp t (t + 1) η0 η0 := Kp.rf
  have hn2 := hS.1
  have hle := ixN_le (gA μ 2) c (gN μ 9)
  refine v_aload_n (i := 0) dX3_add_0 rfl rfl ?_
  refine v_iload_n (i := 1) dX3_add_1 rfl rfl ?_
  refine v_callVe (cS_slotOf hMo hS hst hc) (lw_V q701 q703 qs3 q124 q704) iX3_slotOf rfl KX3 hMo.rcv rfl rfl (by decide) (by decide) (Nat.le_of_ble_eq_true rfl) (Nat.le_refl _) (Nat.le_refl _) dX3_add_2 (kr_I (fun x_ η h => ?_)) kx_I
  obtain ⟨rfl, d, hd2, rfl, hp, hdn⟩ := h
  generalize hK : (hsC c + d) % 8192 = K at hdn ⊢
  have hKb : K < 8192 := by rw [← hK]; exact Nat.mod_lt _ (by decide)
  have hsl := hS.2.1 _ hKb
  refine v_istore_n (i := 3) dX3_add_5 rfl (by decide) rfl ?_
  refine v_aload_n (i := 0) dX3_add_6 rfl rfl ?_
  refine go_getA hMo KX3 3 (by decide) (by decide) q281 dX3_add_7 ?_
  refine v_iload_n (i := 3) dX3_add_10 rfl rfl ?_
  refine go_ld11 hMo 3 (by decide) rfl (show _ < 8192 from (by omega)) (by decide) _ rfl dX3_add_11 ?_
  refine v_iconst (v := -1) dX3_add_12 k_iconst_m1 ?_
  refine vo_icmp_eq (tgt := 23) dX3_add_13 rfl (by omega) (fun c13 => ?_) (fun c13 => ?_)
  · have hfree := hS.free hd2 (by rw [hK]; exact c13) hp
    have eix := ixN_no hfree
    refine v_aload_n (i := 0) dX3_add_23 rfl rfl ?_
    refine go_get0 hMo KX3 9 (by decide) rfl (gN μ 9) rfl q290 dX3_add_24 ?_
    refine v_sipush (v := nI 2000) dX3_add_27 k_sipush_2000 ?_
    refine vn_icmp_ne (tgt := 40) dX3_add_30 rfl (by omega) (by decide) (fun c30 => ?_) (fun c30 => ?_)
    · refine v_aload_n (i := 0) dX3_add_40 rfl rfl ?_
      refine go_getA hMo KX3 2 (by decide) (by decide) q280 dX3_add_41 ?_
      refine v_aload_n (i := 0) dX3_add_44 rfl rfl ?_
      refine go_get0 hMo KX3 9 (by decide) rfl (gN μ 9) rfl q290 dX3_add_45 ?_
      refine v_iload_n (i := 1) dX3_add_48 rfl rfl ?_
      refine go_st10 hMo 2 (by decide) rfl (show _ < 2000 from (by omega)) (by decide) dX3_add_49 (fun η hMo hk => ?_)
      have h0 := h0.th hk (by omega) (by omega)
      refine v_aload_n (i := 0) dX3_add_50 rfl rfl ?_
      refine go_getA hMo KX3 4 (by decide) (by decide) q282 dX3_add_51 ?_
      refine v_aload_n (i := 0) dX3_add_54 rfl rfl ?_
      refine go_get0 hMo KX3 9 (by decide) rfl (gN μ 9) rfl q290 dX3_add_55 ?_
      refine v_iload_n (i := 2) dX3_add_58 rfl rfl ?_
      refine go_st10 hMo 4 (by decide) rfl (show _ < 2000 from (by omega)) (by decide) dX3_add_59 (fun η hMo hk => ?_)
      have h0 := h0.th hk (by omega) (by omega)
      refine v_aload_n (i := 0) dX3_add_60 rfl rfl ?_
      refine go_getA hMo KX3 3 (by decide) (by decide) q281 dX3_add_61 ?_
      refine v_iload_n (i := 3) dX3_add_64 rfl rfl ?_
      refine v_aload_n (i := 0) dX3_add_65 rfl rfl ?_
      refine go_get0 hMo KX3 9 (by decide) rfl (gN μ 9) rfl q290 dX3_add_66 ?_
      refine go_st11n hMo 3 (by decide) rfl (show _ < 8192 from (by omega)) (by decide) dX3_add_69 (fun η hMo hk => ?_)
      have h0 := h0.th hk (by omega) (by omega)
      refine v_aload_n (i := 0) dX3_add_70 rfl rfl ?_
      refine v_dup dX3_add_71 rfl ?_
      refine go_get0 hMo KX3 9 (by decide) rfl (gN μ 9) rfl q290 dX3_add_72 ?_
      refine v_iconst (v := nI 1) dX3_add_75 k_iconst_1 ?_
      refine vn_iadd dX3_add_76 ?_
      refine go_put0 hMo KX3 9 (by decide) rfl q290 rfl rfl rfl dX3_add_77 (fun η hMo hk => ?_)
      have h0 := h0.th hk (by omega) (by omega)
      refine v_aload_n (i := 0) dX3_add_80 rfl rfl ?_
      refine go_get0 hMo KX3 9 (by decide) rfl (gN μ 9 + 1) rfl q290 dX3_add_81 ?_
      refine v_iconst (v := nI 1) dX3_add_84 k_iconst_1 ?_
      refine vn_isub (by omega) dX3_add_85 ?_
      exact v_iret rfl dX3_add_86 ⟨_, rfl, _, hMo, h0, fun q => (by omega), fun _ q => absurd q c30, fun _ _ => ⟨rfl, K, hKb, (by rw [← hK]; exact hS.add (by omega) hd2 (by rw [hK]; exact c13) hp), rfl⟩⟩
    · refine v_aload_n (i := 0) dX3_add_33 rfl rfl ?_
      refine v_iconst (v := nI 1) dX3_add_34 k_iconst_1 ?_
      refine go_put0 hMo KX3 11 (by decide) rfl q294 rfl (zb (by decide)).1 (zb (by decide)).2 dX3_add_35 (fun η hMo hk => ?_)
      have h0 := h0.th hk (by omega) (by omega)
      refine v_iconst (v := -1) dX3_add_38 k_iconst_m1 ?_
      exact v_iret rfl dX3_add_39 ⟨_, rfl, _, hMo, h0, fun q => (by omega), fun _ _ => ⟨rfl, rfl⟩, fun _ q => (by omega)⟩
  · obtain ⟨k, hk1⟩ : ∃ k, gA μ 3 K = k + 1 := ⟨gA μ 3 K - 1, by omega⟩
    have hck : gA μ 2 k = c := by rcases hdn with q | q; (omega); (rw [hk1] at q; exact q)
    have e : ixN (gA μ 2) c (gN μ 9) = k := ixN_of (by omega) hck hS.2.2.2.2
    refine v_aload_n (i := 0) dX3_add_16 rfl rfl ?_
    refine go_getA hMo KX3 3 (by decide) (by decide) q281 dX3_add_17 ?_
    refine v_iload_n (i := 3) dX3_add_20 rfl rfl ?_
    refine go_ld11 hMo 3 (by decide) rfl (show _ < 8192 from (by omega)) (by decide) _ hk1 dX3_add_21 ?_
    exact v_iret rfl dX3_add_22 ⟨_, rfl, _, hMo, h0, fun _ => ⟨by rw [e]; rfl, rfl⟩, fun q => (by rw [e] at q; omega), fun q => (by rw [e] at q; omega)⟩
theorem cS_find {G : Gl} {η : AH} {t m : Nat} {adm : Nat → Nat} {μ : MS} (hMo : GO scX3 η (some t) m adm μ) (hS : SLt hsC (gA μ 3) (gA μ 2) (gN μ 9)) (hst : ∀ j, j < gN μ 9 → gA μ 2 j < 4194304) {c : Nat} (hc : c < 4194304) (hj : ixN (gA μ 2) c (gN μ 9) < gN μ 9) : Ct G yX3_find cX3_find 2 (some .int) 1 (0) (0) [.ref m, .int (nI c)] η (ri fun r η2 => η2 = η ∧ r = nI (ixN (gA μ 2) c (gN μ 9))) := by
  refine Ct.start rfl rfl (Nat.le_of_ble_eq_true rfl) (fun Γ => ?_)
  obtain ⟨hj1, hj2⟩ := ixN_lt hj
  refine v_aload_n (i := 0) dX3_find_0 rfl rfl ?_
  refine go_getA hMo KX3 3 (by decide) (by decide) q281 dX3_find_1 ?_
  refine v_aload_n (i := 0) dX3_find_4 rfl rfl ?_
  refine v_iload_n (i := 1) dX3_find_5 rfl rfl ?_
  refine v_callVe (cS_slotOf hMo hS hst hc) (lw_V q701 q703 qs3 q124 q704) iX3_slotOf rfl KX3 hMo.rcv rfl rfl (by decide) (by decide) (Nat.le_of_ble_eq_true rfl) (Nat.le_refl _) (Nat.le_refl _) dX3_find_6 (kr_I (fun x_ η h => ?_)) kx_I
  obtain ⟨rfl, d, hd2, rfl, hp, hdn⟩ := h
  generalize hK : (hsC c + d) % 8192 = K at hdn ⊢
  have hKb : K < 8192 := by rw [← hK]; exact Nat.mod_lt _ (by decide)
  have hsl := hS.2.1 _ hKb
  have hne : ¬ gA μ 3 K = 0 := fun q => hS.free hd2 (by rw [hK]; exact q) hp _ hj hj1
  obtain ⟨k, hk1⟩ : ∃ k, gA μ 3 K = k + 1 := ⟨gA μ 3 K - 1, by omega⟩
  have hck : gA μ 2 k = c := by rcases hdn with q | q; (omega); (rw [hk1] at q; exact q)
  have e : ixN (gA μ 2) c (gN μ 9) = k := ixN_of (by omega) hck hS.2.2.2.2
  refine go_ld11 hMo 3 (by decide) rfl (show _ < 8192 from (by omega)) (by decide) _ hk1 dX3_find_9 ?_
  exact v_iret rfl dX3_find_10 ⟨_, rfl, rfl, by rw [e]; rfl⟩
