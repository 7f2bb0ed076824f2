theorem cM_rowers {G : Gl} {m : Nat} {ad : Nat → Nat} {η0 : AH} (hap : Mp m ad) (σ : MS) (s : Nat) (hs : s < 2147483648) (hT : gN σ 2 ≤ 8) (hm : ∀ t, t < gN σ 2 → gA σ 7 t < 2147483648) : Ct G yX8_rowers cX8_rowers 4 (some .int) 1 0 0 [.ref m, .int (nI s)] (MH m ad σ η0) (re (some (.int (nI (rowN (gA σ 7) s (gN σ 2))))) (MH m ad σ η0)) := by
  refine Ct.start rfl rfl (Nat.le_of_ble_eq_true rfl) (fun Γ => ?_)
  have L : ∀ (n : Nat) (t v : Nat), gN σ 2 - t = n → t ≤ gN σ 2 → v = rowN (gA σ 7) s t → V G Γ yX8_rowers cX8_rowers 4 (some .int) [] 1 (re (some (.int (nI (rowN (gA σ 7) s (gN σ 2))))) (MH m ad σ η0)) 0 0 (MH m ad σ η0) 4 [some (.ref m), some (.int (nI s)), some (.int (nI v)), some (.int (nI t))] [] := by
    intro n
    induction n using Nat.strongRecOn with
    | _ n ih =>
      intro t v hn ht hv
      refine v_iload_n (i := 3) dX8_rowers_4 rfl rfl ?_
      refine v_aload_n (i := 0) dX8_rowers_5 rfl rfl ?_
      refine mg_things rfl dX8_rowers_6 ?_
      refine vn_icmp_ge (tgt := 44) dX8_rowers_9 rfl (by omega) (by omega) (fun c9 => ?_) (fun c9 => ?_)
      · have e : t = gN σ 2 := by omega
        subst e
        refine v_iload_n (i := 2) dX8_rowers_44 rfl rfl ?_
        exact v_iret rfl dX8_rowers_45 ⟨by rw [hv], rfl⟩
      · have hmt := hm t (by omega)
        refine v_iload_n (i := 2) dX8_rowers_12 rfl rfl ?_
        refine v_iload_n (i := 1) dX8_rowers_13 rfl rfl ?_
        refine v_iload_n (i := 3) dX8_rowers_14 rfl rfl ?_
        refine vn_ishr (by omega) (by omega) dX8_rowers_15 ?_
        refine v_iconst (v := nI 1) dX8_rowers_16 k_iconst_1 ?_
        refine vn_and1 dX8_rowers_17 ?_
        refine v_iconst (v := nI 1) dX8_rowers_18 k_iconst_1 ?_
        refine vn_icmp_ne (tgt := 35) dX8_rowers_19 rfl (by omega) (by omega) (fun c19 => ?_) (fun c19 => ?_)
        · refine v_iconst (v := nI 0) dX8_rowers_35 k_iconst_0 ?_
          refine vn_iadd dX8_rowers_36 ?_
          refine v_istore_n (i := 2) dX8_rowers_37 rfl (by decide) rfl ?_
          refine vn_iinc 1 dX8_rowers_38 rfl k_iconst_1 (by decide) rfl ?_
          refine v_goto (tgt := 4) dX8_rowers_41 rfl ?_
          exact ih _ (by omega) (t + 1) _ rfl (by omega) (by simp_all [rowN, bt])
        · refine v_aload_n (i := 0) dX8_rowers_22 rfl rfl ?_
          refine mg_minutes rfl dX8_rowers_23 ?_
          refine v_iload_n (i := 3) dX8_rowers_26 rfl rfl ?_
          refine ml_minutes hap (by omega) dX8_rowers_27 ?_
          refine vn_if_le (tgt := 35) dX8_rowers_28 rfl (by omega) (fun c28 => ?_) (fun c28 => ?_)
          · refine v_iconst (v := nI 0) dX8_rowers_35 k_iconst_0 ?_
            refine vn_iadd dX8_rowers_36 ?_
            refine v_istore_n (i := 2) dX8_rowers_37 rfl (by decide) rfl ?_
            refine vn_iinc 1 dX8_rowers_38 rfl k_iconst_1 (by decide) rfl ?_
            refine v_goto (tgt := 4) dX8_rowers_41 rfl ?_
            exact ih _ (by omega) (t + 1) _ rfl (by omega) (by simp_all [rowN, bt])
          · refine v_iconst (v := nI 1) dX8_rowers_31 k_iconst_1 ?_
            refine v_goto (tgt := 36) dX8_rowers_32 rfl ?_
            refine vn_iadd dX8_rowers_36 ?_
            refine v_istore_n (i := 2) dX8_rowers_37 rfl (by decide) rfl ?_
            refine vn_iinc 1 dX8_rowers_38 rfl k_iconst_1 (by decide) rfl ?_
            refine v_goto (tgt := 4) dX8_rowers_41 rfl ?_
            exact ih _ (by omega) (t + 1) _ rfl (by omega) (by simp_all [rowN, bt])
  refine v_iconst (v := nI 0) dX8_rowers_0 k_iconst_0 ?_
  refine v_istore_n (i := 2) dX8_rowers_1 rfl (by decide) rfl ?_
  refine v_iconst (v := nI 0) dX8_rowers_2 k_iconst_0 ?_
  refine v_istore_n (i := 3) dX8_rowers_3 rfl (by decide) rfl ?_
  exact L _ 0 0 rfl (by omega) rfl
theorem cM_sumOf {G : Gl} {m : Nat} {ad : Nat → Nat} {η0 : AH} (hap : Mp m ad) (σ : MS) (s : Nat) (hs : s < 2147483648) (hT : gN σ 2 ≤ 8) : Ct G yX8_sumOf cX8_sumOf 5 (some .int) 1 0 0 [.ref m, .int (nI s), .ref (ad 6)] (MH m ad σ η0) (re (some (.int (nI (sumN (gA σ 6) s (gN σ 2))))) (MH m ad σ η0)) := by
  refine Ct.start rfl rfl (Nat.le_of_ble_eq_true rfl) (fun Γ => ?_)
  have L : ∀ (n : Nat) (t v : Nat), gN σ 2 - t = n → t ≤ gN σ 2 → v = sumN (gA σ 6) s t → V G Γ yX8_sumOf cX8_sumOf 5 (some .int) [] 1 (re (some (.int (nI (sumN (gA σ 6) s (gN σ 2))))) (MH m ad σ η0)) 0 0 (MH m ad σ η0) 5 [some (.ref m), some (.int (nI s)), some (.ref (ad 6)), some (.int (nI v)), some (.int (nI t))] [] := by
    intro n
    induction n using Nat.strongRecOn with
    | _ n ih =>
      intro t v hn ht hv
      refine v_iload (i := 4) dX8_sumOf_5 rfl ?_
      refine v_aload_n (i := 0) dX8_sumOf_7 rfl rfl ?_
      refine mg_things rfl dX8_sumOf_8 ?_
      refine vn_icmp_ge (tgt := 41) dX8_sumOf_11 rfl (by omega) (by omega) (fun c11 => ?_) (fun c11 => ?_)
      · have e : t = gN σ 2 := by omega
        subst e
        refine v_iload_n (i := 3) dX8_sumOf_41 rfl rfl ?_
        exact v_iret rfl dX8_sumOf_42 ⟨by rw [hv], rfl⟩
      · refine v_iload_n (i := 3) dX8_sumOf_14 rfl rfl ?_
        refine v_iload_n (i := 1) dX8_sumOf_15 rfl rfl ?_
        refine v_iload (i := 4) dX8_sumOf_16 rfl ?_
        refine vn_ishr (by omega) (by omega) dX8_sumOf_18 ?_
        refine v_iconst (v := nI 1) dX8_sumOf_19 k_iconst_1 ?_
        refine vn_and1 dX8_sumOf_20 ?_
        refine v_iconst (v := nI 1) dX8_sumOf_21 k_iconst_1 ?_
        refine vn_icmp_ne (tgt := 32) dX8_sumOf_22 rfl (by omega) (by omega) (fun c22 => ?_) (fun c22 => ?_)
        · refine v_iconst (v := nI 0) dX8_sumOf_32 k_iconst_0 ?_
          refine vn_iadd dX8_sumOf_33 ?_
          refine v_istore_n (i := 3) dX8_sumOf_34 rfl (by decide) rfl ?_
          refine vn_iinc 1 dX8_sumOf_35 rfl k_iconst_1 (by decide) rfl ?_
          refine v_goto (tgt := 5) dX8_sumOf_38 rfl ?_
          exact ih _ (by omega) (t + 1) _ rfl (by omega) (by simp_all [sumN, bt])
        · refine v_aload_n (i := 2) dX8_sumOf_25 rfl rfl ?_
          refine v_iload (i := 4) dX8_sumOf_26 rfl ?_
          refine ml_weight hap (by omega) dX8_sumOf_28 ?_
          refine v_goto (tgt := 33) dX8_sumOf_29 rfl ?_
          refine vn_iadd dX8_sumOf_33 ?_
          refine v_istore_n (i := 3) dX8_sumOf_34 rfl (by decide) rfl ?_
          refine vn_iinc 1 dX8_sumOf_35 rfl k_iconst_1 (by decide) rfl ?_
          refine v_goto (tgt := 5) dX8_sumOf_38 rfl ?_
          exact ih _ (by omega) (t + 1) _ rfl (by omega) (by simp_all [sumN, bt])
  refine v_iconst (v := nI 0) dX8_sumOf_0 k_iconst_0 ?_
  refine v_istore_n (i := 3) dX8_sumOf_1 rfl (by decide) rfl ?_
  refine v_iconst (v := nI 0) dX8_sumOf_2 k_iconst_0 ?_
  refine v_istore (i := 4) dX8_sumOf_3 (by decide) rfl ?_
  exact L _ 0 0 rfl (by omega) rfl
theorem cM_minutesOf {G : Gl} {m : Nat} {ad : Nat → Nat} {η0 : AH} (hap : Mp m ad) (σ : MS) (s : Nat) (hs : s < 2147483648) (hT : gN σ 2 ≤ 8) (hm : ∀ t, t < gN σ 2 → gA σ 7 t < 2147483648) : Ct G yX8_minutesOf cX8_minutesOf 4 (some .int) 1 0 0 [.ref m, .int (nI s)] (MH m ad σ η0) (re (some (.int (nI (mxN (gA σ 7) s (gN σ 2))))) (MH m ad σ η0)) := by
  refine Ct.start rfl rfl (Nat.le_of_ble_eq_true rfl) (fun Γ => ?_)
  have L : ∀ (n : Nat) (t v : Nat), gN σ 2 - t = n → t ≤ gN σ 2 → v = mxN (gA σ 7) s t → v < 2147483648 → V G Γ yX8_minutesOf cX8_minutesOf 4 (some .int) [] 1 (re (some (.int (nI (mxN (gA σ 7) s (gN σ 2))))) (MH m ad σ η0)) 0 0 (MH m ad σ η0) 4 [some (.ref m), some (.int (nI s)), some (.int (nI v)), some (.int (nI t))] [] := by
    intro n
    induction n using Nat.strongRecOn with
    | _ n ih =>
      intro t v hn ht hv hb
      refine v_iload_n (i := 3) dX8_minutesOf_4 rfl rfl ?_
      refine v_aload_n (i := 0) dX8_minutesOf_5 rfl rfl ?_
      refine mg_things rfl dX8_minutesOf_6 ?_
      refine vn_icmp_ge (tgt := 44) dX8_minutesOf_9 rfl (by omega) (by omega) (fun c9 => ?_) (fun c9 => ?_)
      · have e : t = gN σ 2 := by omega
        subst e
        refine v_iload_n (i := 2) dX8_minutesOf_44 rfl rfl ?_
        exact v_iret rfl dX8_minutesOf_45 ⟨by rw [hv], rfl⟩
      · have hmt := hm t (by omega)
        refine v_iload_n (i := 1) dX8_minutesOf_12 rfl rfl ?_
        refine v_iload_n (i := 3) dX8_minutesOf_13 rfl rfl ?_
        refine vn_ishr (by omega) (by omega) dX8_minutesOf_14 ?_
        refine v_iconst (v := nI 1) dX8_minutesOf_15 k_iconst_1 ?_
        refine vn_and1 dX8_minutesOf_16 ?_
        refine v_iconst (v := nI 1) dX8_minutesOf_17 k_iconst_1 ?_
        refine vn_icmp_ne (tgt := 38) dX8_minutesOf_18 rfl (by omega) (by omega) (fun c18 => ?_) (fun c18 => ?_)
        · refine vn_iinc 1 dX8_minutesOf_38 rfl k_iconst_1 (by decide) rfl ?_
          refine v_goto (tgt := 4) dX8_minutesOf_41 rfl ?_
          exact ih _ (by omega) (t + 1) _ rfl (by omega) (by simp only [mxN, bt, ← hv]; split <;> omega) (by omega)
        · refine v_aload_n (i := 0) dX8_minutesOf_21 rfl rfl ?_
          refine mg_minutes rfl dX8_minutesOf_22 ?_
          refine v_iload_n (i := 3) dX8_minutesOf_25 rfl rfl ?_
          refine ml_minutes hap (by omega) dX8_minutesOf_26 ?_
          refine v_iload_n (i := 2) dX8_minutesOf_27 rfl rfl ?_
          refine vn_icmp_le (tgt := 38) dX8_minutesOf_28 rfl (by omega) (by omega) (fun c28 => ?_) (fun c28 => ?_)
          · refine vn_iinc 1 dX8_minutesOf_38 rfl k_iconst_1 (by decide) rfl ?_
            refine v_goto (tgt := 4) dX8_minutesOf_41 rfl ?_
            exact ih _ (by omega) (t + 1) _ rfl (by omega) (by simp only [mxN, bt, ← hv]; split <;> omega) (by omega)
          · refine v_aload_n (i := 0) dX8_minutesOf_31 rfl rfl ?_
            refine mg_minutes rfl dX8_minutesOf_32 ?_
            refine v_iload_n (i := 3) dX8_minutesOf_35 rfl rfl ?_
            refine ml_minutes hap (by omega) dX8_minutesOf_36 ?_
            refine v_istore_n (i := 2) dX8_minutesOf_37 rfl (by decide) rfl ?_
            refine vn_iinc 1 dX8_minutesOf_38 rfl k_iconst_1 (by decide) rfl ?_
            refine v_goto (tgt := 4) dX8_minutesOf_41 rfl ?_
            exact ih _ (by omega) (t + 1) _ rfl (by omega) (by simp only [mxN, bt, ← hv]; split <;> omega) (by omega)
  refine v_iconst (v := nI 0) dX8_minutesOf_0 k_iconst_0 ?_
  refine v_istore_n (i := 2) dX8_minutesOf_1 rfl (by decide) rfl ?_
  refine v_iconst (v := nI 0) dX8_minutesOf_2 k_iconst_0 ?_
  refine v_istore_n (i := 3) dX8_minutesOf_3 rfl (by decide) rfl ?_
  exact L _ 0 0 rfl (by omega) rfl (by omega)
theorem cM_bits {G : Gl} {η : AH} (s : Nat) (hs : s < 256) : Ct G yX8_bits cX8_bits 3 (some .int) 1 0 0 [.int (nI s)] η (re (some (.int (nI (popc s)))) η) := by
  refine Ct.start rfl rfl (Nat.le_of_ble_eq_true rfl) (fun Γ => ?_)
  have L : ∀ (x k : Nat), x < 256 → k + popc x = popc s → V G Γ yX8_bits cX8_bits 3 (some .int) [] 1 (re (some (.int (nI (popc s)))) η) 0 0 (η) 4 [some (.int (nI s)), some (.int (nI k)), some (.int (nI x))] [] := by
    intro x
    induction x using Nat.strongRecOn with
    | _ x ih =>
      intro k hx hk
      refine v_iload_n (i := 2) dX8_bits_4 rfl rfl ?_
      refine vn_if_eq (tgt := 20) dX8_bits_5 rfl (by omega) (fun c5 => ?_) (fun c5 => ?_)
      · subst c5
        have e : k = popc s := hk
        refine v_iload_n (i := 1) dX8_bits_20 rfl rfl ?_
        exact v_iret rfl dX8_bits_21 ⟨by rw [e], rfl⟩
      · have hp := popc_step x hx (by omega)
        refine vn_iinc 1 dX8_bits_8 rfl k_iconst_1 (by decide) rfl ?_
        refine v_iload_n (i := 2) dX8_bits_11 rfl rfl ?_
        refine v_iload_n (i := 2) dX8_bits_12 rfl rfl ?_
        refine v_iconst (v := nI 1) dX8_bits_13 k_iconst_1 ?_
        refine vn_isub (by omega) dX8_bits_14 ?_
        refine vn_iand dX8_bits_15 ?_
        refine v_istore_n (i := 2) dX8_bits_16 rfl (by decide) rfl ?_
        refine v_goto (tgt := 4) dX8_bits_17 rfl ?_
        exact ih _ hp.2 _ (by omega) (by omega)
  refine v_iconst (v := nI 0) dX8_bits_0 k_iconst_0 ?_
  refine v_istore_n (i := 1) dX8_bits_1 rfl (by decide) rfl ?_
  refine v_iload_n (i := 0) dX8_bits_2 rfl rfl ?_
  refine v_istore_n (i := 2) dX8_bits_3 rfl (by decide) rfl ?_
  exact L s 0 hs (Nat.zero_add _)
theorem cM_all {G : Gl} {m : Nat} {ad : Nat → Nat} {η0 : AH} (hap : Mp m ad) (σ : MS) (hT : gN σ 2 ≤ 8) : Ct G yX8_all cX8_all 1 (some .int) 1 0 0 [.ref m] (MH m ad σ η0) (re (some (.int (nI (2 ^ gN σ 2 - 1)))) (MH m ad σ η0)) := by
  refine Ct.start rfl rfl (Nat.le_of_ble_eq_true rfl) (fun Γ => ?_)
  refine v_iconst (v := nI 1) dX8_all_0 k_iconst_1 ?_
  refine v_aload_n (i := 0) dX8_all_1 rfl rfl ?_
  refine mg_things rfl dX8_all_2 ?_
  refine vn_ishl (by omega) dX8_all_5 ?_
  refine v_iconst (v := nI 1) dX8_all_6 k_iconst_1 ?_
  refine vn_isub (Nat.mul_pos (by decide) (Nat.two_pow_pos _)) dX8_all_7 ?_
  exact v_iret rfl dX8_all_8 ⟨by rw [Nat.one_mul], rfl⟩
theorem cM_setAt {G : Gl} {m : Nat} {ad : Nat → Nat} {η0 : AH} (hap : Mp m ad) (σ : MS) (x h : Nat) (hx : x < 2147483648) (hh : h < 2147483648) (hT : gN σ 2 ≤ 8) : Ct G yX8_setAt cX8_setAt 5 (some .int) 1 0 0 [.ref m, .int (nI x), .int (nI h)] (MH m ad σ η0) (re (some (.int (nI (setN x h (gN σ 2))))) (MH m ad σ η0)) := by
  refine Ct.start rfl rfl (Nat.le_of_ble_eq_true rfl) (fun Γ => ?_)
  have L : ∀ (n : Nat) (t v : Nat), gN σ 2 - t = n → t ≤ gN σ 2 → v = setN x h t → V G Γ yX8_setAt cX8_setAt 5 (some .int) [] 1 (re (some (.int (nI (setN x h (gN σ 2))))) (MH m ad σ η0)) 0 0 (MH m ad σ η0) 5 [some (.ref m), some (.int (nI x)), some (.int (nI h)), some (.int (nI v)), some (.int (nI t))] [] := by
    intro n
    induction n using Nat.strongRecOn with
    | _ n ih =>
      intro t v hn ht hv
      refine v_iload (i := 4) dX8_setAt_5 rfl ?_
      refine v_aload_n (i := 0) dX8_setAt_7 rfl rfl ?_
      refine mg_things rfl dX8_setAt_8 ?_
      refine vn_icmp_ge (tgt := 39) dX8_setAt_11 rfl (by omega) (by omega) (fun c11 => ?_) (fun c11 => ?_)
      · have e : t = gN σ 2 := by omega
        subst e
        refine v_iload_n (i := 3) dX8_setAt_39 rfl rfl ?_
        exact v_iret rfl dX8_setAt_40 ⟨by rw [hv], rfl⟩
      · refine v_iload_n (i := 1) dX8_setAt_14 rfl rfl ?_
        refine v_iconst (v := nI 2) dX8_setAt_15 k_iconst_2 ?_
        refine v_iload (i := 4) dX8_setAt_16 rfl ?_
        refine vn_imul dX8_setAt_18 ?_
        refine vn_ishr (by omega) (by omega) dX8_setAt_19 ?_
        refine v_iconst (v := nI 3) dX8_setAt_20 k_iconst_3 ?_
        refine vn_and3 dX8_setAt_21 ?_
        refine v_iload_n (i := 2) dX8_setAt_22 rfl rfl ?_
        refine vn_icmp_ne (tgt := 33) dX8_setAt_23 rfl (by omega) (by omega) (fun c23 => ?_) (fun c23 => ?_)
        · refine vn_iinc 1 dX8_setAt_33 rfl k_iconst_1 (by decide) rfl ?_
          refine v_goto (tgt := 5) dX8_setAt_36 rfl ?_
          exact ih _ (by omega) (t + 1) _ rfl (by omega) (by simp_all [setN, th])
        · refine v_iload_n (i := 3) dX8_setAt_26 rfl rfl ?_
          refine v_iconst (v := nI 1) dX8_setAt_27 k_iconst_1 ?_
          refine v_iload (i := 4) dX8_setAt_28 rfl ?_
          refine vn_ishl (by omega) dX8_setAt_30 ?_
          refine vn_ior dX8_setAt_31 ?_
          refine v_istore_n (i := 3) dX8_setAt_32 rfl (by decide) rfl ?_
          refine vn_iinc 1 dX8_setAt_33 rfl k_iconst_1 (by decide) rfl ?_
          refine v_goto (tgt := 5) dX8_setAt_36 rfl ?_
          exact ih _ (by omega) (t + 1) _ rfl (by omega) (by simp_all [setN, th])
  refine v_iconst (v := nI 0) dX8_setAt_0 k_iconst_0 ?_
  refine v_istore_n (i := 3) dX8_setAt_1 rfl (by decide) rfl ?_
  refine v_iconst (v := nI 0) dX8_setAt_2 k_iconst_0 ?_
  refine v_istore (i := 4) dX8_setAt_3 (by decide) rfl ?_
  exact L _ 0 0 rfl (by omega) rfl
theorem cM_boatIn {G : Gl} {η : AH} (x b : Nat) (hx : x < 2147483648) (hb : b < 2) : Ct G yX8_boatIn cX8_boatIn 2 (some .int) 1 0 0 [.int (nI x), .int (nI b)] η (re (some (.int (nI (bo x b)))) η) := by
  refine Ct.start rfl rfl (Nat.le_of_ble_eq_true rfl) (fun Γ => ?_)
  refine v_iload_n (i := 0) dX8_boatIn_0 rfl rfl ?_
  refine v_bipush (v := nI 16) dX8_boatIn_1 k_bipush_16 ?_
  refine v_iconst (v := nI 2) dX8_boatIn_3 k_iconst_2 ?_
  refine v_iload_n (i := 1) dX8_boatIn_4 rfl rfl ?_
  refine vn_imul dX8_boatIn_5 ?_
  refine vn_iadd dX8_boatIn_6 ?_
  refine vn_ishr (by omega) (by omega) dX8_boatIn_7 ?_
  refine v_iconst (v := nI 3) dX8_boatIn_8 k_iconst_3 ?_
  refine vn_and3 dX8_boatIn_9 ?_
  exact v_iret rfl dX8_boatIn_10 ⟨rfl, rfl⟩
theorem cM_isGoal {G : Gl} {m : Nat} {ad : Nat → Nat} {η0 : AH} (hap : Mp m ad) (σ : MS) (x : Nat) (hx : x < 2147483648) (hT : gN σ 2 ≤ 8) (hS : 1 ≤ gN σ 1) (hS4 : gN σ 1 ≤ 4) : Ct G yX8_isGoal cX8_isGoal 2 (some .boolean) 2 0 0 [.ref m, .int (nI x)] (MH m ad σ η0) (re (some (.int (nI (if setN x (gN σ 1 - 1) (gN σ 2) = 2 ^ gN σ 2 - 1 then 1 else 0)))) (MH m ad σ η0)) := by
  refine Ct.start rfl rfl (Nat.le_of_ble_eq_true rfl) (fun Γ => ?_)
  refine v_aload_n (i := 0) dX8_isGoal_0 rfl rfl ?_
  refine v_iload_n (i := 1) dX8_isGoal_1 rfl rfl ?_
  refine v_aload_n (i := 0) dX8_isGoal_2 rfl rfl ?_
  refine mg_shores rfl dX8_isGoal_3 ?_
  refine v_iconst (v := nI 1) dX8_isGoal_6 k_iconst_1 ?_
  refine vn_isub (by omega) dX8_isGoal_7 ?_
  refine v_callVi (cM_setAt hap σ x (gN σ 1 - 1) hx (by omega) hT) (lw_V q2413 q2415 qs95 q136 q2416) iX8_setAt rfl KX8 MH_m rfl rfl (by decide) (by decide) (Nat.le_of_ble_eq_true rfl) dX8_isGoal_8 ?_
  refine v_aload_n (i := 0) dX8_isGoal_11 rfl rfl ?_
  refine v_callVi (cM_all hap σ hT) (lw_V q2324 q2326 qs82 q136 q2327) iX8_all rfl KX8 MH_m rfl rfl (by decide) (by decide) (Nat.le_of_ble_eq_true rfl) dX8_isGoal_12 ?_
  have b1 := setN_256 x (gN σ 1 - 1) hT
  have b2 : 2 ^ gN σ 2 ≤ 256 := p2_le (b := 8) hT
  refine vn_icmp_ne (tgt := 22) dX8_isGoal_15 rfl (by omega) (by omega) (fun c15 => ?_) (fun c15 => ?_)
  · refine v_iconst (v := nI 0) dX8_isGoal_22 k_iconst_0 ?_
    exact v_zret rfl rfl dX8_isGoal_23 ⟨by simp_all, rfl⟩
  · refine v_iconst (v := nI 1) dX8_isGoal_18 k_iconst_1 ?_
    refine v_goto (tgt := 23) dX8_isGoal_19 rfl ?_
    exact v_zret rfl rfl dX8_isGoal_23 ⟨by simp_all, rfl⟩
theorem cM_keeps {G : Gl} {m : Nat} {ad : Nat → Nat} {η0 : AH} (hap : Mp m ad) (σ : MS) (v : Nat) (hv : v < 2147483648) (hw : gN σ 52 ≤ 12) : Ct G yX8_keeps cX8_keeps 2 (some .int) 1 0 0 [.ref m, .int (nI v)] (MH m ad σ η0) (re (some (.int (nI (if gN σ 52 = 0 then v else ndf v (2 ^ (gN σ 52 - 1)))))) (MH m ad σ η0)) := by
  refine Ct.start rfl rfl (Nat.le_of_ble_eq_true rfl) (fun Γ => ?_)
  refine v_aload_n (i := 0) dX8_keeps_0 rfl rfl ?_
  refine mg_without rfl dX8_keeps_1 ?_
  refine v_iconst (v := -1) dX8_keeps_4 k_iconst_m1 ?_
  refine vo_icmp_ne (tgt := 12) dX8_keeps_5 rfl (by omega) (fun c5 => ?_) (fun c5 => ?_)
  · refine v_iload_n (i := 1) dX8_keeps_12 rfl rfl ?_
    refine v_iconst (v := nI 1) dX8_keeps_13 k_iconst_1 ?_
    refine v_aload_n (i := 0) dX8_keeps_14 rfl rfl ?_
    refine mg_without rfl dX8_keeps_15 ?_
    refine v_top (oI_n (by omega)) ?_
    refine vn_ishl (by omega) dX8_keeps_18 ?_
    refine v_iconst (v := -1) dX8_keeps_19 k_iconst_m1 ?_
    refine v_ixor dX8_keeps_20 ?_
    refine vn_andc dX8_keeps_21 ?_
    exact v_iret rfl dX8_keeps_22 ⟨by simp_all, rfl⟩
  · refine v_iload_n (i := 1) dX8_keeps_8 rfl rfl ?_
    refine v_goto (tgt := 22) dX8_keeps_9 rfl ?_
    exact v_iret rfl dX8_keeps_22 ⟨by simp_all, rfl⟩
theorem cM_isWater {G : Gl} {m : Nat} {ad : Nat → Nat} {η0 : AH} (hap : Mp m ad) (σ : MS) (a b : Nat) (ha : a < 4) (hb : b < 4) (hw : gN σ 13 < 2) (hz : gA σ 12 (4 * a + b) < 2) : Ct G yX8_isWater cX8_isWater 3 (some .boolean) 1 0 0 [.ref m, .int (nI a), .int (nI b)] (MH m ad σ η0) (re (some (.int (nI (if gN σ 13 = 0 then (if a = b then 0 else 1) else gA σ 12 (4 * a + b))))) (MH m ad σ η0)) := by
  refine Ct.start rfl rfl (Nat.le_of_ble_eq_true rfl) (fun Γ => ?_)
  refine v_aload_n (i := 0) dX8_isWater_0 rfl rfl ?_
  refine mg_anyWet rfl dX8_isWater_1 ?_
  refine vn_if_eq (tgt := 20) dX8_isWater_4 rfl (by omega) (fun c4 => ?_) (fun c4 => ?_)
  · refine v_iload_n (i := 1) dX8_isWater_20 rfl rfl ?_
    refine v_iload_n (i := 2) dX8_isWater_21 rfl rfl ?_
    refine vn_icmp_eq (tgt := 29) dX8_isWater_22 rfl (by omega) (by omega) (fun c22 => ?_) (fun c22 => ?_)
    · refine v_iconst (v := nI 0) dX8_isWater_29 k_iconst_0 ?_
      exact v_zret rfl (zb (by omega)).1 dX8_isWater_30 ⟨by simp_all, rfl⟩
    · refine v_iconst (v := nI 1) dX8_isWater_25 k_iconst_1 ?_
      refine v_goto (tgt := 30) dX8_isWater_26 rfl ?_
      exact v_zret rfl (zb (by omega)).1 dX8_isWater_30 ⟨by simp_all, rfl⟩
  · refine v_aload_n (i := 0) dX8_isWater_7 rfl rfl ?_
    refine mg_wet rfl dX8_isWater_8 ?_
    refine v_iconst (v := nI 4) dX8_isWater_11 k_iconst_4 ?_
    refine v_iload_n (i := 1) dX8_isWater_12 rfl rfl ?_
    refine vn_imul dX8_isWater_13 ?_
    refine v_iload_n (i := 2) dX8_isWater_14 rfl rfl ?_
    refine vn_iadd dX8_isWater_15 ?_
    refine ml_wet hap (by omega) dX8_isWater_16 ?_
    refine v_goto (tgt := 30) dX8_isWater_17 rfl ?_
    exact v_zret rfl (zb (by omega)).1 dX8_isWater_30 ⟨by simp_all, rfl⟩
theorem cM_start {G : Gl} {m : Nat} {ad : Nat → Nat} {η0 : AH} (hap : Mp m ad) (σ : MS) (hB : gN σ 3 ≤ 2) (hl : gN σ 5 ≤ 4) : Ct G yX8_start cX8_start 3 (some .int) 1 0 0 [.ref m] (MH m ad σ η0) (re (some (.int (nI (st0 (gA σ 11) (gN σ 3) (gN σ 5))))) (MH m ad σ η0)) := by
  refine Ct.start rfl rfl (Nat.le_of_ble_eq_true rfl) (fun Γ => ?_)
  have L : ∀ (n : Nat) (b v : Nat), gN σ 3 - b = n → b ≤ gN σ 3 → v = stN (gA σ 11) b → V G Γ yX8_start cX8_start 3 (some .int) [] 1 (re (some (.int (nI (st0 (gA σ 11) (gN σ 3) (gN σ 5))))) (MH m ad σ η0)) 0 0 (MH m ad σ η0) 4 [some (.ref m), some (.int (nI v)), some (.int (nI b))] [] := by
    intro n
    induction n using Nat.strongRecOn with
    | _ n ih =>
      intro b v hn ht hv
      refine v_iload_n (i := 2) dX8_start_4 rfl rfl ?_
      refine v_aload_n (i := 0) dX8_start_5 rfl rfl ?_
      refine mg_boats rfl dX8_start_6 ?_
      refine vn_icmp_ge (tgt := 34) dX8_start_9 rfl (by omega) (by omega) (fun c9 => ?_) (fun c9 => ?_)
      · have e : b = gN σ 3 := by omega
        subst e
        refine v_aload_n (i := 0) dX8_start_34 rfl rfl ?_
        refine mg_lampAt rfl dX8_start_35 ?_
        refine v_iconst (v := -1) dX8_start_38 k_iconst_m1 ?_
        refine vo_icmp_ne (tgt := 46) dX8_start_39 rfl (by omega) (fun c39 => ?_) (fun c39 => ?_)
        · refine v_iload_n (i := 1) dX8_start_46 rfl rfl ?_
          refine v_aload_n (i := 0) dX8_start_47 rfl rfl ?_
          refine mg_lampAt rfl dX8_start_48 ?_
          refine v_top (oI_n (by omega)) ?_
          refine v_bipush (v := nI 20) dX8_start_51 k_bipush_20 ?_
          refine vn_ishl (by omega) dX8_start_53 ?_
          refine vn_ior dX8_start_54 ?_
          exact v_iret rfl dX8_start_55 ⟨by simp_all [st0], rfl⟩
        · refine v_iload_n (i := 1) dX8_start_42 rfl rfl ?_
          refine v_goto (tgt := 55) dX8_start_43 rfl ?_
          exact v_iret rfl dX8_start_55 ⟨by simp_all [st0], rfl⟩
      · refine v_iload_n (i := 1) dX8_start_12 rfl rfl ?_
        refine v_aload_n (i := 0) dX8_start_13 rfl rfl ?_
        refine mg_boatAt rfl dX8_start_14 ?_
        refine v_iload_n (i := 2) dX8_start_17 rfl rfl ?_
        refine ml_boatAt hap (by omega) dX8_start_18 ?_
        refine v_bipush (v := nI 16) dX8_start_19 k_bipush_16 ?_
        refine v_iconst (v := nI 2) dX8_start_21 k_iconst_2 ?_
        refine v_iload_n (i := 2) dX8_start_22 rfl rfl ?_
        refine vn_imul dX8_start_23 ?_
        refine vn_iadd dX8_start_24 ?_
        refine vn_ishl (by omega) dX8_start_25 ?_
        refine vn_ior dX8_start_26 ?_
        refine v_istore_n (i := 1) dX8_start_27 rfl (by decide) rfl ?_
        refine vn_iinc 1 dX8_start_28 rfl k_iconst_1 (by decide) rfl ?_
        refine v_goto (tgt := 4) dX8_start_31 rfl ?_
        exact ih _ (by omega) (b + 1) _ rfl (by omega) (by simp_all [stN])
  refine v_iconst (v := nI 0) dX8_start_0 k_iconst_0 ?_
  refine v_istore_n (i := 1) dX8_start_1 rfl (by decide) rfl ?_
  refine v_iconst (v := nI 0) dX8_start_2 k_iconst_0 ?_
  refine v_istore_n (i := 2) dX8_start_3 rfl (by decide) rfl ?_
  exact L _ 0 0 rfl (by omega) rfl
theorem cM_behind {G : Gl} {m : Nat} {ad : Nat → Nat} {η0 : AH} (hap : Mp m ad) (σ : MS) (x b to s : Nat) (hb : b < 2) (hs : s < 2147483648) (hT : gN σ 2 ≤ 8) (hl : gN σ 5 ≤ 4) : Ct G yX8_behind cX8_behind 7 (some .int) 1 0 0 [.ref m, .int (nI x), .int (nI b), .int (nI to), .int (nI s)] (MH m ad σ η0) (re (some (.int (nI (bh (gN σ 2) (gN σ 5) x b to s)))) (MH m ad σ η0)) := by
  refine Ct.start rfl rfl (Nat.le_of_ble_eq_true rfl) (fun Γ => ?_)
  have L : ∀ (n : Nat) (t v : Nat), gN σ 2 - t = n → t ≤ gN σ 2 → v = bhN (set2 x (16 + 2 * b) to) to s t → V G Γ yX8_behind cX8_behind 7 (some .int) [] 1 (re (some (.int (nI (bh (gN σ 2) (gN σ 5) x b to s)))) (MH m ad σ η0)) 0 0 (MH m ad σ η0) 26 [some (.ref m), some (.int (nI x)), some (.int (nI b)), some (.int (nI to)), some (.int (nI s)), some (.int (nI v)), some (.int (nI t))] [] := by
    intro n
    induction n using Nat.strongRecOn with
    | _ n ih =>
      intro t v hn ht hv
      refine v_iload (i := 6) dX8_behind_26 rfl ?_
      refine v_aload_n (i := 0) dX8_behind_28 rfl rfl ?_
      refine mg_things rfl dX8_behind_29 ?_
      refine vn_icmp_ge (tgt := 72) dX8_behind_32 rfl (by omega) (by omega) (fun c32 => ?_) (fun c32 => ?_)
      · have e : t = gN σ 2 := by omega
        subst e
        refine v_aload_n (i := 0) dX8_behind_72 rfl rfl ?_
        refine mg_lampAt rfl dX8_behind_73 ?_
        refine v_iconst (v := -1) dX8_behind_76 k_iconst_m1 ?_
        refine vo_icmp_ne (tgt := 85) dX8_behind_77 rfl (by omega) (fun c77 => ?_) (fun c77 => ?_)
        · refine v_iload (i := 5) dX8_behind_85 rfl ?_
          refine v_ldcw (v := -3145729) q2433 dX8_behind_87 ?_
          refine vn_andL dX8_behind_90 ?_
          refine v_iload_n (i := 3) dX8_behind_91 rfl rfl ?_
          refine v_bipush (v := nI 20) dX8_behind_92 k_bipush_20 ?_
          refine vn_ishl (by omega) dX8_behind_94 ?_
          refine vn_ior dX8_behind_95 ?_
          exact v_iret rfl dX8_behind_96 ⟨by simp_all [bh], rfl⟩
        · refine v_iload (i := 5) dX8_behind_80 rfl ?_
          refine v_goto (tgt := 96) dX8_behind_82 rfl ?_
          exact v_iret rfl dX8_behind_96 ⟨by simp_all [bh], rfl⟩
      · refine v_iload (i := 4) dX8_behind_35 rfl ?_
        refine v_iload (i := 6) dX8_behind_37 rfl ?_
        refine vn_ishr (by omega) (by omega) dX8_behind_39 ?_
        refine v_iconst (v := nI 1) dX8_behind_40 k_iconst_1 ?_
        refine vn_and1 dX8_behind_41 ?_
        refine v_iconst (v := nI 1) dX8_behind_42 k_iconst_1 ?_
        refine vn_icmp_ne (tgt := 66) dX8_behind_43 rfl (by omega) (by omega) (fun c43 => ?_) (fun c43 => ?_)
        · refine vn_iinc 1 dX8_behind_66 rfl k_iconst_1 (by decide) rfl ?_
          refine v_goto (tgt := 26) dX8_behind_69 rfl ?_
          exact ih _ (by omega) (t + 1) _ rfl (by omega) (by simp_all [bhN, bt, set2])
        · refine v_iload (i := 5) dX8_behind_46 rfl ?_
          refine v_iconst (v := nI 3) dX8_behind_48 k_iconst_3 ?_
          refine v_iconst (v := nI 2) dX8_behind_49 k_iconst_2 ?_
          refine v_iload (i := 6) dX8_behind_50 rfl ?_
          refine vn_imul dX8_behind_52 ?_
          refine vn_ishl (by omega) dX8_behind_53 ?_
          refine v_iconst (v := -1) dX8_behind_54 k_iconst_m1 ?_
          refine v_ixor dX8_behind_55 ?_
          refine vn_andc dX8_behind_56 ?_
          refine v_iload_n (i := 3) dX8_behind_57 rfl rfl ?_
          refine v_iconst (v := nI 2) dX8_behind_58 k_iconst_2 ?_
          refine v_iload (i := 6) dX8_behind_59 rfl ?_
          refine vn_imul dX8_behind_61 ?_
          refine vn_ishl (by omega) dX8_behind_62 ?_
          refine vn_ior dX8_behind_63 ?_
          refine v_istore (i := 5) dX8_behind_64 (by decide) rfl ?_
          refine vn_iinc 1 dX8_behind_66 rfl k_iconst_1 (by decide) rfl ?_
          refine v_goto (tgt := 26) dX8_behind_69 rfl ?_
          exact ih _ (by omega) (t + 1) _ rfl (by omega) (by simp_all [bhN, bt, set2])
  refine v_iload_n (i := 1) dX8_behind_0 rfl rfl ?_
  refine v_iconst (v := nI 3) dX8_behind_1 k_iconst_3 ?_
  refine v_bipush (v := nI 16) dX8_behind_2 k_bipush_16 ?_
  refine v_iconst (v := nI 2) dX8_behind_4 k_iconst_2 ?_
  refine v_iload_n (i := 2) dX8_behind_5 rfl rfl ?_
  refine vn_imul dX8_behind_6 ?_
  refine vn_iadd dX8_behind_7 ?_
  refine vn_ishl (by omega) dX8_behind_8 ?_
  refine v_iconst (v := -1) dX8_behind_9 k_iconst_m1 ?_
  refine v_ixor dX8_behind_10 ?_
  refine vn_andc dX8_behind_11 ?_
  refine v_iload_n (i := 3) dX8_behind_12 rfl rfl ?_
  refine v_bipush (v := nI 16) dX8_behind_13 k_bipush_16 ?_
  refine v_iconst (v := nI 2) dX8_behind_15 k_iconst_2 ?_
  refine v_iload_n (i := 2) dX8_behind_16 rfl rfl ?_
  refine vn_imul dX8_behind_17 ?_
  refine vn_iadd dX8_behind_18 ?_
  refine vn_ishl (by omega) dX8_behind_19 ?_
  refine vn_ior dX8_behind_20 ?_
  refine v_istore (i := 5) dX8_behind_21 (by decide) rfl ?_
  refine v_iconst (v := nI 0) dX8_behind_23 k_iconst_0 ?_
  refine v_istore (i := 6) dX8_behind_24 (by decide) rfl ?_
  exact L _ 0 _ rfl (by omega) rfl
theorem cM_right {G : Gl} {m : Nat} {ad : Nat → Nat} {η0 : AH} (hap : Mp m ad) (σ : MS) (i k : Nat) (hi : i < 2) (hk : 0 < k) (hk2 : k < 2147483648) (h0 : gN σ 0 = 0) : Ct G yX8_right cX8_right 3 (some .boolean) 1 0 0 [.ref m, .int (nI i), .int (nI k)] (MH m ad σ η0) (re (some (.int (nI i))) (MH m ad (if i = 0 then sN σ 0 k else σ) η0)) := by
  refine Ct.start rfl rfl (Nat.le_of_ble_eq_true rfl) (fun Γ => ?_)
  have e0 : gN (sN σ 0 k) 0 = k := rfl
  refine v_aload_n (i := 0) dX8_right_0 rfl rfl ?_
  refine mg_thrown rfl dX8_right_1 ?_
  refine vn_if_ne (tgt := 16) dX8_right_4 rfl (by omega) (fun c4 => ?_) (fun c4 => ?_)
  · omega
  · refine v_iload_n (i := 1) dX8_right_7 rfl rfl ?_
    refine vn_if_ne (tgt := 16) dX8_right_8 rfl (by omega) (fun c8 => ?_) (fun c8 => ?_)
    · refine v_aload_n (i := 0) dX8_right_16 rfl rfl ?_
      refine mg_thrown rfl dX8_right_17 ?_
      refine vn_if_ne (tgt := 27) dX8_right_20 rfl (by omega) (fun c20 => ?_) (fun c20 => ?_)
      · refine v_iconst (v := nI 0) dX8_right_27 k_iconst_0 ?_
        exact v_zret rfl rfl dX8_right_28 ⟨by (have : i = 0 ∨ i = 1 := by omega); rcases this with rfl | rfl <;> simp_all, by simp_all⟩
      · refine v_iconst (v := nI 1) dX8_right_23 k_iconst_1 ?_
        refine v_goto (tgt := 28) dX8_right_24 rfl ?_
        exact v_zret rfl rfl dX8_right_28 ⟨by (have : i = 0 ∨ i = 1 := by omega); rcases this with rfl | rfl <;> simp_all, by simp_all⟩
    · refine v_aload_n (i := 0) dX8_right_11 rfl rfl ?_
      refine v_iload_n (i := 2) dX8_right_12 rfl rfl ?_
      refine mp_thrown rfl dX8_right_13 ?_
      refine v_aload_n (i := 0) dX8_right_16 rfl rfl ?_
      refine mg_thrown rfl dX8_right_17 ?_
      refine vn_if_ne (tgt := 27) dX8_right_20 rfl (by omega) (fun c20 => ?_) (fun c20 => ?_)
      · refine v_iconst (v := nI 0) dX8_right_27 k_iconst_0 ?_
        exact v_zret rfl rfl dX8_right_28 ⟨by (have : i = 0 ∨ i = 1 := by omega); rcases this with rfl | rfl <;> simp_all, by simp_all⟩
      · refine v_iconst (v := nI 1) dX8_right_23 k_iconst_1 ?_
        refine v_goto (tgt := 28) dX8_right_24 rfl ?_
        exact v_zret rfl rfl dX8_right_28 ⟨by (have : i = 0 ∨ i = 1 := by omega); rcases this with rfl | rfl <;> simp_all, by simp_all⟩
theorem cM_thrown {G : Gl} {m : Nat} {ad : Nat → Nat} {η0 : AH} (hap : Mp m ad) (σ : MS)  : Ct G yX8_thrown cX8_thrown 1 (some .int) 1 0 0 [.ref m] (MH m ad σ η0) (re (some (.int (nI (gN σ 0)))) (MH m ad σ η0)) := by
  refine Ct.start rfl rfl (Nat.le_of_ble_eq_true rfl) (fun Γ => ?_)
  refine v_aload_n (i := 0) dX8_thrown_0 rfl rfl ?_
  refine mg_thrown rfl dX8_thrown_1 ?_
  exact v_iret rfl dX8_thrown_4 ⟨rfl, rfl⟩
