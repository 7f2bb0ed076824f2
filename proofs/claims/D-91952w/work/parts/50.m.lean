theorem cM_back {G : Gl} {m : Nat} {ad : Nat → Nat} {η0 : AH} (hap : Mp m ad) (σ : MS) (h84 : gN σ 84 < 2147483648) : Ct G yX8_back cX8_back 1 (some .int) 1 0 0 [.ref m] (MH m ad σ η0) (fun r η => (gN σ 84 = 0 → r = .inl (some (.int (-1))) ∧ η = MH m ad (sN σ 0 0) η0) ∧ (¬ gN σ 84 = 0 → r = .inl (some (.int (nI (gN σ 84 - 1)))) ∧ η = MH m ad (sN (sN σ 0 0) 84 (gN σ 84 - 1)) η0)) := by
  refine Ct.start rfl rfl (Nat.le_of_ble_eq_true rfl) (fun Γ => ?_)
  refine v_aload_n (i := 0) dX8_back_0 rfl rfl ?_
  refine v_iconst (v := nI 0) dX8_back_1 k_iconst_0 ?_
  refine mp_thrown rfl dX8_back_2 ?_
  refine v_aload_n (i := 0) dX8_back_5 rfl rfl ?_
  refine mg_made rfl dX8_back_6 ?_
  refine vn_if_ne (tgt := 14) dX8_back_9 rfl h84 (fun c9 => ?_) (fun c9 => ?_)
  · have c9 : ¬ gN σ 84 = 0 := c9
    refine v_aload_n (i := 0) dX8_back_14 rfl rfl ?_
    refine v_dup dX8_back_15 rfl ?_
    refine mg_made rfl dX8_back_16 ?_
    refine v_iconst (v := nI 1) dX8_back_19 k_iconst_1 ?_
    refine vn_isub (show 1 ≤ gN σ 84 by omega) dX8_back_20 ?_
    refine mp_made rfl dX8_back_21 ?_
    refine v_aload_n (i := 0) dX8_back_24 rfl rfl ?_
    refine mg_made rfl dX8_back_25 ?_
    exact v_iret rfl dX8_back_28 ⟨fun h => absurd h c9, fun _ => ⟨rfl, rfl⟩⟩
  · have c9 : gN σ 84 = 0 := c9
    refine v_iconst (v := -1) dX8_back_12 k_iconst_m1 ?_
    exact v_iret rfl dX8_back_13 ⟨fun _ => ⟨rfl, rfl⟩, fun h => absurd c9 h⟩
theorem cM_isGroup {G : Gl} {m : Nat} {ad : Nat → Nat} {η0 : AH} (hap : Mp m ad) (σ : MS) (a b : Int32) (hS : gN σ 1 ≤ 4) : Ct G yX8_isGroup cX8_isGroup 3 (some .boolean) 2 0 0 [.ref m, .int a, .int b] (MH m ad (sN σ 0 0) η0) (ri fun r η => (¬ (inr a (gN σ 1 + 1) ∧ inr b 3) → r = nI 0 ∧ η = MH m ad (sN σ 0 1) η0) ∧ ((inr a (gN σ 1 + 1) ∧ inr b 3) → r = nI 1 ∧ η = MH m ad (sN σ 0 0) η0)) := by
  refine Ct.start rfl rfl (Nat.le_of_ble_eq_true rfl) (fun Γ => ?_)
  refine v_aload_n (i := 0) dX8_isGroup_0 rfl rfl ?_
  refine v_iload_n (i := 1) dX8_isGroup_1 rfl rfl ?_
  refine v_if_lt (tgt := 26) dX8_isGroup_2 rfl (fun c2 => ?_) (fun c2 => ?_)
  · refine v_iconst (v := nI 0) dX8_isGroup_26 k_iconst_0 ?_
    refine v_iconst (v := nI 1) dX8_isGroup_27 k_iconst_1 ?_
    refine v_callVi (cM_right0 hap σ) (lw_V q2197 q2199 qs56 q136 q2200) iX8_right rfl KX8 MH_m rfl rfl (by decide) (by decide) (Nat.le_of_ble_eq_true rfl) dX8_isGroup_28 ?_
    exact v_zret rfl rfl dX8_isGroup_31 ⟨_, rfl, fun _ => ⟨rfl, rfl⟩, fun q => absurd q.1 (inr_neg c2 (by omega))⟩
  · refine v_iload_n (i := 1) dX8_isGroup_5 rfl rfl ?_
    refine v_aload_n (i := 0) dX8_isGroup_6 rfl rfl ?_
    refine mg_shores rfl dX8_isGroup_7 ?_
    refine v_icmp_gt (tgt := 26) dX8_isGroup_10 rfl (fun c10 => ?_) (fun c10 => ?_)
    · refine v_iconst (v := nI 0) dX8_isGroup_26 k_iconst_0 ?_
      refine v_iconst (v := nI 1) dX8_isGroup_27 k_iconst_1 ?_
      refine v_callVi (cM_right0 hap σ) (lw_V q2197 q2199 qs56 q136 q2200) iX8_right rfl KX8 MH_m rfl rfl (by decide) (by decide) (Nat.le_of_ble_eq_true rfl) dX8_isGroup_28 ?_
      exact v_zret rfl rfl dX8_isGroup_31 ⟨_, rfl, fun _ => ⟨rfl, rfl⟩, fun q => absurd q.1 (inr_gt c10 (show gN σ 1 < _ by omega))⟩
    · refine v_iload_n (i := 2) dX8_isGroup_13 rfl rfl ?_
      refine v_if_lt (tgt := 26) dX8_isGroup_14 rfl (fun c14 => ?_) (fun c14 => ?_)
      · refine v_iconst (v := nI 0) dX8_isGroup_26 k_iconst_0 ?_
        refine v_iconst (v := nI 1) dX8_isGroup_27 k_iconst_1 ?_
        refine v_callVi (cM_right0 hap σ) (lw_V q2197 q2199 qs56 q136 q2200) iX8_right rfl KX8 MH_m rfl rfl (by decide) (by decide) (Nat.le_of_ble_eq_true rfl) dX8_isGroup_28 ?_
        exact v_zret rfl rfl dX8_isGroup_31 ⟨_, rfl, fun _ => ⟨rfl, rfl⟩, fun q => absurd q.2 (inr_neg c14 (by decide))⟩
      · refine v_iload_n (i := 2) dX8_isGroup_17 rfl rfl ?_
        refine v_iconst (v := nI 2) dX8_isGroup_18 k_iconst_2 ?_
        refine v_icmp_gt (tgt := 26) dX8_isGroup_19 rfl (fun c19 => ?_) (fun c19 => ?_)
        · refine v_iconst (v := nI 0) dX8_isGroup_26 k_iconst_0 ?_
          refine v_iconst (v := nI 1) dX8_isGroup_27 k_iconst_1 ?_
          refine v_callVi (cM_right0 hap σ) (lw_V q2197 q2199 qs56 q136 q2200) iX8_right rfl KX8 MH_m rfl rfl (by decide) (by decide) (Nat.le_of_ble_eq_true rfl) dX8_isGroup_28 ?_
          exact v_zret rfl rfl dX8_isGroup_31 ⟨_, rfl, fun _ => ⟨rfl, rfl⟩, fun q => absurd q.2 (inr_gt c19 (by decide))⟩
        · refine v_iconst (v := nI 1) dX8_isGroup_22 k_iconst_1 ?_
          refine v_goto (tgt := 27) dX8_isGroup_23 rfl ?_
          refine v_iconst (v := nI 1) dX8_isGroup_27 k_iconst_1 ?_
          refine v_callVi (cM_right1 hap σ) (lw_V q2197 q2199 qs56 q136 q2200) iX8_right rfl KX8 MH_m rfl rfl (by decide) (by decide) (Nat.le_of_ble_eq_true rfl) dX8_isGroup_28 ?_
          exact v_zret rfl rfl dX8_isGroup_31 ⟨_, rfl, fun q => absurd ⟨inr_of2 c2 c10 (show gN σ 1 < _ by omega), inr_of2 c14 c19 (by decide)⟩ q, fun _ => ⟨rfl, rfl⟩⟩
theorem cM_bars {G : Gl} {m : Nat} {ad : Nat → Nat} {η0 : AH} (hap : Mp m ad) (σ : MS) (bf : Nat → Nat → Nat → Nat → Nat) (hB : BarO σ bf) (hC : Cch bf (gA σ 50)) (s : Nat) (a b : Int32) (l : Nat) (hl : l < 2) : Ct G yX8_bars cX8_bars 5 (some .int) 5 0 0 [.ref m, .int (nI s), .int a, .int b, .int (nI l)] (MH m ad σ η0) (ri fun r η => (¬ (inr a (gN σ 1 + 1) ∧ inr b 3) → r = nI 0 ∧ η = MH m ad (sN σ 0 1) η0) ∧ ∀ aa bb, aa ≤ gN σ 1 → bb < 3 → a = nI aa → b = nI bb → r = nI (bf aa (if aa = gN σ 1 then 1 else bb) l (s % 2 ^ gN σ 2)) ∧ ∃ c p, Cch bf c ∧ η = MH m ad (sCP (sN σ 0 0) c p) η0) := by
  refine Ct.start rfl rfl (Nat.le_of_ble_eq_true rfl) (fun Γ => ?_)
  have hS := hB.1
  have hT := hB.2.1
  by_cases hin : (inr a (gN σ 1 + 1) ∧ inr b 3)
  case neg =>
    refine v_aload_n (i := 0) dX8_bars_0 rfl rfl ?_
    refine v_iconst (v := nI 0) dX8_bars_1 k_iconst_0 ?_
    refine mp_thrown rfl dX8_bars_2 ?_
    refine v_aload_n (i := 0) dX8_bars_5 rfl rfl ?_
    refine v_iload_n (i := 2) dX8_bars_6 rfl rfl ?_
    refine v_iload_n (i := 3) dX8_bars_7 rfl rfl ?_
    refine v_callVI (kc' := 0) (ks' := 0) (cM_isGroup hap σ a b hS) (lw_V q2320 q2322 qs81 q136 q2323) iX8_isGroup rfl KX8 MH_m rfl rfl (by decide) (by decide) (Nat.le_of_ble_eq_true rfl) (by decide) (by decide) dX8_bars_8 (fun x_ η' h => ?_)
    obtain ⟨rfl, rfl⟩ := h.1 hin
    refine vn_if_ne (tgt := 16) dX8_bars_11 rfl (by decide) (fun c11 => ?_) (fun c11 => ?_)
    · exact absurd rfl c11
    · refine v_iconst (v := nI 0) dX8_bars_14 k_iconst_0 ?_
      exact v_iret rfl dX8_bars_15 ⟨_, rfl, fun _ => ⟨rfl, rfl⟩, fun aa bb h1 h2 e1 e2 => absurd ⟨⟨aa, by omega, e1⟩, ⟨bb, h2, e2⟩⟩ hin⟩
  have hin2 := hin
  obtain ⟨⟨aa, haa, rfl⟩, ⟨bb, hbb, rfl⟩⟩ := hin
  refine v_aload_n (i := 0) dX8_bars_0 rfl rfl ?_
  refine v_iconst (v := nI 0) dX8_bars_1 k_iconst_0 ?_
  refine mp_thrown rfl dX8_bars_2 ?_
  refine v_aload_n (i := 0) dX8_bars_5 rfl rfl ?_
  refine v_iload_n (i := 2) dX8_bars_6 rfl rfl ?_
  refine v_iload_n (i := 3) dX8_bars_7 rfl rfl ?_
  refine v_callVI (kc' := 0) (ks' := 0) (cM_isGroup hap σ (nI aa) (nI bb) hS) (lw_V q2320 q2322 qs81 q136 q2323) iX8_isGroup rfl KX8 MH_m rfl rfl (by decide) (by decide) (Nat.le_of_ble_eq_true rfl) (by decide) (by decide) dX8_bars_8 (fun x_ η' h => ?_)
  obtain ⟨rfl, rfl⟩ := h.2 hin2
  refine vn_if_ne (tgt := 16) dX8_bars_11 rfl (by decide) (fun c11 => ?_) (fun c11 => ?_)
  · refine v_aload_n (i := 0) dX8_bars_16 rfl rfl ?_
    refine v_iload_n (i := 1) dX8_bars_17 rfl rfl ?_
    refine v_aload_n (i := 0) dX8_bars_18 rfl rfl ?_
    refine v_callVi (cM_all hap (sN σ 0 0) hT) (lw_V q2324 q2326 qs82 q136 q2327) iX8_all rfl KX8 MH_m rfl rfl (by decide) (by decide) (Nat.le_of_ble_eq_true rfl) dX8_bars_19 ?_
    refine vn_iand dX8_bars_22 ?_
    refine v_top (show _ = nI (s % 2 ^ gN σ 2) from congrArg nI (Nat.and_two_pow_sub_one_eq_mod s (gN σ 2))) ?_
    refine v_iload_n (i := 2) dX8_bars_23 rfl rfl ?_
    refine v_iload_n (i := 2) dX8_bars_24 rfl rfl ?_
    refine v_aload_n (i := 0) dX8_bars_25 rfl rfl ?_
    refine mg_shores rfl dX8_bars_26 ?_
    refine vn_icmp_ne (tgt := 36) dX8_bars_29 rfl (by omega) (show gN σ 1 < _ by omega) (fun c29 => ?_) (fun c29 => ?_)
    · have c29 : ¬ aa = gN σ 1 := c29
      refine v_iload_n (i := 3) dX8_bars_36 rfl rfl ?_
      refine v_iload (i := 4) dX8_bars_37 rfl ?_
      refine vn_if_eq (tgt := 46) dX8_bars_39 rfl (by omega) (fun c39 => ?_) (fun c39 => ?_)
      · refine v_iconst (v := nI 0) dX8_bars_46 k_iconst_0 ?_
        have hs2 : s % 2 ^ gN σ 2 < 256 := Nat.lt_of_lt_of_le (Nat.mod_lt _ (Nat.two_pow_pos _)) (p2_le (b := 8) hT)
        refine v_callVI (kc' := 0) (ks' := 0) (cM_barsOf hap (sN σ 0 0) bf hB hC (s % 2 ^ gN σ 2) aa bb 0 hs2 (by omega) (by omega) (by omega)) (lw_V q2328 q2330 qs83 q136 q2331) iX8_barsOf rfl KX8 MH_m rfl rfl (by decide) (by decide) (Nat.le_of_ble_eq_true rfl) (by decide) (by decide) dX8_bars_47 (fun x_ η' h => ?_)
        obtain ⟨rfl, c, p, hc, rfl⟩ := h
        exact v_iret rfl dX8_bars_50 ⟨_, rfl, fun q => absurd hin2 q, fun a2 b2 h1 h2 e1 e2 => by
            have e3 : aa = a2 := (nI_eq (by omega) (by omega)).mp e1
            have e4 : bb = b2 := (nI_eq (by omega) (by omega)).mp e2
            subst e3 e4
            exact ⟨by rw [if_neg c29, show l = 0 by omega], c, p, hc, rfl⟩⟩
      · refine v_iconst (v := nI 1) dX8_bars_42 k_iconst_1 ?_
        refine v_goto (tgt := 47) dX8_bars_43 rfl ?_
        have hs2 : s % 2 ^ gN σ 2 < 256 := Nat.lt_of_lt_of_le (Nat.mod_lt _ (Nat.two_pow_pos _)) (p2_le (b := 8) hT)
        refine v_callVI (kc' := 0) (ks' := 0) (cM_barsOf hap (sN σ 0 0) bf hB hC (s % 2 ^ gN σ 2) aa bb 1 hs2 (by omega) (by omega) (by omega)) (lw_V q2328 q2330 qs83 q136 q2331) iX8_barsOf rfl KX8 MH_m rfl rfl (by decide) (by decide) (Nat.le_of_ble_eq_true rfl) (by decide) (by decide) dX8_bars_47 (fun x_ η' h => ?_)
        obtain ⟨rfl, c, p, hc, rfl⟩ := h
        exact v_iret rfl dX8_bars_50 ⟨_, rfl, fun q => absurd hin2 q, fun a2 b2 h1 h2 e1 e2 => by
            have e3 : aa = a2 := (nI_eq (by omega) (by omega)).mp e1
            have e4 : bb = b2 := (nI_eq (by omega) (by omega)).mp e2
            subst e3 e4
            exact ⟨by rw [if_neg c29, show l = 1 by omega], c, p, hc, rfl⟩⟩
    · have c29 : aa = gN σ 1 := c29
      refine v_iconst (v := nI 1) dX8_bars_32 k_iconst_1 ?_
      refine v_goto (tgt := 37) dX8_bars_33 rfl ?_
      refine v_iload (i := 4) dX8_bars_37 rfl ?_
      refine vn_if_eq (tgt := 46) dX8_bars_39 rfl (by omega) (fun c39 => ?_) (fun c39 => ?_)
      · refine v_iconst (v := nI 0) dX8_bars_46 k_iconst_0 ?_
        have hs2 : s % 2 ^ gN σ 2 < 256 := Nat.lt_of_lt_of_le (Nat.mod_lt _ (Nat.two_pow_pos _)) (p2_le (b := 8) hT)
        refine v_callVI (kc' := 0) (ks' := 0) (cM_barsOf hap (sN σ 0 0) bf hB hC (s % 2 ^ gN σ 2) aa 1 0 hs2 (by omega) (by omega) (by omega)) (lw_V q2328 q2330 qs83 q136 q2331) iX8_barsOf rfl KX8 MH_m rfl rfl (by decide) (by decide) (Nat.le_of_ble_eq_true rfl) (by decide) (by decide) dX8_bars_47 (fun x_ η' h => ?_)
        obtain ⟨rfl, c, p, hc, rfl⟩ := h
        exact v_iret rfl dX8_bars_50 ⟨_, rfl, fun q => absurd hin2 q, fun a2 b2 h1 h2 e1 e2 => by
            have e3 : aa = a2 := (nI_eq (by omega) (by omega)).mp e1
            have e4 : bb = b2 := (nI_eq (by omega) (by omega)).mp e2
            subst e3 e4
            exact ⟨by rw [if_pos c29, show l = 0 by omega], c, p, hc, rfl⟩⟩
      · refine v_iconst (v := nI 1) dX8_bars_42 k_iconst_1 ?_
        refine v_goto (tgt := 47) dX8_bars_43 rfl ?_
        have hs2 : s % 2 ^ gN σ 2 < 256 := Nat.lt_of_lt_of_le (Nat.mod_lt _ (Nat.two_pow_pos _)) (p2_le (b := 8) hT)
        refine v_callVI (kc' := 0) (ks' := 0) (cM_barsOf hap (sN σ 0 0) bf hB hC (s % 2 ^ gN σ 2) aa 1 1 hs2 (by omega) (by omega) (by omega)) (lw_V q2328 q2330 qs83 q136 q2331) iX8_barsOf rfl KX8 MH_m rfl rfl (by decide) (by decide) (Nat.le_of_ble_eq_true rfl) (by decide) (by decide) dX8_bars_47 (fun x_ η' h => ?_)
        obtain ⟨rfl, c, p, hc, rfl⟩ := h
        exact v_iret rfl dX8_bars_50 ⟨_, rfl, fun q => absurd hin2 q, fun a2 b2 h1 h2 e1 e2 => by
            have e3 : aa = a2 := (nI_eq (by omega) (by omega)).mp e1
            have e4 : bb = b2 := (nI_eq (by omega) (by omega)).mp e2
            subst e3 e4
            exact ⟨by rw [if_pos c29, show l = 1 by omega], c, p, hc, rfl⟩⟩
  · exact absurd c11 (by decide)
/-- sets from 1 on below n that no law bars -/
def sfN (f : Nat → Nat) : Nat → Nat
  | 0 => 0
  | n + 1 => sfN f n + if n ≠ 0 ∧ f n = 0 then 1 else 0
theorem sfN_y {f : Nat → Nat} {n : Nat} (h : n ≠ 0) (hf : f n = 0) : sfN f (n + 1) = sfN f n + 1 := by
  show _ + (if _ then _ else _) = _
  rw [if_pos ⟨h, hf⟩]
theorem sfN_n {f : Nat → Nat} {n : Nat} (hf : ¬ f n = 0) : sfN f (n + 1) = sfN f n := by
  show _ + (if _ then _ else _) = _
  rw [if_neg (fun q => hf q.2)]
  rfl
theorem cM_safe {G : Gl} {m : Nat} {ad : Nat → Nat} {η0 : AH} (hap : Mp m ad) (σ : MS) (bf : Nat → Nat → Nat → Nat → Nat) (hB : BarO σ bf) (hC : Cch bf (gA σ 50)) (a b : Int32) (l : Nat) (hl : l < 2) : Ct G yX8_safe cX8_safe 6 (some .int) 5 0 0 [.ref m, .int a, .int b, .int (nI l)] (MH m ad σ η0) (ri fun r η => (¬ (inr a (gN σ 1 + 1) ∧ inr b 3) → r = nI 0 ∧ η = MH m ad (sN σ 0 1) η0) ∧ ∀ aa bb, aa ≤ gN σ 1 → bb < 3 → a = nI aa → b = nI bb → r = nI (sfN (fun s => bf aa (if aa = gN σ 1 then 1 else bb) l s) (2 ^ gN σ 2)) ∧ ∃ c p, Cch bf c ∧ η = MH m ad (sCP (sN σ 0 0) c p) η0) := by
  refine Ct.start rfl rfl (Nat.le_of_ble_eq_true rfl) (fun Γ => ?_)
  have hS := hB.1
  have hT := hB.2.1
  by_cases hin : (inr a (gN σ 1 + 1) ∧ inr b 3)
  case neg =>
    refine v_aload_n (i := 0) dX8_safe_0 rfl rfl ?_
    refine v_iconst (v := nI 0) dX8_safe_1 k_iconst_0 ?_
    refine mp_thrown rfl dX8_safe_2 ?_
    refine v_aload_n (i := 0) dX8_safe_5 rfl rfl ?_
    refine v_iload_n (i := 1) dX8_safe_6 rfl rfl ?_
    refine v_iload_n (i := 2) dX8_safe_7 rfl rfl ?_
    refine v_callVI (kc' := 0) (ks' := 0) (cM_isGroup hap σ a b hS) (lw_V q2320 q2322 qs81 q136 q2323) iX8_isGroup rfl KX8 MH_m rfl rfl (by decide) (by decide) (Nat.le_of_ble_eq_true rfl) (by decide) (by decide) dX8_safe_8 (fun x_ η' h => ?_)
    obtain ⟨rfl, rfl⟩ := h.1 hin
    refine vn_if_ne (tgt := 16) dX8_safe_11 rfl (by decide) (fun c11 => ?_) (fun c11 => ?_)
    · exact absurd rfl c11
    · refine v_iconst (v := nI 0) dX8_safe_14 k_iconst_0 ?_
      exact v_iret rfl dX8_safe_15 ⟨_, rfl, fun _ => ⟨rfl, rfl⟩, fun aa bb h1 h2 e1 e2 => absurd ⟨⟨aa, by omega, e1⟩, ⟨bb, h2, e2⟩⟩ hin⟩
  have hin2 := hin
  obtain ⟨⟨aa, haa, rfl⟩, ⟨bb, hbb, rfl⟩⟩ := hin
  have hp8 : 2 ^ gN σ 2 ≤ 256 := p2_le (b := 8) hT
  have hp0 : 1 ≤ 2 ^ gN σ 2 := Nat.two_pow_pos _
  have hlt := hB.lt
  have L : ∀ (n s v : Nat) (c : Nat → Nat) (p : Nat → Int32), 2 ^ gN σ 2 - s = n → 1 ≤ s → s ≤ 2 ^ gN σ 2 → v = sfN (fun s => bf aa (if aa = gN σ 1 then 1 else bb) l s) s → Cch bf c → V G Γ yX8_safe cX8_safe 6 (some .int) [] 5 (ri fun r η => (¬ (inr (nI aa) (gN σ 1 + 1) ∧ inr (nI bb) 3) → r = nI 0 ∧ η = MH m ad (sN σ 0 1) η0) ∧ ∀ a2 b2, a2 ≤ gN σ 1 → b2 < 3 → nI aa = nI a2 → nI bb = nI b2 → r = nI (sfN (fun s => bf a2 (if a2 = gN σ 1 then 1 else b2) l s) (2 ^ gN σ 2)) ∧ ∃ c p, Cch bf c ∧ η = MH m ad (sCP (sN σ 0 0) c p) η0) 0 0 (MH m ad (sCP (sN σ 0 0) c p) η0) 22 [some (.ref m), some (.int (nI aa)), some (.int (nI bb)), some (.int (nI l)), some (.int (nI v)), some (.int (nI s))] [] := by
    intro n
    induction n using Nat.strongRecOn with
    | _ n ih =>
      intro s v c p hn hs1 hs hv hc
      refine v_iload (i := 5) dX8_safe_22 rfl ?_
      refine v_aload_n (i := 0) dX8_safe_24 rfl rfl ?_
      refine v_callVi (cM_all hap (sCP (sN σ 0 0) c p) hT) (lw_V q2324 q2326 qs82 q136 q2327) iX8_all rfl KX8 MH_m rfl rfl (by decide) (by decide) (Nat.le_of_ble_eq_true rfl) dX8_safe_25 ?_
      refine vn_icmp_gt (tgt := 72) dX8_safe_28 rfl (by omega) (show 2 ^ gN σ 2 - 1 < _ by omega) (fun c28 => ?_) (fun c28 => ?_)
      · have c28 : 2 ^ gN σ 2 - 1 < s := c28
        have e : s = 2 ^ gN σ 2 := by omega
        subst e
        refine v_iload (i := 4) dX8_safe_72 rfl ?_
        exact v_iret rfl dX8_safe_74 ⟨_, rfl, fun q => absurd hin2 q, fun a2 b2 h1 h2 e1 e2 => by
              have e3 : aa = a2 := (nI_eq (by omega) (by omega)).mp e1
              have e4 : bb = b2 := (nI_eq (by omega) (by omega)).mp e2
              subst e3 e4
              exact ⟨by rw [hv], c, p, hc, rfl⟩⟩
      · have c28 : s ≤ 2 ^ gN σ 2 - 1 := c28
        refine v_aload_n (i := 0) dX8_safe_31 rfl rfl ?_
        refine v_iload (i := 5) dX8_safe_32 rfl ?_
        refine v_iload_n (i := 1) dX8_safe_34 rfl rfl ?_
        refine v_iload_n (i := 1) dX8_safe_35 rfl rfl ?_
        refine v_aload_n (i := 0) dX8_safe_36 rfl rfl ?_
        refine mg_shores rfl dX8_safe_37 ?_
        refine vn_icmp_ne (tgt := 47) dX8_safe_40 rfl (by omega) (show gN σ 1 < _ by omega) (fun c40 => ?_) (fun c40 => ?_)
        · have c40 : ¬ aa = gN σ 1 := c40
          refine v_iload_n (i := 2) dX8_safe_47 rfl rfl ?_
          refine v_iload_n (i := 3) dX8_safe_48 rfl rfl ?_
          refine vn_if_eq (tgt := 56) dX8_safe_49 rfl (by omega) (fun c49 => ?_) (fun c49 => ?_)
          · refine v_iconst (v := nI 0) dX8_safe_56 k_iconst_0 ?_
            refine v_callVI (kc' := 0) (ks' := 0) (cM_barsOf hap (sCP (sN σ 0 0) c p) bf hB hc s aa bb 0 (by omega) (by omega) (by omega) (by omega)) (lw_V q2328 q2330 qs83 q136 q2331) iX8_barsOf rfl KX8 MH_m rfl rfl (by decide) (by decide) (Nat.le_of_ble_eq_true rfl) (by decide) (by decide) dX8_safe_57 (fun x_ η' h => ?_)
            obtain ⟨rfl, c', p', hc', rfl⟩ := h
            rw [sCP_sCP]
            have hfe : (fun s => bf aa (if aa = gN σ 1 then 1 else bb) l s) s = bf aa bb 0 s := by show bf aa (if aa = gN σ 1 then 1 else bb) l s = _; rw [if_neg c40, show l = 0 by omega]
            have hf4 := hlt aa bb 0 s
            refine vn_if_ne (tgt := 66) dX8_safe_60 rfl (by omega) (fun c60 => ?_) (fun c60 => ?_)
            · refine vn_iinc 1 dX8_safe_66 rfl k_iconst_1 (by decide) rfl ?_
              refine v_goto (tgt := 22) dX8_safe_69 rfl ?_
              exact ih _ (by omega) (s + 1) _ c' p' rfl (by omega) (by omega) (by rw [sfN_n (fun q => c60 (hfe.symm.trans q)), hv]) hc'
            · refine vn_iinc 1 dX8_safe_63 rfl k_iconst_1 (by decide) rfl ?_
              refine vn_iinc 1 dX8_safe_66 rfl k_iconst_1 (by decide) rfl ?_
              refine v_goto (tgt := 22) dX8_safe_69 rfl ?_
              exact ih _ (by omega) (s + 1) _ c' p' rfl (by omega) (by omega) (by rw [sfN_y (by omega) (hfe.trans c60), hv]) hc'
          · refine v_iconst (v := nI 1) dX8_safe_52 k_iconst_1 ?_
            refine v_goto (tgt := 57) dX8_safe_53 rfl ?_
            refine v_callVI (kc' := 0) (ks' := 0) (cM_barsOf hap (sCP (sN σ 0 0) c p) bf hB hc s aa bb 1 (by omega) (by omega) (by omega) (by omega)) (lw_V q2328 q2330 qs83 q136 q2331) iX8_barsOf rfl KX8 MH_m rfl rfl (by decide) (by decide) (Nat.le_of_ble_eq_true rfl) (by decide) (by decide) dX8_safe_57 (fun x_ η' h => ?_)
            obtain ⟨rfl, c', p', hc', rfl⟩ := h
            rw [sCP_sCP]
            have hfe : (fun s => bf aa (if aa = gN σ 1 then 1 else bb) l s) s = bf aa bb 1 s := by show bf aa (if aa = gN σ 1 then 1 else bb) l s = _; rw [if_neg c40, show l = 1 by omega]
            have hf4 := hlt aa bb 1 s
            refine vn_if_ne (tgt := 66) dX8_safe_60 rfl (by omega) (fun c60 => ?_) (fun c60 => ?_)
            · refine vn_iinc 1 dX8_safe_66 rfl k_iconst_1 (by decide) rfl ?_
              refine v_goto (tgt := 22) dX8_safe_69 rfl ?_
              exact ih _ (by omega) (s + 1) _ c' p' rfl (by omega) (by omega) (by rw [sfN_n (fun q => c60 (hfe.symm.trans q)), hv]) hc'
            · refine vn_iinc 1 dX8_safe_63 rfl k_iconst_1 (by decide) rfl ?_
              refine vn_iinc 1 dX8_safe_66 rfl k_iconst_1 (by decide) rfl ?_
              refine v_goto (tgt := 22) dX8_safe_69 rfl ?_
              exact ih _ (by omega) (s + 1) _ c' p' rfl (by omega) (by omega) (by rw [sfN_y (by omega) (hfe.trans c60), hv]) hc'
        · have c40 : aa = gN σ 1 := c40
          refine v_iconst (v := nI 1) dX8_safe_43 k_iconst_1 ?_
          refine v_goto (tgt := 48) dX8_safe_44 rfl ?_
          refine v_iload_n (i := 3) dX8_safe_48 rfl rfl ?_
          refine vn_if_eq (tgt := 56) dX8_safe_49 rfl (by omega) (fun c49 => ?_) (fun c49 => ?_)
          · refine v_iconst (v := nI 0) dX8_safe_56 k_iconst_0 ?_
            refine v_callVI (kc' := 0) (ks' := 0) (cM_barsOf hap (sCP (sN σ 0 0) c p) bf hB hc s aa 1 0 (by omega) (by omega) (by omega) (by omega)) (lw_V q2328 q2330 qs83 q136 q2331) iX8_barsOf rfl KX8 MH_m rfl rfl (by decide) (by decide) (Nat.le_of_ble_eq_true rfl) (by decide) (by decide) dX8_safe_57 (fun x_ η' h => ?_)
            obtain ⟨rfl, c', p', hc', rfl⟩ := h
            rw [sCP_sCP]
            have hfe : (fun s => bf aa (if aa = gN σ 1 then 1 else bb) l s) s = bf aa 1 0 s := by show bf aa (if aa = gN σ 1 then 1 else bb) l s = _; rw [if_pos c40, show l = 0 by omega]
            have hf4 := hlt aa 1 0 s
            refine vn_if_ne (tgt := 66) dX8_safe_60 rfl (by omega) (fun c60 => ?_) (fun c60 => ?_)
            · refine vn_iinc 1 dX8_safe_66 rfl k_iconst_1 (by decide) rfl ?_
              refine v_goto (tgt := 22) dX8_safe_69 rfl ?_
              exact ih _ (by omega) (s + 1) _ c' p' rfl (by omega) (by omega) (by rw [sfN_n (fun q => c60 (hfe.symm.trans q)), hv]) hc'
            · refine vn_iinc 1 dX8_safe_63 rfl k_iconst_1 (by decide) rfl ?_
              refine vn_iinc 1 dX8_safe_66 rfl k_iconst_1 (by decide) rfl ?_
              refine v_goto (tgt := 22) dX8_safe_69 rfl ?_
              exact ih _ (by omega) (s + 1) _ c' p' rfl (by omega) (by omega) (by rw [sfN_y (by omega) (hfe.trans c60), hv]) hc'
          · refine v_iconst (v := nI 1) dX8_safe_52 k_iconst_1 ?_
            refine v_goto (tgt := 57) dX8_safe_53 rfl ?_
            refine v_callVI (kc' := 0) (ks' := 0) (cM_barsOf hap (sCP (sN σ 0 0) c p) bf hB hc s aa 1 1 (by omega) (by omega) (by omega) (by omega)) (lw_V q2328 q2330 qs83 q136 q2331) iX8_barsOf rfl KX8 MH_m rfl rfl (by decide) (by decide) (Nat.le_of_ble_eq_true rfl) (by decide) (by decide) dX8_safe_57 (fun x_ η' h => ?_)
            obtain ⟨rfl, c', p', hc', rfl⟩ := h
            rw [sCP_sCP]
            have hfe : (fun s => bf aa (if aa = gN σ 1 then 1 else bb) l s) s = bf aa 1 1 s := by show bf aa (if aa = gN σ 1 then 1 else bb) l s = _; rw [if_pos c40, show l = 1 by omega]
            have hf4 := hlt aa 1 1 s
            refine vn_if_ne (tgt := 66) dX8_safe_60 rfl (by omega) (fun c60 => ?_) (fun c60 => ?_)
            · refine vn_iinc 1 dX8_safe_66 rfl k_iconst_1 (by decide) rfl ?_
              refine v_goto (tgt := 22) dX8_safe_69 rfl ?_
              exact ih _ (by omega) (s + 1) _ c' p' rfl (by omega) (by omega) (by rw [sfN_n (fun q => c60 (hfe.symm.trans q)), hv]) hc'
            · refine vn_iinc 1 dX8_safe_63 rfl k_iconst_1 (by decide) rfl ?_
              refine vn_iinc 1 dX8_safe_66 rfl k_iconst_1 (by decide) rfl ?_
              refine v_goto (tgt := 22) dX8_safe_69 rfl ?_
              exact ih _ (by omega) (s + 1) _ c' p' rfl (by omega) (by omega) (by rw [sfN_y (by omega) (hfe.trans c60), hv]) hc'
  refine v_aload_n (i := 0) dX8_safe_0 rfl rfl ?_
  refine v_iconst (v := nI 0) dX8_safe_1 k_iconst_0 ?_
  refine mp_thrown rfl dX8_safe_2 ?_
  refine v_aload_n (i := 0) dX8_safe_5 rfl rfl ?_
  refine v_iload_n (i := 1) dX8_safe_6 rfl rfl ?_
  refine v_iload_n (i := 2) dX8_safe_7 rfl rfl ?_
  refine v_callVI (kc' := 0) (ks' := 0) (cM_isGroup hap σ (nI aa) (nI bb) hS) (lw_V q2320 q2322 qs81 q136 q2323) iX8_isGroup rfl KX8 MH_m rfl rfl (by decide) (by decide) (Nat.le_of_ble_eq_true rfl) (by decide) (by decide) dX8_safe_8 (fun x_ η' h => ?_)
  obtain ⟨rfl, rfl⟩ := h.2 hin2
  refine vn_if_ne (tgt := 16) dX8_safe_11 rfl (by decide) (fun c11 => ?_) (fun c11 => ?_)
  · refine v_iconst (v := nI 0) dX8_safe_16 k_iconst_0 ?_
    refine v_istore (i := 4) dX8_safe_17 (by decide) rfl ?_
    refine v_iconst (v := nI 1) dX8_safe_19 k_iconst_1 ?_
    refine v_istore (i := 5) dX8_safe_20 (by decide) rfl ?_
    have L0 := L _ 1 0 (gA σ 50) (gB σ 51) rfl (by omega) hp0 (by simp [sfN]) hC
    rw [show sCP (sN σ 0 0) (gA σ 50) (gB σ 51) = sN σ 0 0 from sCP_self (sN σ 0 0)] at L0
    exact L0
  · exact absurd c11 (by decide)
