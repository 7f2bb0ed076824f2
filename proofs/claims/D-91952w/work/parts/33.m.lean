theorem cM_goesT {G : Gl} {m : Nat} {ad : Nat → Nat} {η0 : AH} (hap : Mp m ad) (σ : MS) (hP : PO σ) (p : Nat) (hp : p ≤ gN σ 21) : Ct G yX8_goes cX8_goes 2 none 2 0 0 [.ref m] (MH m ad (TS σ p) η0) (re none (MH m ad (TS σ (nx σ p)) η0)) := by
  have h := cM_goes (G := G) (η0 := η0) hap (TS σ p) hP.1 (tq_b hP hp).1 hP.2
  have e : setTok (TS σ p) (tk (gA (TS σ p) 17) (gN (TS σ p) 21) (gN (TS σ p) 22)) = TS σ (nx σ p) := setTok_setTok _ _ _
  rw [e] at h
  exact h
theorem cM_goodG {G : Gl} {m : Nat} {ad : Nat → Nat} {η0 : AH} (hap : Mp m ad) (τ : MS) (h : gN τ 19 = 0) : Ct G yX8_isGood cX8_isGood 1 (some .boolean) 1 0 0 [.ref m] (MH m ad (τ) η0) (re (some (.int (nI 1))) (MH m ad τ η0)) := by
  have h1 := cM_isGood (G := G) (η0 := η0) hap τ (by omega)
  rw [if_pos h] at h1
  exact h1
theorem cM_goodB {G : Gl} {m : Nat} {ad : Nat → Nat} {η0 : AH} (hap : Mp m ad) (τ : MS) (h : ¬ gN τ 19 = 0) (h2 : gN τ 19 < 2147483648) : Ct G yX8_isGood cX8_isGood 1 (some .boolean) 1 0 0 [.ref m] (MH m ad (τ) η0) (re (some (.int (nI 0))) (MH m ad τ η0)) := by
  have h1 := cM_isGood (G := G) (η0 := η0) hap τ h2
  rw [if_neg h] at h1
  exact h1
theorem cM_wrongG {G : Gl} {m : Nat} {ad : Nat → Nat} {η0 : AH} (hap : Mp m ad) (τ : MS) (k : Nat) (h : gN τ 19 = 0) : Ct G yX8_wrong cX8_wrong 2 none 1 0 0 [.ref m, .int (nI k)] (MH m ad (τ) η0) (re none (MH m ad (flt τ k (gN τ 24)) η0)) := by
  have h1 := cM_wrong (G := G) (η0 := η0) hap τ k (by omega)
  rw [if_pos h] at h1
  exact h1
theorem cM_wrongB {G : Gl} {m : Nat} {ad : Nat → Nat} {η0 : AH} (hap : Mp m ad) (τ : MS) (k : Nat) (h : ¬ gN τ 19 = 0) (h2 : gN τ 19 < 2147483648) : Ct G yX8_wrong cX8_wrong 2 none 1 0 0 [.ref m, .int (nI k)] (MH m ad (τ) η0) (re none (MH m ad τ η0)) := by
  have h1 := cM_wrong (G := G) (η0 := η0) hap τ k h2
  rw [if_neg h] at h1
  exact h1
theorem cM_named {G : Gl} {m : Nat} {ad : Nat → Nat} {η0 : AH} (hap : Mp m ad) (σ : MS) (c : Nat) (hc : c < 2147483648) (hT : gN σ 30 ≤ 8) (hl : ∀ t, t < 8 → gA σ 40 t < 2147483648) : Ct G yX8_named cX8_named 3 (some .int) 1 0 0 [.ref m, .int (nI c)] (MH m ad σ η0) (re (some (.int (oI (nmF (gA σ 40) c (gN σ 30) 0)))) (MH m ad σ η0)) := by
  refine Ct.start rfl rfl (Nat.le_of_ble_eq_true rfl) (fun Γ => ?_)
  have L : ∀ (n t : Nat), t + n = gN σ 30 → nmF (gA σ 40) c (gN σ 30) 0 = nmF (gA σ 40) c n t → V G Γ yX8_named cX8_named 3 (some .int) [] 1 (re (some (.int (oI (nmF (gA σ 40) c (gN σ 30) 0)))) (MH m ad σ η0)) 0 0 (MH m ad σ η0) 2 [some (.ref m), some (.int (nI c)), some (.int (nI t))] [] := by
    intro n
    induction n with
    | zero =>
      intro t ht hk
      have e : t = gN σ 30 := by omega
      subst e
      refine v_iload_n (i := 2) dX8_named_2 rfl rfl ?_
      refine v_aload_n (i := 0) dX8_named_3 rfl rfl ?_
      refine mg_readThings rfl dX8_named_4 ?_
      refine vn_icmp_ge (tgt := 28) dX8_named_7 rfl (by omega) (by omega) (fun c7 => ?_) (fun c7 => ?_)
      · refine v_iconst (v := -1) dX8_named_28 k_iconst_m1 ?_
        exact v_iret rfl dX8_named_29 ⟨by rw [hk]; rfl, rfl⟩
      · omega
    | succ n ih =>
      intro t ht hk
      have hlt := hl t (by omega)
      refine v_iload_n (i := 2) dX8_named_2 rfl rfl ?_
      refine v_aload_n (i := 0) dX8_named_3 rfl rfl ?_
      refine mg_readThings rfl dX8_named_4 ?_
      refine vn_icmp_ge (tgt := 28) dX8_named_7 rfl (by omega) (by omega) (fun c7 => ?_) (fun c7 => ?_)
      · omega
      · refine v_aload_n (i := 0) dX8_named_10 rfl rfl ?_
        refine mg_readLetter rfl dX8_named_11 ?_
        refine v_iload_n (i := 2) dX8_named_14 rfl rfl ?_
        refine ml_readLetter hap (by omega) dX8_named_15 ?_
        refine v_iload_n (i := 1) dX8_named_16 rfl rfl ?_
        refine vn_icmp_ne (tgt := 22) dX8_named_17 rfl (by omega) (by omega) (fun c17 => ?_) (fun c17 => ?_)
        · refine vn_iinc 1 dX8_named_22 rfl k_iconst_1 (by decide) rfl ?_
          refine v_goto (tgt := 2) dX8_named_25 rfl ?_
          exact ih (t + 1) (by omega) (by rw [hk]; show (if _ then _ else _) = _; rw [if_neg c17])
        · refine v_iload_n (i := 2) dX8_named_20 rfl rfl ?_
          exact v_iret rfl dX8_named_21 ⟨by rw [hk]; show _ = Sum.inl (some (Value.int (oI (if _ then _ else _)))); rw [if_pos c17]; rfl, rfl⟩
  refine v_iconst (v := nI 0) dX8_named_0 k_iconst_0 ?_
  refine v_istore_n (i := 2) dX8_named_1 rfl (by decide) rfl ?_
  exact L _ 0 (Nat.zero_add _) rfl
theorem cM_need {G : Gl} {m : Nat} {ad : Nat → Nat} {η0 : AH} (hap : Mp m ad) (σ : MS) (hP : PO σ) (p : Nat) (hp : p ≤ gN σ 21) (hg : gN σ 19 = 0) (k : Nat) (hk : k < 2147483648) : Ct G yX8_need cX8_need 2 none 4 0 0 [.ref m, .int (nI k)] (MH m ad (TS σ p) η0) (re none (MH m ad (if kwT (tq σ p) = k + 1 then TS σ (nx σ p) else flt (TS σ p) 1 (tq σ p 24)) η0)) := by
  refine Ct.start rfl rfl (Nat.le_of_ble_eq_true rfl) (fun Γ => ?_)
  obtain ⟨b22, b23, b24, b25, b26, b27, b28⟩ := tq_b hP hp
  have bk := kwT_le (tq σ p)
  have ek : kwT (tokS (TS σ p)) = kwT (tq σ p) := rfl
  refine v_aload_n (i := 0) dX8_need_0 rfl rfl ?_
  refine v_callVi (cM_goodG hap (TS σ p) hg) (lw_V q2229 q2231 qs61 q136 q2232) iX8_isGood rfl KX8 MH_m rfl rfl (by decide) (by decide) (Nat.le_of_ble_eq_true rfl) dX8_need_1 ?_
  refine vn_if_ne (tgt := 8) dX8_need_4 rfl (by decide) (fun c4 => ?_) (fun c4 => ?_)
  · refine v_aload_n (i := 0) dX8_need_8 rfl rfl ?_
    refine v_callVi (cM_knownWord hap (TS σ p) (show tq σ p 23 < _ by omega) (show tq σ p 25 < _ by omega) b28) (lw_V q2215 q2217 qs59 q136 q2218) iX8_knownWord rfl KX8 MH_m rfl rfl (by decide) (by decide) (Nat.le_of_ble_eq_true rfl) dX8_need_9 ?_
    refine v_iload_n (i := 1) dX8_need_12 rfl rfl ?_
    refine von_icmp_ne (tgt := 23) dX8_need_13 rfl (by rw [ek]; omega) hk (fun c13 => ?_) (fun c13 => ?_)
    · rw [ek] at c13
      refine v_aload_n (i := 0) dX8_need_23 rfl rfl ?_
      refine v_iconst (v := nI 1) dX8_need_24 k_iconst_1 ?_
      refine v_callVv (cM_wrongG hap (TS σ p) 1 hg) (lw_V q2233 q2235 qs62 q136 q2236) iX8_wrong rfl KX8 MH_m rfl rfl (by decide) (by decide) (Nat.le_of_ble_eq_true rfl) dX8_need_25 ?_
      exact v_vret rfl dX8_need_28 ⟨rfl, by rw [if_neg c13]; rfl⟩
    · rw [ek] at c13
      refine v_aload_n (i := 0) dX8_need_16 rfl rfl ?_
      refine v_callVv (cM_goesT hap σ hP p hp) (lw_V q2201 q2203 qs57 q136 q2204) iX8_goes rfl KX8 MH_m rfl rfl (by decide) (by decide) (Nat.le_of_ble_eq_true rfl) dX8_need_17 ?_
      refine v_goto (tgt := 28) dX8_need_20 rfl ?_
      exact v_vret rfl dX8_need_28 ⟨rfl, by rw [if_pos c13]⟩
  · exact absurd c4 (by decide)
theorem cM_needB {G : Gl} {m : Nat} {ad : Nat → Nat} {η0 : AH} (hap : Mp m ad) (σ : MS) (hg : ¬ gN σ 19 = 0) (hg2 : gN σ 19 < 2147483648) (k : Nat) : Ct G yX8_need cX8_need 2 none 4 0 0 [.ref m, .int (nI k)] (MH m ad (σ) η0) (re none (MH m ad σ η0)) := by
  refine Ct.start rfl rfl (Nat.le_of_ble_eq_true rfl) (fun Γ => ?_)
  refine v_aload_n (i := 0) dX8_need_0 rfl rfl ?_
  refine v_callVi (cM_goodB hap σ hg hg2) (lw_V q2229 q2231 qs61 q136 q2232) iX8_isGood rfl KX8 MH_m rfl rfl (by decide) (by decide) (Nat.le_of_ble_eq_true rfl) dX8_need_1 ?_
  refine vn_if_ne (tgt := 8) dX8_need_4 rfl (by decide) (fun c4 => ?_) (fun c4 => ?_)
  · exact absurd rfl c4
  · exact v_vret rfl dX8_need_7 ⟨rfl, rfl⟩
theorem cM_number {G : Gl} {m : Nat} {ad : Nat → Nat} {η0 : AH} (hap : Mp m ad) (σ : MS) (hP : PO σ) (p : Nat) (hp : p ≤ gN σ 21) (hg : gN σ 19 = 0) (lo hi : Nat) (hlo : lo < 2147483648) (hhi : hi < 2147483648) : Ct G yX8_number cX8_number 4 (some .int) 4 0 0 [.ref m, .int (nI lo), .int (nI hi)] (MH m ad (TS σ p) η0) (re (some (.int (nI (tq σ p 26)))) (MH m ad (if numE (tq σ p) lo hi = 0 then TS σ (nx σ p) else flt (TS σ p) (numE (tq σ p) lo hi) (tq σ p 24)) η0)) := by
  refine Ct.start rfl rfl (Nat.le_of_ble_eq_true rfl) (fun Γ => ?_)
  obtain ⟨b22, b23, b24, b25, b26, b27, b28⟩ := tq_b hP hp
  refine v_aload_n (i := 0) dX8_number_0 rfl rfl ?_
  refine v_callVi (cM_goodG hap (TS σ p) hg) (lw_V q2229 q2231 qs61 q136 q2232) iX8_isGood rfl KX8 MH_m rfl rfl (by decide) (by decide) (Nat.le_of_ble_eq_true rfl) dX8_number_1 ?_
  refine vn_if_ne (tgt := 9) dX8_number_4 rfl (by decide) (fun c4 => ?_) (fun c4 => ?_)
  · refine v_aload_n (i := 0) dX8_number_9 rfl rfl ?_
    refine mg_sort rfl dX8_number_10 ?_
    refine v_iconst (v := nI 2) dX8_number_13 k_iconst_2 ?_
    refine vn_icmp_eq (tgt := 25) dX8_number_14 rfl (show tq σ p 23 < _ by omega) (by decide) (fun c14 => ?_) (fun c14 => ?_)
    · have c14 : tq σ p 23 = 2 := c14
      refine v_aload_n (i := 0) dX8_number_25 rfl rfl ?_
      refine mg_long0 rfl dX8_number_26 ?_
      refine v_iconst (v := nI 3) dX8_number_29 k_iconst_3 ?_
      refine vn_icmp_gt (tgt := 49) dX8_number_30 rfl (show tq σ p 25 < _ by omega) (by decide) (fun c30 => ?_) (fun c30 => ?_)
      · have c30 : 3 < tq σ p 25 := c30
        refine v_aload_n (i := 0) dX8_number_49 rfl rfl ?_
        refine v_iconst (v := nI 2) dX8_number_50 k_iconst_2 ?_
        refine v_callVv (cM_wrongG hap (TS σ p) 2 hg) (lw_V q2233 q2235 qs62 q136 q2236) iX8_wrong rfl KX8 MH_m rfl rfl (by decide) (by decide) (Nat.le_of_ble_eq_true rfl) dX8_number_51 ?_
        refine v_aload_n (i := 0) dX8_number_54 rfl rfl ?_
        refine mg_value rfl dX8_number_55 ?_
        refine v_istore_n (i := 3) dX8_number_58 rfl (by decide) rfl ?_
        refine v_aload_n (i := 0) dX8_number_59 rfl rfl ?_
        refine v_callVi (cM_goodB hap (flt (TS σ p) 2 (gN (TS σ p) 24)) (by show ¬ 2 = 0; decide) (by show 2 < _; decide)) (lw_V q2229 q2231 qs61 q136 q2232) iX8_isGood rfl KX8 MH_m rfl rfl (by decide) (by decide) (Nat.le_of_ble_eq_true rfl) dX8_number_60 ?_
        refine vn_if_eq (tgt := 70) dX8_number_63 rfl (by decide) (fun c63 => ?_) (fun c63 => ?_)
        · refine v_iload_n (i := 3) dX8_number_70 rfl rfl ?_
          exact v_iret rfl dX8_number_71 ⟨rfl, by have e : numE (tq σ p) lo hi = 2 := (by unfold numE; rw [if_neg (fun q => q c14), if_pos (by omega)]); rw [e]; rfl⟩
        · exact absurd rfl c63
      · have c30 : tq σ p 25 ≤ 3 := c30
        refine v_aload_n (i := 0) dX8_number_33 rfl rfl ?_
        refine mg_value rfl dX8_number_34 ?_
        refine v_iload_n (i := 1) dX8_number_37 rfl rfl ?_
        refine vn_icmp_lt (tgt := 49) dX8_number_38 rfl (show tq σ p 26 < _ by omega) hlo (fun c38 => ?_) (fun c38 => ?_)
        · have c38 : tq σ p 26 < lo := c38
          refine v_aload_n (i := 0) dX8_number_49 rfl rfl ?_
          refine v_iconst (v := nI 2) dX8_number_50 k_iconst_2 ?_
          refine v_callVv (cM_wrongG hap (TS σ p) 2 hg) (lw_V q2233 q2235 qs62 q136 q2236) iX8_wrong rfl KX8 MH_m rfl rfl (by decide) (by decide) (Nat.le_of_ble_eq_true rfl) dX8_number_51 ?_
          refine v_aload_n (i := 0) dX8_number_54 rfl rfl ?_
          refine mg_value rfl dX8_number_55 ?_
          refine v_istore_n (i := 3) dX8_number_58 rfl (by decide) rfl ?_
          refine v_aload_n (i := 0) dX8_number_59 rfl rfl ?_
          refine v_callVi (cM_goodB hap (flt (TS σ p) 2 (gN (TS σ p) 24)) (by show ¬ 2 = 0; decide) (by show 2 < _; decide)) (lw_V q2229 q2231 qs61 q136 q2232) iX8_isGood rfl KX8 MH_m rfl rfl (by decide) (by decide) (Nat.le_of_ble_eq_true rfl) dX8_number_60 ?_
          refine vn_if_eq (tgt := 70) dX8_number_63 rfl (by decide) (fun c63 => ?_) (fun c63 => ?_)
          · refine v_iload_n (i := 3) dX8_number_70 rfl rfl ?_
            exact v_iret rfl dX8_number_71 ⟨rfl, by have e : numE (tq σ p) lo hi = 2 := (by unfold numE; rw [if_neg (fun q => q c14), if_pos (by omega)]); rw [e]; rfl⟩
          · exact absurd rfl c63
        · have c38 : lo ≤ tq σ p 26 := c38
          refine v_aload_n (i := 0) dX8_number_41 rfl rfl ?_
          refine mg_value rfl dX8_number_42 ?_
          refine v_iload_n (i := 2) dX8_number_45 rfl rfl ?_
          refine vn_icmp_le (tgt := 54) dX8_number_46 rfl (show tq σ p 26 < _ by omega) hhi (fun c46 => ?_) (fun c46 => ?_)
          · have c46 : tq σ p 26 ≤ hi := c46
            refine v_aload_n (i := 0) dX8_number_54 rfl rfl ?_
            refine mg_value rfl dX8_number_55 ?_
            refine v_istore_n (i := 3) dX8_number_58 rfl (by decide) rfl ?_
            refine v_aload_n (i := 0) dX8_number_59 rfl rfl ?_
            refine v_callVi (cM_goodG hap (TS σ p) hg) (lw_V q2229 q2231 qs61 q136 q2232) iX8_isGood rfl KX8 MH_m rfl rfl (by decide) (by decide) (Nat.le_of_ble_eq_true rfl) dX8_number_60 ?_
            refine vn_if_eq (tgt := 70) dX8_number_63 rfl (by decide) (fun c63 => ?_) (fun c63 => ?_)
            · exact absurd c63 (by decide)
            · refine v_aload_n (i := 0) dX8_number_66 rfl rfl ?_
              refine v_callVv (cM_goesT hap σ hP p hp) (lw_V q2201 q2203 qs57 q136 q2204) iX8_goes rfl KX8 MH_m rfl rfl (by decide) (by decide) (Nat.le_of_ble_eq_true rfl) dX8_number_67 ?_
              refine v_iload_n (i := 3) dX8_number_70 rfl rfl ?_
              exact v_iret rfl dX8_number_71 ⟨rfl, by have e : numE (tq σ p) lo hi = 0 := (by unfold numE; rw [if_neg (fun q => q c14), if_neg (by omega)]); rw [e]; rfl⟩
          · have c46 : hi < tq σ p 26 := c46
            refine v_aload_n (i := 0) dX8_number_49 rfl rfl ?_
            refine v_iconst (v := nI 2) dX8_number_50 k_iconst_2 ?_
            refine v_callVv (cM_wrongG hap (TS σ p) 2 hg) (lw_V q2233 q2235 qs62 q136 q2236) iX8_wrong rfl KX8 MH_m rfl rfl (by decide) (by decide) (Nat.le_of_ble_eq_true rfl) dX8_number_51 ?_
            refine v_aload_n (i := 0) dX8_number_54 rfl rfl ?_
            refine mg_value rfl dX8_number_55 ?_
            refine v_istore_n (i := 3) dX8_number_58 rfl (by decide) rfl ?_
            refine v_aload_n (i := 0) dX8_number_59 rfl rfl ?_
            refine v_callVi (cM_goodB hap (flt (TS σ p) 2 (gN (TS σ p) 24)) (by show ¬ 2 = 0; decide) (by show 2 < _; decide)) (lw_V q2229 q2231 qs61 q136 q2232) iX8_isGood rfl KX8 MH_m rfl rfl (by decide) (by decide) (Nat.le_of_ble_eq_true rfl) dX8_number_60 ?_
            refine vn_if_eq (tgt := 70) dX8_number_63 rfl (by decide) (fun c63 => ?_) (fun c63 => ?_)
            · refine v_iload_n (i := 3) dX8_number_70 rfl rfl ?_
              exact v_iret rfl dX8_number_71 ⟨rfl, by have e : numE (tq σ p) lo hi = 2 := (by unfold numE; rw [if_neg (fun q => q c14), if_pos (by omega)]); rw [e]; rfl⟩
            · exact absurd rfl c63
    · have c14 : ¬ tq σ p 23 = 2 := c14
      refine v_aload_n (i := 0) dX8_number_17 rfl rfl ?_
      refine v_iconst (v := nI 1) dX8_number_18 k_iconst_1 ?_
      refine v_callVv (cM_wrongG hap (TS σ p) 1 hg) (lw_V q2233 q2235 qs62 q136 q2236) iX8_wrong rfl KX8 MH_m rfl rfl (by decide) (by decide) (Nat.le_of_ble_eq_true rfl) dX8_number_19 ?_
      refine v_goto (tgt := 54) dX8_number_22 rfl ?_
      refine v_aload_n (i := 0) dX8_number_54 rfl rfl ?_
      refine mg_value rfl dX8_number_55 ?_
      refine v_istore_n (i := 3) dX8_number_58 rfl (by decide) rfl ?_
      refine v_aload_n (i := 0) dX8_number_59 rfl rfl ?_
      refine v_callVi (cM_goodB hap (flt (TS σ p) 1 (gN (TS σ p) 24)) (by show ¬ 1 = 0; decide) (by show 1 < _; decide)) (lw_V q2229 q2231 qs61 q136 q2232) iX8_isGood rfl KX8 MH_m rfl rfl (by decide) (by decide) (Nat.le_of_ble_eq_true rfl) dX8_number_60 ?_
      refine vn_if_eq (tgt := 70) dX8_number_63 rfl (by decide) (fun c63 => ?_) (fun c63 => ?_)
      · refine v_iload_n (i := 3) dX8_number_70 rfl rfl ?_
        exact v_iret rfl dX8_number_71 ⟨rfl, by have e : numE (tq σ p) lo hi = 1 := (by unfold numE; rw [if_pos c14]); rw [e]; rfl⟩
      · exact absurd rfl c63
  · exact absurd c4 (by decide)
theorem cM_numberB {G : Gl} {m : Nat} {ad : Nat → Nat} {η0 : AH} (hap : Mp m ad) (σ : MS) (hg : ¬ gN σ 19 = 0) (hg2 : gN σ 19 < 2147483648) (lo hi : Nat) : Ct G yX8_number cX8_number 4 (some .int) 4 0 0 [.ref m, .int (nI lo), .int (nI hi)] (MH m ad (σ) η0) (re (some (.int (nI 0))) (MH m ad σ η0)) := by
  refine Ct.start rfl rfl (Nat.le_of_ble_eq_true rfl) (fun Γ => ?_)
  refine v_aload_n (i := 0) dX8_number_0 rfl rfl ?_
  refine v_callVi (cM_goodB hap σ hg hg2) (lw_V q2229 q2231 qs61 q136 q2232) iX8_isGood rfl KX8 MH_m rfl rfl (by decide) (by decide) (Nat.le_of_ble_eq_true rfl) dX8_number_1 ?_
  refine vn_if_ne (tgt := 9) dX8_number_4 rfl (by decide) (fun c4 => ?_) (fun c4 => ?_)
  · exact absurd rfl c4
  · refine v_iconst (v := nI 0) dX8_number_7 k_iconst_0 ?_
    exact v_iret rfl dX8_number_8 ⟨rfl, rfl⟩
theorem cM_shore {G : Gl} {m : Nat} {ad : Nat → Nat} {η0 : AH} (hap : Mp m ad) (σ : MS) (hP : PO σ) (p : Nat) (hp : p ≤ gN σ 21) (hg : gN σ 19 = 0) (o : Nat) (ho : o < 2147483648) (hS : gN σ 29 ≤ 4) : Ct G yX8_shore cX8_shore 3 (some .int) 4 0 0 [.ref m, .int (oI o)] (MH m ad (TS σ p) η0) (re (some (.int (nI (tq σ p 26)))) (MH m ad (if shE (tq σ p) (gN σ 29) o = 0 then TS σ (nx σ p) else flt (TS σ p) (shE (tq σ p) (gN σ 29) o) (tq σ p 24)) η0)) := by
  refine Ct.start rfl rfl (Nat.le_of_ble_eq_true rfl) (fun Γ => ?_)
  obtain ⟨b22, b23, b24, b25, b26, b27, b28⟩ := tq_b hP hp
  refine v_aload_n (i := 0) dX8_shore_0 rfl rfl ?_
  refine v_callVi (cM_goodG hap (TS σ p) hg) (lw_V q2229 q2231 qs61 q136 q2232) iX8_isGood rfl KX8 MH_m rfl rfl (by decide) (by decide) (Nat.le_of_ble_eq_true rfl) dX8_shore_1 ?_
  refine vn_if_ne (tgt := 9) dX8_shore_4 rfl (by decide) (fun c4 => ?_) (fun c4 => ?_)
  · refine v_aload_n (i := 0) dX8_shore_9 rfl rfl ?_
    refine mg_sort rfl dX8_shore_10 ?_
    refine v_iconst (v := nI 2) dX8_shore_13 k_iconst_2 ?_
    refine vn_icmp_eq (tgt := 25) dX8_shore_14 rfl (show tq σ p 23 < _ by omega) (by decide) (fun c14 => ?_) (fun c14 => ?_)
    · have c14 : tq σ p 23 = 2 := c14
      refine v_aload_n (i := 0) dX8_shore_25 rfl rfl ?_
      refine mg_long0 rfl dX8_shore_26 ?_
      refine v_iconst (v := nI 3) dX8_shore_29 k_iconst_3 ?_
      refine vn_icmp_le (tgt := 41) dX8_shore_30 rfl (show tq σ p 25 < _ by omega) (by decide) (fun c30 => ?_) (fun c30 => ?_)
      · have c30 : tq σ p 25 ≤ 3 := c30
        refine v_aload_n (i := 0) dX8_shore_41 rfl rfl ?_
        refine mg_value rfl dX8_shore_42 ?_
        refine v_aload_n (i := 0) dX8_shore_45 rfl rfl ?_
        refine mg_readShores rfl dX8_shore_46 ?_
        refine vn_icmp_lt (tgt := 60) dX8_shore_49 rfl (show tq σ p 26 < _ by omega) (show gN σ 29 < _ by omega) (fun c49 => ?_) (fun c49 => ?_)
        · have c49 : tq σ p 26 < gN σ 29 := c49
          refine v_aload_n (i := 0) dX8_shore_60 rfl rfl ?_
          refine mg_value rfl dX8_shore_61 ?_
          refine v_iload_n (i := 1) dX8_shore_64 rfl rfl ?_
          refine v_tops (show _ = [Value.int (oI o), Value.int (oI (tq σ p 26 + 1))] from rfl) ?_
          refine voo_icmp_ne (tgt := 73) dX8_shore_65 rfl (by omega) (by omega) (fun c65 => ?_) (fun c65 => ?_)
          · have c65 : ¬ tq σ p 26 + 1 = o := c65
            refine v_aload_n (i := 0) dX8_shore_73 rfl rfl ?_
            refine mg_value rfl dX8_shore_74 ?_
            refine v_istore_n (i := 2) dX8_shore_77 rfl (by decide) rfl ?_
            refine v_aload_n (i := 0) dX8_shore_78 rfl rfl ?_
            refine v_callVi (cM_goodG hap (TS σ p) hg) (lw_V q2229 q2231 qs61 q136 q2232) iX8_isGood rfl KX8 MH_m rfl rfl (by decide) (by decide) (Nat.le_of_ble_eq_true rfl) dX8_shore_79 ?_
            refine vn_if_eq (tgt := 89) dX8_shore_82 rfl (by decide) (fun c82 => ?_) (fun c82 => ?_)
            · exact absurd c82 (by decide)
            · refine v_aload_n (i := 0) dX8_shore_85 rfl rfl ?_
              refine v_callVv (cM_goesT hap σ hP p hp) (lw_V q2201 q2203 qs57 q136 q2204) iX8_goes rfl KX8 MH_m rfl rfl (by decide) (by decide) (Nat.le_of_ble_eq_true rfl) dX8_shore_86 ?_
              refine v_iload_n (i := 2) dX8_shore_89 rfl rfl ?_
              exact v_iret rfl dX8_shore_90 ⟨rfl, by have e : shE (tq σ p) (gN σ 29) o = 0 := (by unfold shE; rw [if_neg (fun q => q c14), if_neg (by omega), if_neg (by omega), if_neg c65]); rw [e]; rfl⟩
          · have c65 : tq σ p 26 + 1 = o := c65
            refine v_aload_n (i := 0) dX8_shore_68 rfl rfl ?_
            refine v_iconst (v := nI 5) dX8_shore_69 k_iconst_5 ?_
            refine v_callVv (cM_wrongG hap (TS σ p) 5 hg) (lw_V q2233 q2235 qs62 q136 q2236) iX8_wrong rfl KX8 MH_m rfl rfl (by decide) (by decide) (Nat.le_of_ble_eq_true rfl) dX8_shore_70 ?_
            refine v_aload_n (i := 0) dX8_shore_73 rfl rfl ?_
            refine mg_value rfl dX8_shore_74 ?_
            refine v_istore_n (i := 2) dX8_shore_77 rfl (by decide) rfl ?_
            refine v_aload_n (i := 0) dX8_shore_78 rfl rfl ?_
            refine v_callVi (cM_goodB hap (flt (TS σ p) 5 (gN (TS σ p) 24)) (by show ¬ 5 = 0; decide) (by show 5 < _; decide)) (lw_V q2229 q2231 qs61 q136 q2232) iX8_isGood rfl KX8 MH_m rfl rfl (by decide) (by decide) (Nat.le_of_ble_eq_true rfl) dX8_shore_79 ?_
            refine vn_if_eq (tgt := 89) dX8_shore_82 rfl (by decide) (fun c82 => ?_) (fun c82 => ?_)
            · refine v_iload_n (i := 2) dX8_shore_89 rfl rfl ?_
              exact v_iret rfl dX8_shore_90 ⟨rfl, by have e : shE (tq σ p) (gN σ 29) o = 5 := (by unfold shE; rw [if_neg (fun q => q c14), if_neg (by omega), if_neg (by omega), if_pos c65]); rw [e]; rfl⟩
            · exact absurd rfl c82
        · have c49 : gN σ 29 ≤ tq σ p 26 := c49
          refine v_aload_n (i := 0) dX8_shore_52 rfl rfl ?_
          refine v_iconst (v := nI 4) dX8_shore_53 k_iconst_4 ?_
          refine v_callVv (cM_wrongG hap (TS σ p) 4 hg) (lw_V q2233 q2235 qs62 q136 q2236) iX8_wrong rfl KX8 MH_m rfl rfl (by decide) (by decide) (Nat.le_of_ble_eq_true rfl) dX8_shore_54 ?_
          refine v_goto (tgt := 73) dX8_shore_57 rfl ?_
          refine v_aload_n (i := 0) dX8_shore_73 rfl rfl ?_
          refine mg_value rfl dX8_shore_74 ?_
          refine v_istore_n (i := 2) dX8_shore_77 rfl (by decide) rfl ?_
          refine v_aload_n (i := 0) dX8_shore_78 rfl rfl ?_
          refine v_callVi (cM_goodB hap (flt (TS σ p) 4 (gN (TS σ p) 24)) (by show ¬ 4 = 0; decide) (by show 4 < _; decide)) (lw_V q2229 q2231 qs61 q136 q2232) iX8_isGood rfl KX8 MH_m rfl rfl (by decide) (by decide) (Nat.le_of_ble_eq_true rfl) dX8_shore_79 ?_
          refine vn_if_eq (tgt := 89) dX8_shore_82 rfl (by decide) (fun c82 => ?_) (fun c82 => ?_)
          · refine v_iload_n (i := 2) dX8_shore_89 rfl rfl ?_
            exact v_iret rfl dX8_shore_90 ⟨rfl, by have e : shE (tq σ p) (gN σ 29) o = 4 := (by unfold shE; rw [if_neg (fun q => q c14), if_neg (by omega), if_pos c49]); rw [e]; rfl⟩
          · exact absurd rfl c82
      · have c30 : 3 < tq σ p 25 := c30
        refine v_aload_n (i := 0) dX8_shore_33 rfl rfl ?_
        refine v_iconst (v := nI 2) dX8_shore_34 k_iconst_2 ?_
        refine v_callVv (cM_wrongG hap (TS σ p) 2 hg) (lw_V q2233 q2235 qs62 q136 q2236) iX8_wrong rfl KX8 MH_m rfl rfl (by decide) (by decide) (Nat.le_of_ble_eq_true rfl) dX8_shore_35 ?_
        refine v_goto (tgt := 73) dX8_shore_38 rfl ?_
        refine v_aload_n (i := 0) dX8_shore_73 rfl rfl ?_
        refine mg_value rfl dX8_shore_74 ?_
        refine v_istore_n (i := 2) dX8_shore_77 rfl (by decide) rfl ?_
        refine v_aload_n (i := 0) dX8_shore_78 rfl rfl ?_
        refine v_callVi (cM_goodB hap (flt (TS σ p) 2 (gN (TS σ p) 24)) (by show ¬ 2 = 0; decide) (by show 2 < _; decide)) (lw_V q2229 q2231 qs61 q136 q2232) iX8_isGood rfl KX8 MH_m rfl rfl (by decide) (by decide) (Nat.le_of_ble_eq_true rfl) dX8_shore_79 ?_
        refine vn_if_eq (tgt := 89) dX8_shore_82 rfl (by decide) (fun c82 => ?_) (fun c82 => ?_)
        · refine v_iload_n (i := 2) dX8_shore_89 rfl rfl ?_
          exact v_iret rfl dX8_shore_90 ⟨rfl, by have e : shE (tq σ p) (gN σ 29) o = 2 := (by unfold shE; rw [if_neg (fun q => q c14), if_pos c30]); rw [e]; rfl⟩
        · exact absurd rfl c82
    · have c14 : ¬ tq σ p 23 = 2 := c14
      refine v_aload_n (i := 0) dX8_shore_17 rfl rfl ?_
      refine v_iconst (v := nI 1) dX8_shore_18 k_iconst_1 ?_
      refine v_callVv (cM_wrongG hap (TS σ p) 1 hg) (lw_V q2233 q2235 qs62 q136 q2236) iX8_wrong rfl KX8 MH_m rfl rfl (by decide) (by decide) (Nat.le_of_ble_eq_true rfl) dX8_shore_19 ?_
      refine v_goto (tgt := 73) dX8_shore_22 rfl ?_
      refine v_aload_n (i := 0) dX8_shore_73 rfl rfl ?_
      refine mg_value rfl dX8_shore_74 ?_
      refine v_istore_n (i := 2) dX8_shore_77 rfl (by decide) rfl ?_
      refine v_aload_n (i := 0) dX8_shore_78 rfl rfl ?_
      refine v_callVi (cM_goodB hap (flt (TS σ p) 1 (gN (TS σ p) 24)) (by show ¬ 1 = 0; decide) (by show 1 < _; decide)) (lw_V q2229 q2231 qs61 q136 q2232) iX8_isGood rfl KX8 MH_m rfl rfl (by decide) (by decide) (Nat.le_of_ble_eq_true rfl) dX8_shore_79 ?_
      refine vn_if_eq (tgt := 89) dX8_shore_82 rfl (by decide) (fun c82 => ?_) (fun c82 => ?_)
      · refine v_iload_n (i := 2) dX8_shore_89 rfl rfl ?_
        exact v_iret rfl dX8_shore_90 ⟨rfl, by have e : shE (tq σ p) (gN σ 29) o = 1 := (by unfold shE; rw [if_pos c14]); rw [e]; rfl⟩
      · exact absurd rfl c82
  · exact absurd c4 (by decide)
theorem cM_shoreB {G : Gl} {m : Nat} {ad : Nat → Nat} {η0 : AH} (hap : Mp m ad) (σ : MS) (hg : ¬ gN σ 19 = 0) (hg2 : gN σ 19 < 2147483648) (o : Int32) : Ct G yX8_shore cX8_shore 3 (some .int) 4 0 0 [.ref m, .int o] (MH m ad (σ) η0) (re (some (.int (nI 0))) (MH m ad σ η0)) := by
  refine Ct.start rfl rfl (Nat.le_of_ble_eq_true rfl) (fun Γ => ?_)
  refine v_aload_n (i := 0) dX8_shore_0 rfl rfl ?_
  refine v_callVi (cM_goodB hap σ hg hg2) (lw_V q2229 q2231 qs61 q136 q2232) iX8_isGood rfl KX8 MH_m rfl rfl (by decide) (by decide) (Nat.le_of_ble_eq_true rfl) dX8_shore_1 ?_
  refine vn_if_ne (tgt := 9) dX8_shore_4 rfl (by decide) (fun c4 => ?_) (fun c4 => ?_)
  · exact absurd rfl c4
  · refine v_iconst (v := nI 0) dX8_shore_7 k_iconst_0 ?_
    exact v_iret rfl dX8_shore_8 ⟨rfl, rfl⟩
