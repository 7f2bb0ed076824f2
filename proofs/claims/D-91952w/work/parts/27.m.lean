theorem cM_right0 {G : Gl} {m : Nat} {ad : Nat → Nat} {η0 : AH} (hap : Mp m ad) (σ : MS) : Ct G yX8_right cX8_right 3 (some .boolean) 1 0 0 [.ref m, .int (nI 0), .int (nI 1)] (MH m ad (sN σ 0 0) η0) (re (some (.int (nI 0))) (MH m ad (sN σ 0 1) η0)) := by
  have h := cM_right (G := G) (η0 := η0) hap (sN σ 0 0) 0 1 (by decide) (by decide) (by decide) rfl
  rw [if_pos rfl, sN_sN] at h
  exact h
theorem cM_right1 {G : Gl} {m : Nat} {ad : Nat → Nat} {η0 : AH} (hap : Mp m ad) (σ : MS) : Ct G yX8_right cX8_right 3 (some .boolean) 1 0 0 [.ref m, .int (nI 1), .int (nI 1)] (MH m ad (sN σ 0 0) η0) (re (some (.int (nI 1))) (MH m ad (sN σ 0 0) η0)) := by
  have h := cM_right (G := G) (η0 := η0) hap (sN σ 0 0) 1 1 (by decide) (by decide) (by decide) rfl
  rw [if_neg (by decide)] at h
  exact h
theorem cM_thing_2 {G : Gl} {m : Nat} {ad : Nat → Nat} {η0 : AH} (hap : Mp m ad) (σ : MS) (a b : Int32) (hT : gN σ 2 ≤ 8) : Ct G yX8_thing_2 cX8_thing_2 3 (some .int) 2 0 0 [.ref m, .int a, .int b] (MH m ad σ η0) (ri fun r η => (¬ (inr a (gN σ 2) ∧ inr b 3) → r = nI 0 ∧ η = MH m ad (sN σ 0 1) η0) ∧ ∀ aa bb, aa < gN σ 2 → bb < 3 → a = nI aa → b = nI bb → r = nI (if bb = 0 then gA σ 6 aa else if bb = 1 then gA σ 7 aa else gA σ 8 aa) ∧ η = MH m ad (sN σ 0 0) η0) := by
  refine Ct.start rfl rfl (Nat.le_of_ble_eq_true rfl) (fun Γ => ?_)
  by_cases hin : inr a (gN σ 2) ∧ inr b 3
  case neg =>
    refine v_aload_n (i := 0) dX8_thing_2_0 rfl rfl ?_
    refine v_iconst (v := nI 0) dX8_thing_2_1 k_iconst_0 ?_
    refine mp_thrown rfl dX8_thing_2_2 ?_
    refine v_aload_n (i := 0) dX8_thing_2_5 rfl rfl ?_
    refine v_iload_n (i := 1) dX8_thing_2_6 rfl rfl ?_
    refine v_if_lt (tgt := 31) dX8_thing_2_7 rfl (fun c7 => ?_) (fun c7 => ?_)
    · refine v_iconst (v := nI 0) dX8_thing_2_31 k_iconst_0 ?_
      refine v_iconst (v := nI 1) dX8_thing_2_32 k_iconst_1 ?_
      refine v_callVi (cM_right0 hap σ) (lw_V q2197 q2199 qs56 q136 q2200) iX8_right rfl KX8 MH_m rfl rfl (by decide) (by decide) (Nat.le_of_ble_eq_true rfl) dX8_thing_2_33 ?_
      refine vn_if_ne (tgt := 41) dX8_thing_2_36 rfl (by decide) (fun c36 => ?_) (fun c36 => ?_)
      · exact absurd rfl c36
      · refine v_iconst (v := nI 0) dX8_thing_2_39 k_iconst_0 ?_
        exact v_iret rfl dX8_thing_2_40 ⟨_, rfl, fun _ => ⟨rfl, rfl⟩, fun aa bb h1 h2 e1 e2 => absurd ⟨⟨aa, h1, e1⟩, ⟨bb, h2, e2⟩⟩ hin⟩
    · refine v_iload_n (i := 1) dX8_thing_2_10 rfl rfl ?_
      refine v_aload_n (i := 0) dX8_thing_2_11 rfl rfl ?_
      refine mg_things rfl dX8_thing_2_12 ?_
      refine v_icmp_ge (tgt := 31) dX8_thing_2_15 rfl (fun c15 => ?_) (fun c15 => ?_)
      · refine v_iconst (v := nI 0) dX8_thing_2_31 k_iconst_0 ?_
        refine v_iconst (v := nI 1) dX8_thing_2_32 k_iconst_1 ?_
        refine v_callVi (cM_right0 hap σ) (lw_V q2197 q2199 qs56 q136 q2200) iX8_right rfl KX8 MH_m rfl rfl (by decide) (by decide) (Nat.le_of_ble_eq_true rfl) dX8_thing_2_33 ?_
        refine vn_if_ne (tgt := 41) dX8_thing_2_36 rfl (by decide) (fun c36 => ?_) (fun c36 => ?_)
        · exact absurd rfl c36
        · refine v_iconst (v := nI 0) dX8_thing_2_39 k_iconst_0 ?_
          exact v_iret rfl dX8_thing_2_40 ⟨_, rfl, fun _ => ⟨rfl, rfl⟩, fun aa bb h1 h2 e1 e2 => absurd ⟨⟨aa, h1, e1⟩, ⟨bb, h2, e2⟩⟩ hin⟩
      · refine v_iload_n (i := 2) dX8_thing_2_18 rfl rfl ?_
        refine v_if_lt (tgt := 31) dX8_thing_2_19 rfl (fun c19 => ?_) (fun c19 => ?_)
        · refine v_iconst (v := nI 0) dX8_thing_2_31 k_iconst_0 ?_
          refine v_iconst (v := nI 1) dX8_thing_2_32 k_iconst_1 ?_
          refine v_callVi (cM_right0 hap σ) (lw_V q2197 q2199 qs56 q136 q2200) iX8_right rfl KX8 MH_m rfl rfl (by decide) (by decide) (Nat.le_of_ble_eq_true rfl) dX8_thing_2_33 ?_
          refine vn_if_ne (tgt := 41) dX8_thing_2_36 rfl (by decide) (fun c36 => ?_) (fun c36 => ?_)
          · exact absurd rfl c36
          · refine v_iconst (v := nI 0) dX8_thing_2_39 k_iconst_0 ?_
            exact v_iret rfl dX8_thing_2_40 ⟨_, rfl, fun _ => ⟨rfl, rfl⟩, fun aa bb h1 h2 e1 e2 => absurd ⟨⟨aa, h1, e1⟩, ⟨bb, h2, e2⟩⟩ hin⟩
        · refine v_iload_n (i := 2) dX8_thing_2_22 rfl rfl ?_
          refine v_iconst (v := nI 2) dX8_thing_2_23 k_iconst_2 ?_
          refine v_icmp_gt (tgt := 31) dX8_thing_2_24 rfl (fun c24 => ?_) (fun c24 => ?_)
          · refine v_iconst (v := nI 0) dX8_thing_2_31 k_iconst_0 ?_
            refine v_iconst (v := nI 1) dX8_thing_2_32 k_iconst_1 ?_
            refine v_callVi (cM_right0 hap σ) (lw_V q2197 q2199 qs56 q136 q2200) iX8_right rfl KX8 MH_m rfl rfl (by decide) (by decide) (Nat.le_of_ble_eq_true rfl) dX8_thing_2_33 ?_
            refine vn_if_ne (tgt := 41) dX8_thing_2_36 rfl (by decide) (fun c36 => ?_) (fun c36 => ?_)
            · exact absurd rfl c36
            · refine v_iconst (v := nI 0) dX8_thing_2_39 k_iconst_0 ?_
              exact v_iret rfl dX8_thing_2_40 ⟨_, rfl, fun _ => ⟨rfl, rfl⟩, fun aa bb h1 h2 e1 e2 => absurd ⟨⟨aa, h1, e1⟩, ⟨bb, h2, e2⟩⟩ hin⟩
          · exact absurd ⟨inr_of c7 c15 (by omega), inr_of2 c19 c24 (by decide)⟩ hin
  obtain ⟨⟨aa, haa, rfl⟩, ⟨bb, hbb, rfl⟩⟩ := hin
  refine v_aload_n (i := 0) dX8_thing_2_0 rfl rfl ?_
  refine v_iconst (v := nI 0) dX8_thing_2_1 k_iconst_0 ?_
  refine mp_thrown rfl dX8_thing_2_2 ?_
  refine v_aload_n (i := 0) dX8_thing_2_5 rfl rfl ?_
  refine v_iload_n (i := 1) dX8_thing_2_6 rfl rfl ?_
  refine vn_if_lt (tgt := 31) dX8_thing_2_7 rfl (by omega) ?_
  refine v_iload_n (i := 1) dX8_thing_2_10 rfl rfl ?_
  refine v_aload_n (i := 0) dX8_thing_2_11 rfl rfl ?_
  refine mg_things rfl dX8_thing_2_12 ?_
  refine vn_icmp_ge (tgt := 31) dX8_thing_2_15 rfl (by omega) (show gN σ 2 < _ by omega) (fun c15 => ?_) (fun c15 => ?_)
  · have : gN σ 2 ≤ aa := c15
    omega
  · refine v_iload_n (i := 2) dX8_thing_2_18 rfl rfl ?_
    refine vn_if_lt (tgt := 31) dX8_thing_2_19 rfl (by omega) ?_
    refine v_iload_n (i := 2) dX8_thing_2_22 rfl rfl ?_
    refine v_iconst (v := nI 2) dX8_thing_2_23 k_iconst_2 ?_
    refine vn_icmp_gt (tgt := 31) dX8_thing_2_24 rfl (by omega) (by omega) (fun c24 => ?_) (fun c24 => ?_)
    · omega
    · refine v_iconst (v := nI 1) dX8_thing_2_27 k_iconst_1 ?_
      refine v_goto (tgt := 32) dX8_thing_2_28 rfl ?_
      refine v_iconst (v := nI 1) dX8_thing_2_32 k_iconst_1 ?_
      refine v_callVi (cM_right1 hap σ) (lw_V q2197 q2199 qs56 q136 q2200) iX8_right rfl KX8 MH_m rfl rfl (by decide) (by decide) (Nat.le_of_ble_eq_true rfl) dX8_thing_2_33 ?_
      refine vn_if_ne (tgt := 41) dX8_thing_2_36 rfl (by decide) (fun c36 => ?_) (fun c36 => ?_)
      · refine v_iload_n (i := 2) dX8_thing_2_41 rfl rfl ?_
        refine vn_if_ne (tgt := 54) dX8_thing_2_42 rfl (by omega) (fun c42 => ?_) (fun c42 => ?_)
        · refine v_iload_n (i := 2) dX8_thing_2_54 rfl rfl ?_
          refine v_iconst (v := nI 1) dX8_thing_2_55 k_iconst_1 ?_
          refine vn_icmp_ne (tgt := 68) dX8_thing_2_56 rfl (by omega) (by omega) (fun c56 => ?_) (fun c56 => ?_)
          · refine v_aload_n (i := 0) dX8_thing_2_68 rfl rfl ?_
            refine mg_letter rfl dX8_thing_2_69 ?_
            refine v_iload_n (i := 1) dX8_thing_2_72 rfl rfl ?_
            refine ml_letter hap (by omega) dX8_thing_2_73 ?_
            exact v_iret rfl dX8_thing_2_74 ⟨_, rfl, fun q => absurd ⟨⟨aa, haa, rfl⟩, ⟨bb, hbb, rfl⟩⟩ q, fun a2 b2 h1 h2 e1 e2 => by
                  have e3 : aa = a2 := (nI_eq (by omega) (by omega)).mp e1
                  have e4 : bb = b2 := (nI_eq (by omega) (by omega)).mp e2
                  subst e3 e4
                  exact ⟨by simp_all <;> rfl, rfl⟩⟩
          · refine v_aload_n (i := 0) dX8_thing_2_59 rfl rfl ?_
            refine mg_minutes rfl dX8_thing_2_60 ?_
            refine v_iload_n (i := 1) dX8_thing_2_63 rfl rfl ?_
            refine ml_minutes hap (by omega) dX8_thing_2_64 ?_
            refine v_goto (tgt := 74) dX8_thing_2_65 rfl ?_
            exact v_iret rfl dX8_thing_2_74 ⟨_, rfl, fun q => absurd ⟨⟨aa, haa, rfl⟩, ⟨bb, hbb, rfl⟩⟩ q, fun a2 b2 h1 h2 e1 e2 => by
                  have e3 : aa = a2 := (nI_eq (by omega) (by omega)).mp e1
                  have e4 : bb = b2 := (nI_eq (by omega) (by omega)).mp e2
                  subst e3 e4
                  exact ⟨by simp_all <;> rfl, rfl⟩⟩
        · refine v_aload_n (i := 0) dX8_thing_2_45 rfl rfl ?_
          refine mg_weight rfl dX8_thing_2_46 ?_
          refine v_iload_n (i := 1) dX8_thing_2_49 rfl rfl ?_
          refine ml_weight hap (by omega) dX8_thing_2_50 ?_
          refine v_goto (tgt := 74) dX8_thing_2_51 rfl ?_
          exact v_iret rfl dX8_thing_2_74 ⟨_, rfl, fun q => absurd ⟨⟨aa, haa, rfl⟩, ⟨bb, hbb, rfl⟩⟩ q, fun a2 b2 h1 h2 e1 e2 => by
                have e3 : aa = a2 := (nI_eq (by omega) (by omega)).mp e1
                have e4 : bb = b2 := (nI_eq (by omega) (by omega)).mp e2
                subst e3 e4
                exact ⟨by simp_all <;> rfl, rfl⟩⟩
      · exact absurd c36 (by decide)
theorem cM_boat_2 {G : Gl} {m : Nat} {ad : Nat → Nat} {η0 : AH} (hap : Mp m ad) (σ : MS) (a b : Int32) (hT : gN σ 3 ≤ 2) : Ct G yX8_boat_2 cX8_boat_2 3 (some .int) 2 0 0 [.ref m, .int a, .int b] (MH m ad σ η0) (ri fun r η => (¬ (inr a (gN σ 3) ∧ inr b 3) → r = nI 0 ∧ η = MH m ad (sN σ 0 1) η0) ∧ ∀ aa bb, aa < gN σ 3 → bb < 3 → a = nI aa → b = nI bb → r = nI (if bb = 0 then gA σ 9 aa else if bb = 1 then gA σ 10 aa else gA σ 11 aa) ∧ η = MH m ad (sN σ 0 0) η0) := by
  refine Ct.start rfl rfl (Nat.le_of_ble_eq_true rfl) (fun Γ => ?_)
  by_cases hin : inr a (gN σ 3) ∧ inr b 3
  case neg =>
    refine v_aload_n (i := 0) dX8_boat_2_0 rfl rfl ?_
    refine v_iconst (v := nI 0) dX8_boat_2_1 k_iconst_0 ?_
    refine mp_thrown rfl dX8_boat_2_2 ?_
    refine v_aload_n (i := 0) dX8_boat_2_5 rfl rfl ?_
    refine v_iload_n (i := 1) dX8_boat_2_6 rfl rfl ?_
    refine v_if_lt (tgt := 31) dX8_boat_2_7 rfl (fun c7 => ?_) (fun c7 => ?_)
    · refine v_iconst (v := nI 0) dX8_boat_2_31 k_iconst_0 ?_
      refine v_iconst (v := nI 1) dX8_boat_2_32 k_iconst_1 ?_
      refine v_callVi (cM_right0 hap σ) (lw_V q2197 q2199 qs56 q136 q2200) iX8_right rfl KX8 MH_m rfl rfl (by decide) (by decide) (Nat.le_of_ble_eq_true rfl) dX8_boat_2_33 ?_
      refine vn_if_ne (tgt := 41) dX8_boat_2_36 rfl (by decide) (fun c36 => ?_) (fun c36 => ?_)
      · exact absurd rfl c36
      · refine v_iconst (v := nI 0) dX8_boat_2_39 k_iconst_0 ?_
        exact v_iret rfl dX8_boat_2_40 ⟨_, rfl, fun _ => ⟨rfl, rfl⟩, fun aa bb h1 h2 e1 e2 => absurd ⟨⟨aa, h1, e1⟩, ⟨bb, h2, e2⟩⟩ hin⟩
    · refine v_iload_n (i := 1) dX8_boat_2_10 rfl rfl ?_
      refine v_aload_n (i := 0) dX8_boat_2_11 rfl rfl ?_
      refine mg_boats rfl dX8_boat_2_12 ?_
      refine v_icmp_ge (tgt := 31) dX8_boat_2_15 rfl (fun c15 => ?_) (fun c15 => ?_)
      · refine v_iconst (v := nI 0) dX8_boat_2_31 k_iconst_0 ?_
        refine v_iconst (v := nI 1) dX8_boat_2_32 k_iconst_1 ?_
        refine v_callVi (cM_right0 hap σ) (lw_V q2197 q2199 qs56 q136 q2200) iX8_right rfl KX8 MH_m rfl rfl (by decide) (by decide) (Nat.le_of_ble_eq_true rfl) dX8_boat_2_33 ?_
        refine vn_if_ne (tgt := 41) dX8_boat_2_36 rfl (by decide) (fun c36 => ?_) (fun c36 => ?_)
        · exact absurd rfl c36
        · refine v_iconst (v := nI 0) dX8_boat_2_39 k_iconst_0 ?_
          exact v_iret rfl dX8_boat_2_40 ⟨_, rfl, fun _ => ⟨rfl, rfl⟩, fun aa bb h1 h2 e1 e2 => absurd ⟨⟨aa, h1, e1⟩, ⟨bb, h2, e2⟩⟩ hin⟩
      · refine v_iload_n (i := 2) dX8_boat_2_18 rfl rfl ?_
        refine v_if_lt (tgt := 31) dX8_boat_2_19 rfl (fun c19 => ?_) (fun c19 => ?_)
        · refine v_iconst (v := nI 0) dX8_boat_2_31 k_iconst_0 ?_
          refine v_iconst (v := nI 1) dX8_boat_2_32 k_iconst_1 ?_
          refine v_callVi (cM_right0 hap σ) (lw_V q2197 q2199 qs56 q136 q2200) iX8_right rfl KX8 MH_m rfl rfl (by decide) (by decide) (Nat.le_of_ble_eq_true rfl) dX8_boat_2_33 ?_
          refine vn_if_ne (tgt := 41) dX8_boat_2_36 rfl (by decide) (fun c36 => ?_) (fun c36 => ?_)
          · exact absurd rfl c36
          · refine v_iconst (v := nI 0) dX8_boat_2_39 k_iconst_0 ?_
            exact v_iret rfl dX8_boat_2_40 ⟨_, rfl, fun _ => ⟨rfl, rfl⟩, fun aa bb h1 h2 e1 e2 => absurd ⟨⟨aa, h1, e1⟩, ⟨bb, h2, e2⟩⟩ hin⟩
        · refine v_iload_n (i := 2) dX8_boat_2_22 rfl rfl ?_
          refine v_iconst (v := nI 2) dX8_boat_2_23 k_iconst_2 ?_
          refine v_icmp_gt (tgt := 31) dX8_boat_2_24 rfl (fun c24 => ?_) (fun c24 => ?_)
          · refine v_iconst (v := nI 0) dX8_boat_2_31 k_iconst_0 ?_
            refine v_iconst (v := nI 1) dX8_boat_2_32 k_iconst_1 ?_
            refine v_callVi (cM_right0 hap σ) (lw_V q2197 q2199 qs56 q136 q2200) iX8_right rfl KX8 MH_m rfl rfl (by decide) (by decide) (Nat.le_of_ble_eq_true rfl) dX8_boat_2_33 ?_
            refine vn_if_ne (tgt := 41) dX8_boat_2_36 rfl (by decide) (fun c36 => ?_) (fun c36 => ?_)
            · exact absurd rfl c36
            · refine v_iconst (v := nI 0) dX8_boat_2_39 k_iconst_0 ?_
              exact v_iret rfl dX8_boat_2_40 ⟨_, rfl, fun _ => ⟨rfl, rfl⟩, fun aa bb h1 h2 e1 e2 => absurd ⟨⟨aa, h1, e1⟩, ⟨bb, h2, e2⟩⟩ hin⟩
          · exact absurd ⟨inr_of c7 c15 (by omega), inr_of2 c19 c24 (by decide)⟩ hin
  obtain ⟨⟨aa, haa, rfl⟩, ⟨bb, hbb, rfl⟩⟩ := hin
  refine v_aload_n (i := 0) dX8_boat_2_0 rfl rfl ?_
  refine v_iconst (v := nI 0) dX8_boat_2_1 k_iconst_0 ?_
  refine mp_thrown rfl dX8_boat_2_2 ?_
  refine v_aload_n (i := 0) dX8_boat_2_5 rfl rfl ?_
  refine v_iload_n (i := 1) dX8_boat_2_6 rfl rfl ?_
  refine vn_if_lt (tgt := 31) dX8_boat_2_7 rfl (by omega) ?_
  refine v_iload_n (i := 1) dX8_boat_2_10 rfl rfl ?_
  refine v_aload_n (i := 0) dX8_boat_2_11 rfl rfl ?_
  refine mg_boats rfl dX8_boat_2_12 ?_
  refine vn_icmp_ge (tgt := 31) dX8_boat_2_15 rfl (by omega) (show gN σ 3 < _ by omega) (fun c15 => ?_) (fun c15 => ?_)
  · have : gN σ 3 ≤ aa := c15
    omega
  · refine v_iload_n (i := 2) dX8_boat_2_18 rfl rfl ?_
    refine vn_if_lt (tgt := 31) dX8_boat_2_19 rfl (by omega) ?_
    refine v_iload_n (i := 2) dX8_boat_2_22 rfl rfl ?_
    refine v_iconst (v := nI 2) dX8_boat_2_23 k_iconst_2 ?_
    refine vn_icmp_gt (tgt := 31) dX8_boat_2_24 rfl (by omega) (by omega) (fun c24 => ?_) (fun c24 => ?_)
    · omega
    · refine v_iconst (v := nI 1) dX8_boat_2_27 k_iconst_1 ?_
      refine v_goto (tgt := 32) dX8_boat_2_28 rfl ?_
      refine v_iconst (v := nI 1) dX8_boat_2_32 k_iconst_1 ?_
      refine v_callVi (cM_right1 hap σ) (lw_V q2197 q2199 qs56 q136 q2200) iX8_right rfl KX8 MH_m rfl rfl (by decide) (by decide) (Nat.le_of_ble_eq_true rfl) dX8_boat_2_33 ?_
      refine vn_if_ne (tgt := 41) dX8_boat_2_36 rfl (by decide) (fun c36 => ?_) (fun c36 => ?_)
      · refine v_iload_n (i := 2) dX8_boat_2_41 rfl rfl ?_
        refine vn_if_ne (tgt := 54) dX8_boat_2_42 rfl (by omega) (fun c42 => ?_) (fun c42 => ?_)
        · refine v_iload_n (i := 2) dX8_boat_2_54 rfl rfl ?_
          refine v_iconst (v := nI 1) dX8_boat_2_55 k_iconst_1 ?_
          refine vn_icmp_ne (tgt := 68) dX8_boat_2_56 rfl (by omega) (by omega) (fun c56 => ?_) (fun c56 => ?_)
          · refine v_aload_n (i := 0) dX8_boat_2_68 rfl rfl ?_
            refine mg_boatAt rfl dX8_boat_2_69 ?_
            refine v_iload_n (i := 1) dX8_boat_2_72 rfl rfl ?_
            refine ml_boatAt hap (by omega) dX8_boat_2_73 ?_
            exact v_iret rfl dX8_boat_2_74 ⟨_, rfl, fun q => absurd ⟨⟨aa, haa, rfl⟩, ⟨bb, hbb, rfl⟩⟩ q, fun a2 b2 h1 h2 e1 e2 => by
                  have e3 : aa = a2 := (nI_eq (by omega) (by omega)).mp e1
                  have e4 : bb = b2 := (nI_eq (by omega) (by omega)).mp e2
                  subst e3 e4
                  exact ⟨by simp_all <;> rfl, rfl⟩⟩
          · refine v_aload_n (i := 0) dX8_boat_2_59 rfl rfl ?_
            refine mg_loads rfl dX8_boat_2_60 ?_
            refine v_iload_n (i := 1) dX8_boat_2_63 rfl rfl ?_
            refine ml_loads hap (by omega) dX8_boat_2_64 ?_
            refine v_goto (tgt := 74) dX8_boat_2_65 rfl ?_
            exact v_iret rfl dX8_boat_2_74 ⟨_, rfl, fun q => absurd ⟨⟨aa, haa, rfl⟩, ⟨bb, hbb, rfl⟩⟩ q, fun a2 b2 h1 h2 e1 e2 => by
                  have e3 : aa = a2 := (nI_eq (by omega) (by omega)).mp e1
                  have e4 : bb = b2 := (nI_eq (by omega) (by omega)).mp e2
                  subst e3 e4
                  exact ⟨by simp_all <;> rfl, rfl⟩⟩
        · refine v_aload_n (i := 0) dX8_boat_2_45 rfl rfl ?_
          refine mg_holds rfl dX8_boat_2_46 ?_
          refine v_iload_n (i := 1) dX8_boat_2_49 rfl rfl ?_
          refine ml_holds hap (by omega) dX8_boat_2_50 ?_
          refine v_goto (tgt := 74) dX8_boat_2_51 rfl ?_
          exact v_iret rfl dX8_boat_2_74 ⟨_, rfl, fun q => absurd ⟨⟨aa, haa, rfl⟩, ⟨bb, hbb, rfl⟩⟩ q, fun a2 b2 h1 h2 e1 e2 => by
                have e3 : aa = a2 := (nI_eq (by omega) (by omega)).mp e1
                have e4 : bb = b2 := (nI_eq (by omega) (by omega)).mp e2
                subst e3 e4
                exact ⟨by simp_all <;> rfl, rfl⟩⟩
      · exact absurd c36 (by decide)
theorem cM_water_2 {G : Gl} {m : Nat} {ad : Nat → Nat} {η0 : AH} (hap : Mp m ad) (σ : MS) (a b : Int32) (hS4 : gN σ 1 ≤ 4) (hw13 : gN σ 13 < 2) (hz12 : ∀ k, k < 16 → gA σ 12 k < 2) : Ct G yX8_water_2 cX8_water_2 3 (some .boolean) 2 0 0 [.ref m, .int a, .int b] (MH m ad σ η0) (ri fun r η => (¬ (inr a (gN σ 1) ∧ inr b (gN σ 1)) → r = nI 0 ∧ η = MH m ad (sN σ 0 1) η0) ∧ ∀ aa bb, aa < gN σ 1 → bb < gN σ 1 → a = nI aa → b = nI bb → r = nI (if gN σ 13 = 0 then (if aa = bb then 0 else 1) else gA σ 12 (4 * aa + bb)) ∧ η = MH m ad (sN σ 0 0) η0) := by
  refine Ct.start rfl rfl (Nat.le_of_ble_eq_true rfl) (fun Γ => ?_)
  by_cases hin : inr a (gN σ 1) ∧ inr b (gN σ 1)
  case neg =>
    refine v_aload_n (i := 0) dX8_water_2_0 rfl rfl ?_
    refine v_iconst (v := nI 0) dX8_water_2_1 k_iconst_0 ?_
    refine mp_thrown rfl dX8_water_2_2 ?_
    refine v_aload_n (i := 0) dX8_water_2_5 rfl rfl ?_
    refine v_iload_n (i := 1) dX8_water_2_6 rfl rfl ?_
    refine v_if_lt (tgt := 34) dX8_water_2_7 rfl (fun c7 => ?_) (fun c7 => ?_)
    · refine v_iconst (v := nI 0) dX8_water_2_34 k_iconst_0 ?_
      refine v_iconst (v := nI 1) dX8_water_2_35 k_iconst_1 ?_
      refine v_callVi (cM_right0 hap σ) (lw_V q2197 q2199 qs56 q136 q2200) iX8_right rfl KX8 MH_m rfl rfl (by decide) (by decide) (Nat.le_of_ble_eq_true rfl) dX8_water_2_36 ?_
      refine vn_if_ne (tgt := 44) dX8_water_2_39 rfl (by decide) (fun c39 => ?_) (fun c39 => ?_)
      · exact absurd rfl c39
      · refine v_iconst (v := nI 0) dX8_water_2_42 k_iconst_0 ?_
        exact v_zret rfl rfl dX8_water_2_43 ⟨_, rfl, fun _ => ⟨rfl, rfl⟩, fun aa bb h1 h2 e1 e2 => absurd ⟨⟨aa, h1, e1⟩, ⟨bb, h2, e2⟩⟩ hin⟩
    · refine v_iload_n (i := 1) dX8_water_2_10 rfl rfl ?_
      refine v_aload_n (i := 0) dX8_water_2_11 rfl rfl ?_
      refine mg_shores rfl dX8_water_2_12 ?_
      refine v_icmp_ge (tgt := 34) dX8_water_2_15 rfl (fun c15 => ?_) (fun c15 => ?_)
      · refine v_iconst (v := nI 0) dX8_water_2_34 k_iconst_0 ?_
        refine v_iconst (v := nI 1) dX8_water_2_35 k_iconst_1 ?_
        refine v_callVi (cM_right0 hap σ) (lw_V q2197 q2199 qs56 q136 q2200) iX8_right rfl KX8 MH_m rfl rfl (by decide) (by decide) (Nat.le_of_ble_eq_true rfl) dX8_water_2_36 ?_
        refine vn_if_ne (tgt := 44) dX8_water_2_39 rfl (by decide) (fun c39 => ?_) (fun c39 => ?_)
        · exact absurd rfl c39
        · refine v_iconst (v := nI 0) dX8_water_2_42 k_iconst_0 ?_
          exact v_zret rfl rfl dX8_water_2_43 ⟨_, rfl, fun _ => ⟨rfl, rfl⟩, fun aa bb h1 h2 e1 e2 => absurd ⟨⟨aa, h1, e1⟩, ⟨bb, h2, e2⟩⟩ hin⟩
      · refine v_iload_n (i := 2) dX8_water_2_18 rfl rfl ?_
        refine v_if_lt (tgt := 34) dX8_water_2_19 rfl (fun c19 => ?_) (fun c19 => ?_)
        · refine v_iconst (v := nI 0) dX8_water_2_34 k_iconst_0 ?_
          refine v_iconst (v := nI 1) dX8_water_2_35 k_iconst_1 ?_
          refine v_callVi (cM_right0 hap σ) (lw_V q2197 q2199 qs56 q136 q2200) iX8_right rfl KX8 MH_m rfl rfl (by decide) (by decide) (Nat.le_of_ble_eq_true rfl) dX8_water_2_36 ?_
          refine vn_if_ne (tgt := 44) dX8_water_2_39 rfl (by decide) (fun c39 => ?_) (fun c39 => ?_)
          · exact absurd rfl c39
          · refine v_iconst (v := nI 0) dX8_water_2_42 k_iconst_0 ?_
            exact v_zret rfl rfl dX8_water_2_43 ⟨_, rfl, fun _ => ⟨rfl, rfl⟩, fun aa bb h1 h2 e1 e2 => absurd ⟨⟨aa, h1, e1⟩, ⟨bb, h2, e2⟩⟩ hin⟩
        · refine v_iload_n (i := 2) dX8_water_2_22 rfl rfl ?_
          refine v_aload_n (i := 0) dX8_water_2_23 rfl rfl ?_
          refine mg_shores rfl dX8_water_2_24 ?_
          refine v_icmp_ge (tgt := 34) dX8_water_2_27 rfl (fun c27 => ?_) (fun c27 => ?_)
          · refine v_iconst (v := nI 0) dX8_water_2_34 k_iconst_0 ?_
            refine v_iconst (v := nI 1) dX8_water_2_35 k_iconst_1 ?_
            refine v_callVi (cM_right0 hap σ) (lw_V q2197 q2199 qs56 q136 q2200) iX8_right rfl KX8 MH_m rfl rfl (by decide) (by decide) (Nat.le_of_ble_eq_true rfl) dX8_water_2_36 ?_
            refine vn_if_ne (tgt := 44) dX8_water_2_39 rfl (by decide) (fun c39 => ?_) (fun c39 => ?_)
            · exact absurd rfl c39
            · refine v_iconst (v := nI 0) dX8_water_2_42 k_iconst_0 ?_
              exact v_zret rfl rfl dX8_water_2_43 ⟨_, rfl, fun _ => ⟨rfl, rfl⟩, fun aa bb h1 h2 e1 e2 => absurd ⟨⟨aa, h1, e1⟩, ⟨bb, h2, e2⟩⟩ hin⟩
          · exact absurd ⟨inr_of c7 c15 (by omega), inr_of c19 c27 (by omega)⟩ hin
  obtain ⟨⟨aa, haa, rfl⟩, ⟨bb, hbb, rfl⟩⟩ := hin
  refine v_aload_n (i := 0) dX8_water_2_0 rfl rfl ?_
  refine v_iconst (v := nI 0) dX8_water_2_1 k_iconst_0 ?_
  refine mp_thrown rfl dX8_water_2_2 ?_
  refine v_aload_n (i := 0) dX8_water_2_5 rfl rfl ?_
  refine v_iload_n (i := 1) dX8_water_2_6 rfl rfl ?_
  refine vn_if_lt (tgt := 34) dX8_water_2_7 rfl (by omega) ?_
  refine v_iload_n (i := 1) dX8_water_2_10 rfl rfl ?_
  refine v_aload_n (i := 0) dX8_water_2_11 rfl rfl ?_
  refine mg_shores rfl dX8_water_2_12 ?_
  refine vn_icmp_ge (tgt := 34) dX8_water_2_15 rfl (by omega) (show gN σ 1 < _ by omega) (fun c15 => ?_) (fun c15 => ?_)
  · have : gN σ 1 ≤ aa := c15
    omega
  · refine v_iload_n (i := 2) dX8_water_2_18 rfl rfl ?_
    refine vn_if_lt (tgt := 34) dX8_water_2_19 rfl (by omega) ?_
    refine v_iload_n (i := 2) dX8_water_2_22 rfl rfl ?_
    refine v_aload_n (i := 0) dX8_water_2_23 rfl rfl ?_
    refine mg_shores rfl dX8_water_2_24 ?_
    refine vn_icmp_ge (tgt := 34) dX8_water_2_27 rfl (by omega) (show gN σ 1 < _ by omega) (fun c27 => ?_) (fun c27 => ?_)
    · have : gN σ 1 ≤ bb := c27
      omega
    · refine v_iconst (v := nI 1) dX8_water_2_30 k_iconst_1 ?_
      refine v_goto (tgt := 35) dX8_water_2_31 rfl ?_
      refine v_iconst (v := nI 1) dX8_water_2_35 k_iconst_1 ?_
      refine v_callVi (cM_right1 hap σ) (lw_V q2197 q2199 qs56 q136 q2200) iX8_right rfl KX8 MH_m rfl rfl (by decide) (by decide) (Nat.le_of_ble_eq_true rfl) dX8_water_2_36 ?_
      refine vn_if_ne (tgt := 44) dX8_water_2_39 rfl (by decide) (fun c39 => ?_) (fun c39 => ?_)
      · refine v_aload_n (i := 0) dX8_water_2_44 rfl rfl ?_
        refine v_iload_n (i := 1) dX8_water_2_45 rfl rfl ?_
        refine v_iload_n (i := 2) dX8_water_2_46 rfl rfl ?_
        refine v_callVi (cM_isWater hap (sN σ 0 0) aa bb (by omega) (by omega) hw13 (hz12 _ (by omega))) (lw_V q2382 q2384 qs89 q136 q2385) iX8_isWater rfl KX8 MH_m rfl rfl (by decide) (by decide) (Nat.le_of_ble_eq_true rfl) dX8_water_2_47 ?_
        exact v_zret rfl (zb (by have := hz12 (4 * aa + bb) (by omega); show (if gN σ 13 = 0 then (if aa = bb then 0 else 1) else gA σ 12 (4 * aa + bb)) < 2; split; split <;> omega; omega)).1 dX8_water_2_50 ⟨_, rfl, fun q => absurd ⟨⟨aa, haa, rfl⟩, ⟨bb, hbb, rfl⟩⟩ q, fun a2 b2 h1 h2 e1 e2 => by
              have e3 : aa = a2 := (nI_eq (by omega) (by omega)).mp e1
              have e4 : bb = b2 := (nI_eq (by omega) (by omega)).mp e2
              subst e3 e4
              exact ⟨rfl, rfl⟩⟩
      · exact absurd c39 (by decide)
theorem cM_count {G : Gl} {m : Nat} {ad : Nat → Nat} {η0 : AH} (hap : Mp m ad) (σ : MS) (a : Int32) (hl5 : gN σ 5 ≤ 4) : Ct G yX8_count cX8_count 2 (some .int) 2 0 0 [.ref m, .int a] (MH m ad σ η0) (ri fun r η => (¬ inr a 7 → r = nI 0 ∧ η = MH m ad (sN σ 0 1) η0) ∧ ∀ aa, aa < 7 → a = nI aa → r = nI (if aa = 0 then gN σ 1 else if aa = 1 then gN σ 2 else if aa = 2 then gN σ 3 else if aa = 3 then gN σ 4 else if aa = 4 then (if gN σ 5 = 0 then 0 else 1) else if aa = 5 then gN σ 84 else gN σ 18) ∧ η = MH m ad (sN σ 0 0) η0) := by
  refine Ct.start rfl rfl (Nat.le_of_ble_eq_true rfl) (fun Γ => ?_)
  by_cases hin : inr a 7
  case neg =>
    refine v_aload_n (i := 0) dX8_count_0 rfl rfl ?_
    refine v_iconst (v := nI 0) dX8_count_1 k_iconst_0 ?_
    refine mp_thrown rfl dX8_count_2 ?_
    refine v_aload_n (i := 0) dX8_count_5 rfl rfl ?_
    refine v_iload_n (i := 1) dX8_count_6 rfl rfl ?_
    refine v_if_lt (tgt := 20) dX8_count_7 rfl (fun c7 => ?_) (fun c7 => ?_)
    · refine v_iconst (v := nI 0) dX8_count_20 k_iconst_0 ?_
      refine v_iconst (v := nI 1) dX8_count_21 k_iconst_1 ?_
      refine v_callVi (cM_right0 hap σ) (lw_V q2197 q2199 qs56 q136 q2200) iX8_right rfl KX8 MH_m rfl rfl (by decide) (by decide) (Nat.le_of_ble_eq_true rfl) dX8_count_22 ?_
      refine vn_if_ne (tgt := 30) dX8_count_25 rfl (by decide) (fun c25 => ?_) (fun c25 => ?_)
      · exact absurd rfl c25
      · refine v_iconst (v := nI 0) dX8_count_28 k_iconst_0 ?_
        exact v_iret rfl dX8_count_29 ⟨_, rfl, fun _ => ⟨rfl, rfl⟩, fun aa h1 e1 => absurd ⟨aa, h1, e1⟩ hin⟩
    · refine v_iload_n (i := 1) dX8_count_10 rfl rfl ?_
      refine v_bipush (v := nI 6) dX8_count_11 k_bipush_6 ?_
      refine v_icmp_gt (tgt := 20) dX8_count_13 rfl (fun c13 => ?_) (fun c13 => ?_)
      · refine v_iconst (v := nI 0) dX8_count_20 k_iconst_0 ?_
        refine v_iconst (v := nI 1) dX8_count_21 k_iconst_1 ?_
        refine v_callVi (cM_right0 hap σ) (lw_V q2197 q2199 qs56 q136 q2200) iX8_right rfl KX8 MH_m rfl rfl (by decide) (by decide) (Nat.le_of_ble_eq_true rfl) dX8_count_22 ?_
        refine vn_if_ne (tgt := 30) dX8_count_25 rfl (by decide) (fun c25 => ?_) (fun c25 => ?_)
        · exact absurd rfl c25
        · refine v_iconst (v := nI 0) dX8_count_28 k_iconst_0 ?_
          exact v_iret rfl dX8_count_29 ⟨_, rfl, fun _ => ⟨rfl, rfl⟩, fun aa h1 e1 => absurd ⟨aa, h1, e1⟩ hin⟩
      · exact absurd (inr_of2 c7 c13 (by decide)) hin
  obtain ⟨aa, haa, rfl⟩ := hin
  refine v_aload_n (i := 0) dX8_count_0 rfl rfl ?_
  refine v_iconst (v := nI 0) dX8_count_1 k_iconst_0 ?_
  refine mp_thrown rfl dX8_count_2 ?_
  refine v_aload_n (i := 0) dX8_count_5 rfl rfl ?_
  refine v_iload_n (i := 1) dX8_count_6 rfl rfl ?_
  refine vn_if_lt (tgt := 20) dX8_count_7 rfl (by omega) ?_
  refine v_iload_n (i := 1) dX8_count_10 rfl rfl ?_
  refine v_bipush (v := nI 6) dX8_count_11 k_bipush_6 ?_
  refine vn_icmp_gt (tgt := 20) dX8_count_13 rfl (by omega) (by omega) (fun c13 => ?_) (fun c13 => ?_)
  · omega
  · refine v_iconst (v := nI 1) dX8_count_16 k_iconst_1 ?_
    refine v_goto (tgt := 21) dX8_count_17 rfl ?_
    refine v_iconst (v := nI 1) dX8_count_21 k_iconst_1 ?_
    refine v_callVi (cM_right1 hap σ) (lw_V q2197 q2199 qs56 q136 q2200) iX8_right rfl KX8 MH_m rfl rfl (by decide) (by decide) (Nat.le_of_ble_eq_true rfl) dX8_count_22 ?_
    refine vn_if_ne (tgt := 30) dX8_count_25 rfl (by decide) (fun c25 => ?_) (fun c25 => ?_)
    · refine v_iload_n (i := 1) dX8_count_30 rfl rfl ?_
      rcases (show aa = 0 ∨ aa = 1 ∨ aa = 2 ∨ aa = 3 ∨ aa = 4 ∨ aa = 5 ∨ aa = 6 by omega) with rfl | rfl | rfl | rfl | rfl | rfl | rfl
      · refine v_tableIn (off := 37) (tgt := 68) dX8_count_31 (by decide) (by decide) (by decide) rfl ?_
        refine v_aload_n (i := 0) dX8_count_68 rfl rfl ?_
        refine mg_shores rfl dX8_count_69 ?_
        exact v_iret rfl dX8_count_72 ⟨_, rfl, fun q => absurd ⟨_, haa, rfl⟩ q, fun a2 h1 e1 => by
              have e3 := (nI_eq (by omega) (by omega)).mp e1
              subst e3
              exact ⟨by first | rfl | (simp_all; done) | (simp_all; rfl), rfl⟩⟩
      · refine v_tableIn (off := 42) (tgt := 73) dX8_count_31 (by decide) (by decide) (by decide) rfl ?_
        refine v_aload_n (i := 0) dX8_count_73 rfl rfl ?_
        refine mg_things rfl dX8_count_74 ?_
        exact v_iret rfl dX8_count_77 ⟨_, rfl, fun q => absurd ⟨_, haa, rfl⟩ q, fun a2 h1 e1 => by
              have e3 := (nI_eq (by omega) (by omega)).mp e1
              subst e3
              exact ⟨by first | rfl | (simp_all; done) | (simp_all; rfl), rfl⟩⟩
      · refine v_tableIn (off := 47) (tgt := 78) dX8_count_31 (by decide) (by decide) (by decide) rfl ?_
        refine v_aload_n (i := 0) dX8_count_78 rfl rfl ?_
        refine mg_boats rfl dX8_count_79 ?_
        exact v_iret rfl dX8_count_82 ⟨_, rfl, fun q => absurd ⟨_, haa, rfl⟩ q, fun a2 h1 e1 => by
              have e3 := (nI_eq (by omega) (by omega)).mp e1
              subst e3
              exact ⟨by first | rfl | (simp_all; done) | (simp_all; rfl), rfl⟩⟩
      · refine v_tableIn (off := 52) (tgt := 83) dX8_count_31 (by decide) (by decide) (by decide) rfl ?_
        refine v_aload_n (i := 0) dX8_count_83 rfl rfl ?_
        refine mg_laws rfl dX8_count_84 ?_
        exact v_iret rfl dX8_count_87 ⟨_, rfl, fun q => absurd ⟨_, haa, rfl⟩ q, fun a2 h1 e1 => by
              have e3 := (nI_eq (by omega) (by omega)).mp e1
              subst e3
              exact ⟨by first | rfl | (simp_all; done) | (simp_all; rfl), rfl⟩⟩
      · refine v_tableIn (off := 57) (tgt := 88) dX8_count_31 (by decide) (by decide) (by decide) rfl ?_
        refine v_aload_n (i := 0) dX8_count_88 rfl rfl ?_
        refine mg_lampAt rfl dX8_count_89 ?_
        refine v_iconst (v := -1) dX8_count_92 k_iconst_m1 ?_
        refine vo_icmp_ne (tgt := 100) dX8_count_93 rfl (show gN σ 5 < _ by omega) (fun c93 => ?_) (fun c93 => ?_)
        · refine v_iconst (v := nI 1) dX8_count_100 k_iconst_1 ?_
          exact v_iret rfl dX8_count_101 ⟨_, rfl, fun q => absurd ⟨_, haa, rfl⟩ q, fun a2 h1 e1 => by
                have e3 := (nI_eq (by omega) (by omega)).mp e1
                subst e3
                exact ⟨congrArg nI (if_neg (c := gN σ 5 = 0) c93).symm, rfl⟩⟩
        · refine v_iconst (v := nI 0) dX8_count_96 k_iconst_0 ?_
          refine v_goto (tgt := 101) dX8_count_97 rfl ?_
          exact v_iret rfl dX8_count_101 ⟨_, rfl, fun q => absurd ⟨_, haa, rfl⟩ q, fun a2 h1 e1 => by
                have e3 := (nI_eq (by omega) (by omega)).mp e1
                subst e3
                exact ⟨congrArg nI (if_pos (c := gN σ 5 = 0) c93).symm, rfl⟩⟩
      · refine v_tableIn (off := 71) (tgt := 102) dX8_count_31 (by decide) (by decide) (by decide) rfl ?_
        refine v_aload_n (i := 0) dX8_count_102 rfl rfl ?_
        refine mg_made rfl dX8_count_103 ?_
        exact v_iret rfl dX8_count_106 ⟨_, rfl, fun q => absurd ⟨_, haa, rfl⟩ q, fun a2 h1 e1 => by
              have e3 := (nI_eq (by omega) (by omega)).mp e1
              subst e3
              exact ⟨by first | rfl | (simp_all; done) | (simp_all; rfl), rfl⟩⟩
      · refine v_tableOut (tgt := 107) dX8_count_31 (by decide) rfl ?_
        refine v_aload_n (i := 0) dX8_count_107 rfl rfl ?_
        refine mg_taped rfl dX8_count_108 ?_
        exact v_iret rfl dX8_count_111 ⟨_, rfl, fun q => absurd ⟨_, haa, rfl⟩ q, fun a2 h1 e1 => by
              have e3 := (nI_eq (by omega) (by omega)).mp e1
              subst e3
              exact ⟨by first | rfl | (simp_all; done) | (simp_all; rfl), rfl⟩⟩
    · exact absurd c25 (by decide)
theorem cM_fault {G : Gl} {m : Nat} {ad : Nat → Nat} {η0 : AH} (hap : Mp m ad) (σ : MS)  : Ct G yX8_fault cX8_fault 1 (some .int) 1 0 0 [.ref m] (MH m ad σ η0) (re (some (.int (oI (gN σ 20)))) (MH m ad (sN σ 0 0) η0)) := by
  refine Ct.start rfl rfl (Nat.le_of_ble_eq_true rfl) (fun Γ => ?_)
  refine v_aload_n (i := 0) dX8_fault_0 rfl rfl ?_
  refine v_iconst (v := nI 0) dX8_fault_1 k_iconst_0 ?_
  refine mp_thrown rfl dX8_fault_2 ?_
  refine v_aload_n (i := 0) dX8_fault_5 rfl rfl ?_
  refine mg_faultPlace rfl dX8_fault_6 ?_
  exact v_iret rfl dX8_fault_9 ⟨rfl, rfl⟩
theorem cM_law {G : Gl} {m : Nat} {ad : Nat → Nat} {η0 : AH} (hap : Mp m ad) (σ : MS)  : Ct G yX8_law cX8_law 1 (some .int) 1 0 0 [.ref m] (MH m ad σ η0) (re (some (.int (oI (gN σ 85)))) (MH m ad (sN σ 0 0) η0)) := by
  refine Ct.start rfl rfl (Nat.le_of_ble_eq_true rfl) (fun Γ => ?_)
  refine v_aload_n (i := 0) dX8_law_0 rfl rfl ?_
  refine v_iconst (v := nI 0) dX8_law_1 k_iconst_0 ?_
  refine mp_thrown rfl dX8_law_2 ?_
  refine v_aload_n (i := 0) dX8_law_5 rfl rfl ?_
  refine mg_lawTold rfl dX8_law_6 ?_
  exact v_iret rfl dX8_law_9 ⟨rfl, rfl⟩
theorem cM_lays {G : Gl} {m : Nat} {ad : Nat → Nat} {η0 : AH} (hap : Mp m ad) (σ : MS) (v : Int32) (ht : gN σ 18 + 4 ≤ 700) : Ct G yX8_lays cX8_lays 3 none 1 0 0 [.ref m, .int v] (MH m ad σ η0) (re none (MH m ad (layN σ v) η0)) := by
  refine Ct.start rfl rfl (Nat.le_of_ble_eq_true rfl) (fun Γ => ?_)
  refine v_bipush (v := nI 24) dX8_lays_0 k_bipush_24 ?_
  refine v_istore_n (i := 2) dX8_lays_2 rfl (by decide) rfl ?_
  refine v_iload_n (i := 2) dX8_lays_3 rfl rfl ?_
  refine vn_if_lt (tgt := 39) dX8_lays_4 rfl (by omega) ?_
  refine v_aload_n (i := 0) dX8_lays_7 rfl rfl ?_
  refine mg_tape rfl dX8_lays_8 ?_
  refine v_aload_n (i := 0) dX8_lays_11 rfl rfl ?_
  refine mg_taped rfl dX8_lays_12 ?_
  refine v_iload_n (i := 1) dX8_lays_15 rfl rfl ?_
  refine v_iload_n (i := 2) dX8_lays_16 rfl rfl ?_
  refine v_ishr dX8_lays_17 ?_
  refine v_sipush (v := nI 255) dX8_lays_18 k_sipush_255 ?_
  refine vi_and255 dX8_lays_21 ?_
  refine ms_tape hap (by omega) dX8_lays_22 ?_
  refine v_aload_n (i := 0) dX8_lays_23 rfl rfl ?_
  refine v_dup dX8_lays_24 rfl ?_
  refine mg_taped rfl dX8_lays_25 ?_
  refine v_iconst (v := nI 1) dX8_lays_28 k_iconst_1 ?_
  refine vn_iadd dX8_lays_29 ?_
  refine mp_taped rfl dX8_lays_30 ?_
  refine vn_idec 8 dX8_lays_33 rfl k_iconst_m8n (by omega) (by decide) rfl ?_
  refine v_goto (tgt := 3) dX8_lays_36 rfl ?_
  refine v_iload_n (i := 2) dX8_lays_3 rfl rfl ?_
  refine vn_if_lt (tgt := 39) dX8_lays_4 rfl (by omega) ?_
  refine v_aload_n (i := 0) dX8_lays_7 rfl rfl ?_
  refine mg_tape rfl dX8_lays_8 ?_
  refine v_aload_n (i := 0) dX8_lays_11 rfl rfl ?_
  refine mg_taped rfl dX8_lays_12 ?_
  refine v_iload_n (i := 1) dX8_lays_15 rfl rfl ?_
  refine v_iload_n (i := 2) dX8_lays_16 rfl rfl ?_
  refine v_ishr dX8_lays_17 ?_
  refine v_sipush (v := nI 255) dX8_lays_18 k_sipush_255 ?_
  refine vi_and255 dX8_lays_21 ?_
  refine ms_tape hap (show gN σ 18 + 1 < 700 by omega) dX8_lays_22 ?_
  refine v_aload_n (i := 0) dX8_lays_23 rfl rfl ?_
  refine v_dup dX8_lays_24 rfl ?_
  refine mg_taped rfl dX8_lays_25 ?_
  refine v_iconst (v := nI 1) dX8_lays_28 k_iconst_1 ?_
  refine vn_iadd dX8_lays_29 ?_
  refine mp_taped rfl dX8_lays_30 ?_
  refine vn_idec 8 dX8_lays_33 rfl k_iconst_m8n (by omega) (by decide) rfl ?_
  refine v_goto (tgt := 3) dX8_lays_36 rfl ?_
  refine v_iload_n (i := 2) dX8_lays_3 rfl rfl ?_
  refine vn_if_lt (tgt := 39) dX8_lays_4 rfl (by omega) ?_
  refine v_aload_n (i := 0) dX8_lays_7 rfl rfl ?_
  refine mg_tape rfl dX8_lays_8 ?_
  refine v_aload_n (i := 0) dX8_lays_11 rfl rfl ?_
  refine mg_taped rfl dX8_lays_12 ?_
  refine v_iload_n (i := 1) dX8_lays_15 rfl rfl ?_
  refine v_iload_n (i := 2) dX8_lays_16 rfl rfl ?_
  refine v_ishr dX8_lays_17 ?_
  refine v_sipush (v := nI 255) dX8_lays_18 k_sipush_255 ?_
  refine vi_and255 dX8_lays_21 ?_
  refine ms_tape hap (show gN σ 18 + 2 < 700 by omega) dX8_lays_22 ?_
  refine v_aload_n (i := 0) dX8_lays_23 rfl rfl ?_
  refine v_dup dX8_lays_24 rfl ?_
  refine mg_taped rfl dX8_lays_25 ?_
  refine v_iconst (v := nI 1) dX8_lays_28 k_iconst_1 ?_
  refine vn_iadd dX8_lays_29 ?_
  refine mp_taped rfl dX8_lays_30 ?_
  refine vn_idec 8 dX8_lays_33 rfl k_iconst_m8n (by omega) (by decide) rfl ?_
  refine v_goto (tgt := 3) dX8_lays_36 rfl ?_
  refine v_iload_n (i := 2) dX8_lays_3 rfl rfl ?_
  refine vn_if_lt (tgt := 39) dX8_lays_4 rfl (by omega) ?_
  refine v_aload_n (i := 0) dX8_lays_7 rfl rfl ?_
  refine mg_tape rfl dX8_lays_8 ?_
  refine v_aload_n (i := 0) dX8_lays_11 rfl rfl ?_
  refine mg_taped rfl dX8_lays_12 ?_
  refine v_iload_n (i := 1) dX8_lays_15 rfl rfl ?_
  refine v_iload_n (i := 2) dX8_lays_16 rfl rfl ?_
  refine v_ishr dX8_lays_17 ?_
  refine v_sipush (v := nI 255) dX8_lays_18 k_sipush_255 ?_
  refine vi_and255 dX8_lays_21 ?_
  refine ms_tape hap (show gN σ 18 + 3 < 700 by omega) dX8_lays_22 ?_
  refine v_aload_n (i := 0) dX8_lays_23 rfl rfl ?_
  refine v_dup dX8_lays_24 rfl ?_
  refine mg_taped rfl dX8_lays_25 ?_
  refine v_iconst (v := nI 1) dX8_lays_28 k_iconst_1 ?_
  refine vn_iadd dX8_lays_29 ?_
  refine mp_taped rfl dX8_lays_30 ?_
  refine v_iinc dX8_lays_33 rfl rfl (by decide) rfl ?_
  refine v_goto (tgt := 3) dX8_lays_36 rfl ?_
  refine v_iload_n (i := 2) dX8_lays_3 rfl rfl ?_
  refine v_if_lt (tgt := 39) dX8_lays_4 rfl (fun c4 => ?_) (fun c4 => ?_)
  · exact v_vret rfl dX8_lays_39 ⟨rfl, rfl⟩
  · exact absurd (by decide) c4
theorem cM_feed {G : Gl} {m : Nat} {ad : Nat → Nat} {η0 : AH} (hap : Mp m ad) (σ : MS) (v1 v2 v3 v4 v5 : Int32) (ht : gN σ 18 ≤ 700) : Ct G yX8_feed cX8_feed 6 (some .int) 2 0 0 [.ref m, .int v1, .int v2, .int v3, .int v4, .int v5] (MH m ad σ η0) (fun r η => (680 < gN σ 18 → r = .inl (some (.int (-1))) ∧ η = MH m ad (sN σ 0 0) η0) ∧ (gN σ 18 ≤ 680 → r = .inl (some (.int (nI (gN σ 18 + 20)))) ∧ η = MH m ad (layN (layN (layN (layN (layN (sN σ 0 0) v1) v2) v3) v4) v5) η0)) := by
  refine Ct.start rfl rfl (Nat.le_of_ble_eq_true rfl) (fun Γ => ?_)
  refine v_aload_n (i := 0) dX8_feed_0 rfl rfl ?_
  refine v_iconst (v := nI 0) dX8_feed_1 k_iconst_0 ?_
  refine mp_thrown rfl dX8_feed_2 ?_
  refine v_aload_n (i := 0) dX8_feed_5 rfl rfl ?_
  refine mg_taped rfl dX8_feed_6 ?_
  refine v_bipush (v := nI 20) dX8_feed_9 k_bipush_20 ?_
  refine vn_iadd dX8_feed_11 ?_
  refine v_sipush (v := nI 700) dX8_feed_12 k_sipush_700 ?_
  refine vn_icmp_le (tgt := 20) dX8_feed_15 rfl (show gN σ 18 + 20 < _ by omega) (by decide) (fun c15 => ?_) (fun c15 => ?_)
  · have c15 : gN σ 18 + 20 ≤ 700 := c15
    refine v_aload_n (i := 0) dX8_feed_20 rfl rfl ?_
    refine v_iload_n (i := 1) dX8_feed_21 rfl rfl ?_
    refine v_callVv (cM_lays hap (sN σ 0 0) v1 (show gN σ 18 + 0 + 4 ≤ 700 by omega)) (lw_V q2189 q2191 qs55 q136 q2192) iX8_lays rfl KX8 MH_m rfl rfl (by decide) (by decide) (Nat.le_of_ble_eq_true rfl) dX8_feed_22 ?_
    refine v_aload_n (i := 0) dX8_feed_25 rfl rfl ?_
    refine v_iload_n (i := 2) dX8_feed_26 rfl rfl ?_
    refine v_callVv (cM_lays hap (layN (sN σ 0 0) v1) v2 (show gN σ 18 + 4 + 4 ≤ 700 by omega)) (lw_V q2189 q2191 qs55 q136 q2192) iX8_lays rfl KX8 MH_m rfl rfl (by decide) (by decide) (Nat.le_of_ble_eq_true rfl) dX8_feed_27 ?_
    refine v_aload_n (i := 0) dX8_feed_30 rfl rfl ?_
    refine v_iload_n (i := 3) dX8_feed_31 rfl rfl ?_
    refine v_callVv (cM_lays hap (layN (layN (sN σ 0 0) v1) v2) v3 (show gN σ 18 + 8 + 4 ≤ 700 by omega)) (lw_V q2189 q2191 qs55 q136 q2192) iX8_lays rfl KX8 MH_m rfl rfl (by decide) (by decide) (Nat.le_of_ble_eq_true rfl) dX8_feed_32 ?_
    refine v_aload_n (i := 0) dX8_feed_35 rfl rfl ?_
    refine v_iload (i := 4) dX8_feed_36 rfl ?_
    refine v_callVv (cM_lays hap (layN (layN (layN (sN σ 0 0) v1) v2) v3) v4 (show gN σ 18 + 12 + 4 ≤ 700 by omega)) (lw_V q2189 q2191 qs55 q136 q2192) iX8_lays rfl KX8 MH_m rfl rfl (by decide) (by decide) (Nat.le_of_ble_eq_true rfl) dX8_feed_38 ?_
    refine v_aload_n (i := 0) dX8_feed_41 rfl rfl ?_
    refine v_iload (i := 5) dX8_feed_42 rfl ?_
    refine v_callVv (cM_lays hap (layN (layN (layN (layN (sN σ 0 0) v1) v2) v3) v4) v5 (show gN σ 18 + 16 + 4 ≤ 700 by omega)) (lw_V q2189 q2191 qs55 q136 q2192) iX8_lays rfl KX8 MH_m rfl rfl (by decide) (by decide) (Nat.le_of_ble_eq_true rfl) dX8_feed_44 ?_
    refine v_aload_n (i := 0) dX8_feed_47 rfl rfl ?_
    refine mg_taped rfl dX8_feed_48 ?_
    exact v_iret rfl dX8_feed_51 ⟨fun h => by omega, fun _ => ⟨rfl, rfl⟩⟩
  · have c15 : 700 < gN σ 18 + 20 := c15
    refine v_iconst (v := -1) dX8_feed_18 k_iconst_m1 ?_
    exact v_iret rfl dX8_feed_19 ⟨fun _ => ⟨rfl, rfl⟩, fun h => by omega⟩
