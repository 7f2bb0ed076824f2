noncomputable def spRounds (A : AS) : Int32 := if tN A.1 29 = 2 ∧ tN A.1 31 = 2 ∧ tA A.1 41 0 ≤ 3 ∧ tA A.1 41 1 ≤ 3 ∧ tN A.1 33 = 0 then oI (roundT A.1) else -2

theorem cA_rounds {G : Gl} {m : Nat} {ad : Nat → Nat} {η0 : AH} (hap : Mp m ad) (σ : MS) (A : AS) (hG : MG roundT σ A) : Ct G yX8_rounds cX8_rounds 1 (some .int) 10 0 0 [.ref m] (MH m ad σ η0) (ap roundT m ad η0 (some (spRounds A)) A) := by
  refine Ct.start rfl rfl (Nat.le_of_ble_eq_true rfl) (fun Γ => ?_)
  have hT := hG.1.1.1
  have hl := hT.1
  have e1 : gN σ 1 = tN A.1 29 := hG.1.1.2.1.1
  have e3 : gN σ 3 = tN A.1 31 := hG.1.1.2.1.2.2.1
  have e5 : gN σ 5 = tN A.1 33 := hG.1.1.2.1.2.2.2.2.1
  have hRK := hG.2.2.2.2.2.2.1
  have hW : WX (sN σ 0 0) A.1 (tA A.1 41) (tA A.1 42) 0 := WX.of hG.1.1 hG.1.2.1 hG.1.2.2.1
  refine v_aload_n (i := 0) dX8_rounds_0 rfl rfl ?_
  refine v_iconst (v := nI 0) dX8_rounds_1 k_iconst_0 ?_
  refine mp_thrown rfl dX8_rounds_2 ?_
  refine v_aload_n (i := 0) dX8_rounds_5 rfl rfl ?_
  refine mg_shores rfl dX8_rounds_6 ?_
  refine v_iconst (v := nI 2) dX8_rounds_9 k_iconst_2 ?_
  refine vn_icmp_ne (tgt := 49) dX8_rounds_10 rfl (show gN σ 1 < _ by omega) (by decide) (fun c10 => ?_) (fun c10 => ?_)
  · have c10 : ¬ tN A.1 29 = 2 := by rw [← e1]; exact c10
    refine v_bipush (v := -2) dX8_rounds_49 k_bipush_m2 ?_
    exact v_iret rfl dX8_rounds_51 (by
      have E : spRounds A = -2 := by unfold spRounds; rw [if_neg (fun q => c10 q.1)]
      rw [E]
      exact ⟨_, rfl, sN σ 0 0, rfl, hG, fun q => (by cases q), fun v q => (by cases q; exact ⟨rfl, rfl⟩)⟩)
  · have c10 : tN A.1 29 = 2 := by rw [← e1]; exact c10
    refine v_aload_n (i := 0) dX8_rounds_13 rfl rfl ?_
    refine mg_boats rfl dX8_rounds_14 ?_
    refine v_iconst (v := nI 2) dX8_rounds_17 k_iconst_2 ?_
    refine vn_icmp_ne (tgt := 49) dX8_rounds_18 rfl (show gN σ 3 < _ by omega) (by decide) (fun c18 => ?_) (fun c18 => ?_)
    · have c18 : ¬ tN A.1 31 = 2 := by rw [← e3]; exact c18
      refine v_bipush (v := -2) dX8_rounds_49 k_bipush_m2 ?_
      exact v_iret rfl dX8_rounds_51 (by
        have E : spRounds A = -2 := by unfold spRounds; rw [if_neg (fun q => c18 q.2.1)]
        rw [E]
        exact ⟨_, rfl, sN σ 0 0, rfl, hG, fun q => (by cases q), fun v q => (by cases q; exact ⟨rfl, rfl⟩)⟩)
    · have c18 : tN A.1 31 = 2 := by rw [← e3]; exact c18
      have b0 := (hG.1.1.2.2.2.1 0 (by omega)).1
      have b1 := (hG.1.1.2.2.2.1 1 (by omega)).1
      have h0 := (hT.2.2.1 0 (by omega)).2.1
      have h1 := (hT.2.2.1 1 (by omega)).2.1
      refine v_aload_n (i := 0) dX8_rounds_21 rfl rfl ?_
      refine mg_holds rfl dX8_rounds_22 ?_
      refine v_iconst (v := nI 0) dX8_rounds_25 k_iconst_0 ?_
      refine ml_holds hap (by decide) dX8_rounds_26 ?_
      refine v_top (show _ = nI (tA A.1 41 0) from congrArg nI b0) ?_
      refine v_iconst (v := nI 3) dX8_rounds_27 k_iconst_3 ?_
      refine vn_icmp_gt (tgt := 49) dX8_rounds_28 rfl (by omega) (by decide) (fun c28 => ?_) (fun c28 => ?_)
      · refine v_bipush (v := -2) dX8_rounds_49 k_bipush_m2 ?_
        exact v_iret rfl dX8_rounds_51 (by
          have E : spRounds A = -2 := by unfold spRounds; rw [if_neg (fun q => absurd q.2.2.1 (by omega))]
          rw [E]
          exact ⟨_, rfl, sN σ 0 0, rfl, hG, fun q => (by cases q), fun v q => (by cases q; exact ⟨rfl, rfl⟩)⟩)
      · refine v_aload_n (i := 0) dX8_rounds_31 rfl rfl ?_
        refine mg_holds rfl dX8_rounds_32 ?_
        refine v_iconst (v := nI 1) dX8_rounds_35 k_iconst_1 ?_
        refine ml_holds hap (by decide) dX8_rounds_36 ?_
        refine v_top (show _ = nI (tA A.1 41 1) from congrArg nI b1) ?_
        refine v_iconst (v := nI 3) dX8_rounds_37 k_iconst_3 ?_
        refine vn_icmp_gt (tgt := 49) dX8_rounds_38 rfl (by omega) (by decide) (fun c38 => ?_) (fun c38 => ?_)
        · refine v_bipush (v := -2) dX8_rounds_49 k_bipush_m2 ?_
          exact v_iret rfl dX8_rounds_51 (by
            have E : spRounds A = -2 := by unfold spRounds; rw [if_neg (fun q => absurd q.2.2.2.1 (by omega))]
            rw [E]
            exact ⟨_, rfl, sN σ 0 0, rfl, hG, fun q => (by cases q), fun v q => (by cases q; exact ⟨rfl, rfl⟩)⟩)
        · refine v_aload_n (i := 0) dX8_rounds_41 rfl rfl ?_
          refine mg_lampAt rfl dX8_rounds_42 ?_
          refine v_iconst (v := -1) dX8_rounds_45 k_iconst_m1 ?_
          refine vo_icmp_eq (tgt := 52) dX8_rounds_46 rfl (show gN σ 5 < _ by omega) (fun c46 => ?_) (fun c46 => ?_)
          · have c46 : tN A.1 33 = 0 := by rw [← e5]; exact c46
            have E : spRounds A = oI (roundT A.1) := by unfold spRounds; rw [if_pos ⟨c10, c18, by omega, by omega, c46⟩]
            rw [E]
            have hrt : ∃ v, v = roundT A.1 := ⟨_, rfl⟩
            obtain ⟨rv_, hrv⟩ := hrt
            have hRK2 : gN σ 82 = 0 ∨ (gN σ 82 = rv_ + 1 ∧ rv_ < 4000) := by rw [hrv]; exact hRK
            refine v_aload_n (i := 0) dX8_rounds_52 rfl rfl ?_
            refine mg_roundsKnown rfl dX8_rounds_53 ?_
            refine vn_if_ne (tgt := 69) dX8_rounds_56 rfl (show gN σ 82 < _ by omega) (fun c56 => ?_) (fun c56 => ?_)
            · have c56 : ¬ gN σ 82 = 0 := c56
              have e82 : gN σ 82 = rv_ + 1 := (hRK2.resolve_left c56).1
              refine v_aload_n (i := 0) dX8_rounds_69 rfl rfl ?_
              refine mg_roundsKnown rfl dX8_rounds_70 ?_
              refine v_top (show _ = nI (roundT A.1 + 1) from congrArg nI (by first | rfl | (show gN σ 82 = _; rw [e82, hrv]))) ?_
              refine v_iconst (v := nI 2) dX8_rounds_73 k_iconst_2 ?_
              refine v_isub dX8_rounds_74 ?_
              exact v_iret rfl dX8_rounds_75 ⟨_, rfl, sN σ 0 0, rfl, hG, fun q => (by cases q), fun v q => (by cases q; exact ⟨oI_s2 _, rfl⟩)⟩
            · have c56 : gN σ 82 = 0 := c56
              refine v_aload_n (i := 0) dX8_rounds_59 rfl rfl ?_
              refine v_iconst (v := nI 2) dX8_rounds_60 k_iconst_2 ?_
              refine v_aload_n (i := 0) dX8_rounds_61 rfl rfl ?_
              refine v_callVI (kc' := 0) (ks' := 0) (cX_seeksRounds hap (sN σ 0 0) A.1 hW c10 c18 c46) (lw_V q2514 q2516 qs110 q136 q2517) iX8_seeksRounds rfl KX8 MH_m rfl rfl (by decide) (by decide) (Nat.le_of_ble_eq_true rfl) (by decide) (by decide) dX8_rounds_62 (fun x_ η' h => ?_)
              obtain ⟨⟨rfl, hlt⟩, σ2, rfl, g1, g2⟩ := h
              have hG2 : MG roundT σ2 A := MG.keep (σ := sN σ 0 0) hG (g1.mf (σ := sN σ 0 0) hG.1 g2) ⟨fun k _ => g1.1 k, g1.eg.2⟩
              refine v_iadd dX8_rounds_65 ?_
              refine v_top (oI_2 (roundT A.1)) ?_
              refine mp_roundsKnown rfl dX8_rounds_66 ?_
              refine v_aload_n (i := 0) dX8_rounds_69 rfl rfl ?_
              refine mg_roundsKnown rfl dX8_rounds_70 ?_
              refine v_top (show _ = nI (roundT A.1 + 1) from congrArg nI (by first | rfl | (show gN σ 82 = _; rw [e82, hrv]))) ?_
              refine v_iconst (v := nI 2) dX8_rounds_73 k_iconst_2 ?_
              refine v_isub dX8_rounds_74 ?_
              exact v_iret rfl dX8_rounds_75 ⟨_, rfl, sN σ2 82 (roundT A.1 + 1), rfl, ⟨hG2.1, hG2.2.1, hG2.2.2.1, hG2.2.2.2.1, hG2.2.2.2.2.1, hG2.2.2.2.2.2.1, Or.inr ⟨rfl, hlt⟩, hG2.2.2.2.2.2.2.2⟩, fun q => (by cases q), fun v q => (by cases q; exact ⟨oI_s2 _, g1.1 0⟩)⟩
          · have c46 : ¬ tN A.1 33 = 0 := by rw [← e5]; exact c46
            refine v_bipush (v := -2) dX8_rounds_49 k_bipush_m2 ?_
            exact v_iret rfl dX8_rounds_51 (by
              have E : spRounds A = -2 := by unfold spRounds; rw [if_neg (fun q => c46 q.2.2.2.2)]
              rw [E]
              exact ⟨_, rfl, sN σ 0 0, rfl, hG, fun q => (by cases q), fun v q => (by cases q; exact ⟨rfl, rfl⟩)⟩)
