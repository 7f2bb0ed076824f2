set_option maxRecDepth 100000
/-- where a law holds, as the component keeps it -/
def whI (n : Nat) : Int32 := match n with
  | 0 => -3
  | 1 => -1
  | 2 => -2
  | k + 3 => nI k
/-- a law (frozen) -/
def LW (G : Gl) (η : AH) (q sc : Nat) (f : Fn) (S : Nat) : Prop := ∃ e k ad σ, GO scX12 η none q ad σ ∧ gN σ 0 = e + 1 ∧ gI σ 1 = whI sc ∧ EX G η k e f ∧ k ≤ 150 ∧ sc < S + 3
theorem LW.kp {G : Gl} {lo hi : Nat} {η η' : AH} {q sc S : Nat} {f : Fn} (h : LW G η q sc f S) (hk : Kp lo hi η η') : LW G η' q sc f S := by
  obtain ⟨e, k, ad, σ, h1, h2, h3, h4, h5⟩ := h
  exact ⟨e, k, ad, σ, h1.kpN hk, h2, h3, h4.kp hk, h5⟩
theorem LW.rcv {G : Gl} {η : AH} {q sc S : Nat} {f : Fn} (h : LW G η q sc f S) : ∃ z : Option Nat × (Nat → Value), η q = some (z.1, ob 14 z.2) := by
  obtain ⟨e, k, ad, σ, h1, -⟩ := h
  exact h1.rcv
theorem nI_neg {a : Nat} (h : a < 2147483648) : ¬ nI a = -3 ∧ ¬ nI a = -2 ∧ ¬ nI a = -1 := by
  refine ⟨fun z => ?_, fun z => ?_, fun z => ?_⟩ <;>
  · have := congrArg Int32.toInt z
    rw [nI_toInt h] at this
    exact absurd this (by show ¬ (a : Int) = _; first | (show ¬ (a : Int) = -3; omega) | (show ¬ (a : Int) = -2; omega) | (show ¬ (a : Int) = -1; omega))
theorem cL_bars {G : Gl} {η0 : AH} {oa : Option Nat} {a w : Nat} {τ : Td} {s b l sh : Nat} (hA : As4 G η0 oa a w τ s b l sh) {q sc S : Nat} {f : Fn} (h : LW G η0 q sc f S) (hsh : sh ≤ S) (hS : S ≤ 4) : Ct G yX12_bars cX12_bars 4 (some .boolean) 800 0 0 [.ref q, .ref a, .int (nI S)] η0 (re (some (.int (nI (if goes sc sh S ∧ f (vaM τ s b l sh) ≠ 0 then 1 else 0)))) η0) := by
  refine Ct.start rfl rfl (Nat.le_of_ble_eq_true rfl) (fun Γ => ?_)
  obtain ⟨e, k, ad, σ, h, h1, hw, hE, hk, hsc⟩ := h
  obtain ⟨ada, σa, hAo, a0, a1, a2, a3, a4, hW, b1, b2, b3, b4⟩ := id hA
  have hv := hE.val hA
  rcases (show sc = 0 ∨ sc = 1 ∨ sc = 2 ∨ ∃ j, sc = j + 3 from by
    by_cases c0 : sc = 0
    · exact Or.inl c0
    · by_cases c1 : sc = 1
      · exact Or.inr (Or.inl c1)
      · by_cases c2 : sc = 2
        · exact Or.inr (Or.inr (Or.inl c2))
        · exact Or.inr (Or.inr (Or.inr ⟨sc - 3, by omega⟩))) with rfl | rfl | rfl | ⟨j, rfl⟩
  · refine v_aload_n (i := 0) dX12_bars_0 rfl rfl ?_
    refine go_get2 h KX12 1 (by decide) rfl (-3) hw q1726 dX12_bars_1 ?_
    refine v_bipush (v := -3) dX12_bars_4 k_bipush_m3 ?_
    refine v_icmp_eq (tgt := 59) dX12_bars_6 rfl (fun c6 => ?_) (fun c6 => ?_)
    · refine v_iconst (v := nI 1) dX12_bars_59 k_iconst_1 ?_
      refine v_goto (tgt := 64) dX12_bars_60 rfl ?_
      refine v_istore_n (i := 3) dX12_bars_64 rfl (by decide) rfl ?_
      refine v_iload_n (i := 3) dX12_bars_65 rfl rfl ?_
      refine vn_if_eq (tgt := 84) dX12_bars_66 rfl (by decide) (fun c66 => ?_) (fun c66 => ?_)
      · exact absurd c66 (by decide)
      · refine v_aload_n (i := 0) dX12_bars_69 rfl rfl ?_
        refine go_get3 h KX12 0 (by decide) rfl (e) h1 q1725 dX12_bars_70 ?_
        refine v_aload_n (i := 1) dX12_bars_73 rfl rfl ?_
        refine v_Exhol hv (by omega) q414 (Nat.le_of_ble_eq_true rfl) dX12_bars_74 ?_
        refine vn_if_eq (tgt := 84) dX12_bars_77 rfl (by split <;> decide) (fun c77 => ?_) (fun c77 => ?_)
        · have cv : f (vaM τ s b l sh) = 0 := Decidable.byContradiction (fun z => by rw [if_neg z] at c77; cases c77)
          refine v_iconst (v := nI 0) dX12_bars_84 k_iconst_0 ?_
          exact v_zret rfl rfl dX12_bars_85 ⟨(by rw [if_neg (fun z => z.2 cv)]), rfl⟩
        · have cv : ¬ f (vaM τ s b l sh) = 0 := fun z => c77 (if_pos z)
          refine v_iconst (v := nI 1) dX12_bars_80 k_iconst_1 ?_
          refine v_goto (tgt := 85) dX12_bars_81 rfl ?_
          exact v_zret rfl rfl dX12_bars_85 ⟨(by rw [if_pos ⟨by omega, cv⟩]), rfl⟩
    · exact absurd c6 (by decide)
  · refine v_aload_n (i := 0) dX12_bars_0 rfl rfl ?_
    refine go_get2 h KX12 1 (by decide) rfl (-1) hw q1726 dX12_bars_1 ?_
    refine v_bipush (v := -3) dX12_bars_4 k_bipush_m3 ?_
    refine v_icmp_eq (tgt := 59) dX12_bars_6 rfl (fun c6 => ?_) (fun c6 => ?_)
    · exact absurd c6 (by decide)
    · refine v_aload_n (i := 0) dX12_bars_9 rfl rfl ?_
      refine go_get2 h KX12 1 (by decide) rfl (-1) hw q1726 dX12_bars_10 ?_
      refine v_bipush (v := -2) dX12_bars_13 k_bipush_m2 ?_
      refine v_icmp_ne (tgt := 29) dX12_bars_15 rfl (fun c15 => ?_) (fun c15 => ?_)
      · refine v_aload_n (i := 0) dX12_bars_29 rfl rfl ?_
        refine go_get2 h KX12 1 (by decide) rfl (-1) hw q1726 dX12_bars_30 ?_
        refine v_iconst (v := -1) dX12_bars_33 k_iconst_m1 ?_
        refine v_icmp_ne (tgt := 48) dX12_bars_34 rfl (fun c34 => ?_) (fun c34 => ?_)
        · exact absurd c34 (by decide)
        · refine v_aload_n (i := 1) dX12_bars_37 rfl rfl ?_
          refine go_get0N hAo KX4 4 (by decide) rfl (sh) a4 q366 dX12_bars_38 ?_
          refine v_iload_n (i := 2) dX12_bars_41 rfl rfl ?_
          refine vn_icmp_eq (tgt := 63) dX12_bars_42 rfl (by omega) (by omega) (fun c42 => ?_) (fun c42 => ?_)
          · refine v_iconst (v := nI 0) dX12_bars_63 k_iconst_0 ?_
            refine v_istore_n (i := 3) dX12_bars_64 rfl (by decide) rfl ?_
            refine v_iload_n (i := 3) dX12_bars_65 rfl rfl ?_
            refine vn_if_eq (tgt := 84) dX12_bars_66 rfl (by decide) (fun c66 => ?_) (fun c66 => ?_)
            · refine v_iconst (v := nI 0) dX12_bars_84 k_iconst_0 ?_
              exact v_zret rfl rfl dX12_bars_85 ⟨(by rw [if_neg (fun z => absurd z.1 (by omega))]), rfl⟩
            · exact absurd rfl c66
          · refine v_goto (tgt := 59) dX12_bars_45 rfl ?_
            refine v_iconst (v := nI 1) dX12_bars_59 k_iconst_1 ?_
            refine v_goto (tgt := 64) dX12_bars_60 rfl ?_
            refine v_istore_n (i := 3) dX12_bars_64 rfl (by decide) rfl ?_
            refine v_iload_n (i := 3) dX12_bars_65 rfl rfl ?_
            refine vn_if_eq (tgt := 84) dX12_bars_66 rfl (by decide) (fun c66 => ?_) (fun c66 => ?_)
            · exact absurd c66 (by decide)
            · refine v_aload_n (i := 0) dX12_bars_69 rfl rfl ?_
              refine go_get3 h KX12 0 (by decide) rfl (e) h1 q1725 dX12_bars_70 ?_
              refine v_aload_n (i := 1) dX12_bars_73 rfl rfl ?_
              refine v_Exhol hv (by omega) q414 (Nat.le_of_ble_eq_true rfl) dX12_bars_74 ?_
              refine vn_if_eq (tgt := 84) dX12_bars_77 rfl (by split <;> decide) (fun c77 => ?_) (fun c77 => ?_)
              · have cv : f (vaM τ s b l sh) = 0 := Decidable.byContradiction (fun z => by rw [if_neg z] at c77; cases c77)
                refine v_iconst (v := nI 0) dX12_bars_84 k_iconst_0 ?_
                exact v_zret rfl rfl dX12_bars_85 ⟨(by rw [if_neg (fun z => z.2 cv)]), rfl⟩
              · have cv : ¬ f (vaM τ s b l sh) = 0 := fun z => c77 (if_pos z)
                refine v_iconst (v := nI 1) dX12_bars_80 k_iconst_1 ?_
                refine v_goto (tgt := 85) dX12_bars_81 rfl ?_
                exact v_zret rfl rfl dX12_bars_85 ⟨(by rw [if_pos ⟨by omega, cv⟩]), rfl⟩
      · exact absurd c15 (by decide)
  · refine v_aload_n (i := 0) dX12_bars_0 rfl rfl ?_
    refine go_get2 h KX12 1 (by decide) rfl (-2) hw q1726 dX12_bars_1 ?_
    refine v_bipush (v := -3) dX12_bars_4 k_bipush_m3 ?_
    refine v_icmp_eq (tgt := 59) dX12_bars_6 rfl (fun c6 => ?_) (fun c6 => ?_)
    · exact absurd c6 (by decide)
    · refine v_aload_n (i := 0) dX12_bars_9 rfl rfl ?_
      refine go_get2 h KX12 1 (by decide) rfl (-2) hw q1726 dX12_bars_10 ?_
      refine v_bipush (v := -2) dX12_bars_13 k_bipush_m2 ?_
      refine v_icmp_ne (tgt := 29) dX12_bars_15 rfl (fun c15 => ?_) (fun c15 => ?_)
      · exact absurd c15 (by decide)
      · refine v_aload_n (i := 1) dX12_bars_18 rfl rfl ?_
        refine go_get0N hAo KX4 4 (by decide) rfl (sh) a4 q366 dX12_bars_19 ?_
        refine v_iload_n (i := 2) dX12_bars_22 rfl rfl ?_
        refine vn_icmp_ne (tgt := 63) dX12_bars_23 rfl (by omega) (by omega) (fun c23 => ?_) (fun c23 => ?_)
        · refine v_iconst (v := nI 0) dX12_bars_63 k_iconst_0 ?_
          refine v_istore_n (i := 3) dX12_bars_64 rfl (by decide) rfl ?_
          refine v_iload_n (i := 3) dX12_bars_65 rfl rfl ?_
          refine vn_if_eq (tgt := 84) dX12_bars_66 rfl (by decide) (fun c66 => ?_) (fun c66 => ?_)
          · refine v_iconst (v := nI 0) dX12_bars_84 k_iconst_0 ?_
            exact v_zret rfl rfl dX12_bars_85 ⟨(by rw [if_neg (fun z => absurd z.1 (by omega))]), rfl⟩
          · exact absurd rfl c66
        · refine v_goto (tgt := 59) dX12_bars_26 rfl ?_
          refine v_iconst (v := nI 1) dX12_bars_59 k_iconst_1 ?_
          refine v_goto (tgt := 64) dX12_bars_60 rfl ?_
          refine v_istore_n (i := 3) dX12_bars_64 rfl (by decide) rfl ?_
          refine v_iload_n (i := 3) dX12_bars_65 rfl rfl ?_
          refine vn_if_eq (tgt := 84) dX12_bars_66 rfl (by decide) (fun c66 => ?_) (fun c66 => ?_)
          · exact absurd c66 (by decide)
          · refine v_aload_n (i := 0) dX12_bars_69 rfl rfl ?_
            refine go_get3 h KX12 0 (by decide) rfl (e) h1 q1725 dX12_bars_70 ?_
            refine v_aload_n (i := 1) dX12_bars_73 rfl rfl ?_
            refine v_Exhol hv (by omega) q414 (Nat.le_of_ble_eq_true rfl) dX12_bars_74 ?_
            refine vn_if_eq (tgt := 84) dX12_bars_77 rfl (by split <;> decide) (fun c77 => ?_) (fun c77 => ?_)
            · have cv : f (vaM τ s b l sh) = 0 := Decidable.byContradiction (fun z => by rw [if_neg z] at c77; cases c77)
              refine v_iconst (v := nI 0) dX12_bars_84 k_iconst_0 ?_
              exact v_zret rfl rfl dX12_bars_85 ⟨(by rw [if_neg (fun z => z.2 cv)]), rfl⟩
            · have cv : ¬ f (vaM τ s b l sh) = 0 := fun z => c77 (if_pos z)
              refine v_iconst (v := nI 1) dX12_bars_80 k_iconst_1 ?_
              refine v_goto (tgt := 85) dX12_bars_81 rfl ?_
              exact v_zret rfl rfl dX12_bars_85 ⟨(by rw [if_pos ⟨by omega, cv⟩]), rfl⟩
  · refine v_aload_n (i := 0) dX12_bars_0 rfl rfl ?_
    refine go_get2 h KX12 1 (by decide) rfl (nI j) hw q1726 dX12_bars_1 ?_
    refine v_bipush (v := -3) dX12_bars_4 k_bipush_m3 ?_
    refine v_icmp_eq (tgt := 59) dX12_bars_6 rfl (fun c6 => ?_) (fun c6 => ?_)
    · exact absurd c6 (nI_neg (by omega)).1
    · refine v_aload_n (i := 0) dX12_bars_9 rfl rfl ?_
      refine go_get2 h KX12 1 (by decide) rfl (nI j) hw q1726 dX12_bars_10 ?_
      refine v_bipush (v := -2) dX12_bars_13 k_bipush_m2 ?_
      refine v_icmp_ne (tgt := 29) dX12_bars_15 rfl (fun c15 => ?_) (fun c15 => ?_)
      · refine v_aload_n (i := 0) dX12_bars_29 rfl rfl ?_
        refine go_get2 h KX12 1 (by decide) rfl (nI j) hw q1726 dX12_bars_30 ?_
        refine v_iconst (v := -1) dX12_bars_33 k_iconst_m1 ?_
        refine v_icmp_ne (tgt := 48) dX12_bars_34 rfl (fun c34 => ?_) (fun c34 => ?_)
        · refine v_aload_n (i := 1) dX12_bars_48 rfl rfl ?_
          refine go_get0N hAo KX4 4 (by decide) rfl (sh) a4 q366 dX12_bars_49 ?_
          refine v_aload_n (i := 0) dX12_bars_52 rfl rfl ?_
          refine go_get2 h KX12 1 (by decide) rfl (nI j) hw q1726 dX12_bars_53 ?_
          refine vn_icmp_ne (tgt := 63) dX12_bars_56 rfl (by omega) (by omega) (fun c56 => ?_) (fun c56 => ?_)
          · refine v_iconst (v := nI 0) dX12_bars_63 k_iconst_0 ?_
            refine v_istore_n (i := 3) dX12_bars_64 rfl (by decide) rfl ?_
            refine v_iload_n (i := 3) dX12_bars_65 rfl rfl ?_
            refine vn_if_eq (tgt := 84) dX12_bars_66 rfl (by decide) (fun c66 => ?_) (fun c66 => ?_)
            · refine v_iconst (v := nI 0) dX12_bars_84 k_iconst_0 ?_
              exact v_zret rfl rfl dX12_bars_85 ⟨(by rw [if_neg (fun z => absurd z.1 (by omega))]), rfl⟩
            · exact absurd rfl c66
          · refine v_iconst (v := nI 1) dX12_bars_59 k_iconst_1 ?_
            refine v_goto (tgt := 64) dX12_bars_60 rfl ?_
            refine v_istore_n (i := 3) dX12_bars_64 rfl (by decide) rfl ?_
            refine v_iload_n (i := 3) dX12_bars_65 rfl rfl ?_
            refine vn_if_eq (tgt := 84) dX12_bars_66 rfl (by decide) (fun c66 => ?_) (fun c66 => ?_)
            · exact absurd c66 (by decide)
            · refine v_aload_n (i := 0) dX12_bars_69 rfl rfl ?_
              refine go_get3 h KX12 0 (by decide) rfl (e) h1 q1725 dX12_bars_70 ?_
              refine v_aload_n (i := 1) dX12_bars_73 rfl rfl ?_
              refine v_Exhol hv (by omega) q414 (Nat.le_of_ble_eq_true rfl) dX12_bars_74 ?_
              refine vn_if_eq (tgt := 84) dX12_bars_77 rfl (by split <;> decide) (fun c77 => ?_) (fun c77 => ?_)
              · have cv : f (vaM τ s b l sh) = 0 := Decidable.byContradiction (fun z => by rw [if_neg z] at c77; cases c77)
                refine v_iconst (v := nI 0) dX12_bars_84 k_iconst_0 ?_
                exact v_zret rfl rfl dX12_bars_85 ⟨(by rw [if_neg (fun z => z.2 cv)]), rfl⟩
              · have cv : ¬ f (vaM τ s b l sh) = 0 := fun z => c77 (if_pos z)
                refine v_iconst (v := nI 1) dX12_bars_80 k_iconst_1 ?_
                refine v_goto (tgt := 85) dX12_bars_81 rfl ?_
                exact v_zret rfl rfl dX12_bars_85 ⟨(by rw [if_pos ⟨by omega, cv⟩]), rfl⟩
        · exact absurd c34 (nI_neg (by omega)).2.2
      · exact absurd c15 (nI_neg (by omega)).2.1
