/-! ===== asking of a play ===== -/
theorem no16_lt {a : Int32} {N n : Nat} (h : ¬ inr a N) (hn : n ≤ N) (hN : N < 2147483648) (h2 : a < nI n) : a < 0 := by
  rw [i_lt, nI_toInt (by omega)] at h2
  rw [i_lt, show (0 : Int32).toInt = 0 by decide]
  refine Int.lt_of_not_ge fun q => h ⟨a.toInt.toNat, by omega, ?_⟩
  rw [i_eq, nI_toInt (by omega)]
  omega
theorem neg_lt {a : Int32} {n : Nat} (h : a < 0) (hn : n < 2147483648) : a < nI n := by
  rw [i_lt, show (0 : Int32).toInt = 0 by decide] at h
  rw [i_lt, nI_toInt hn]
  omega
theorem nle_lt {a : Int32} {n : Nat} (h : ¬ nI n ≤ a) : a < nI n := by
  rw [i_le] at h
  rw [i_lt]
  omega
noncomputable def spPlay (A : AS) (a : Int32) : Option Int32 := match nOf a 16 with
  | none => none
  | some j => if j = 0 then some (nI (mnL A.1 A.2.2.2.2.2.1)) else if j = 1 then some (nI (if goalT A.1 (stL A.1 A.2.2.2.2.2.1) then 1 else 0)) else if j = 2 then some (if tN A.1 33 = 0 then -1 else nI (la (stL A.1 A.2.2.2.2.2.1))) else if 4 ≤ j ∧ j < 4 + tN A.1 31 then some (nI (bo (stL A.1 A.2.2.2.2.2.1) (j - 4))) else if 8 ≤ j ∧ j < 8 + tN A.1 30 then some (nI (th (stL A.1 A.2.2.2.2.2.1) (j - 8))) else none
theorem spPlay_j {A : AS} {j : Nat} (hj : j < 16) {x : Nat} (hx : stL A.1 A.2.2.2.2.2.1 = x) : spPlay A (nI j) = if j = 0 then some (nI (mnL A.1 A.2.2.2.2.2.1)) else if j = 1 then some (nI (if goalT A.1 x then 1 else 0)) else if j = 2 then some (if tN A.1 33 = 0 then -1 else nI (la x)) else if 4 ≤ j ∧ j < 4 + tN A.1 31 then some (nI (bo x (j - 4))) else if 8 ≤ j ∧ j < 8 + tN A.1 30 then some (nI (th x (j - 8))) else none := by
  unfold spPlay
  rw [nOf_some hj (by decide), hx]
theorem cM_within {G : Gl} {η : AH} (j a b : Nat) (hj : j < 2147483648) (ha : a < 2147483648) (hb : b < 2147483648) : Ct G yX8_within cX8_within 3 (some .boolean) 1 0 0 [.int (nI j), .int (nI a), .int (nI b)] η (re (some (.int (nI (if a ≤ j ∧ j ≤ b then 1 else 0)))) η) := by
  refine Ct.start rfl rfl (Nat.le_of_ble_eq_true rfl) (fun Γ => ?_)
  refine v_iload_n (i := 0) dX8_within_0 rfl rfl ?_
  refine v_iload_n (i := 1) dX8_within_1 rfl rfl ?_
  refine vn_icmp_lt (tgt := 14) dX8_within_2 rfl (by omega) (by omega) (fun c2 => ?_) (fun c2 => ?_)
  · refine v_iconst (v := nI 0) dX8_within_14 k_iconst_0 ?_
    exact v_zret rfl rfl dX8_within_15 ⟨by rw [if_neg (by omega)], rfl⟩
  · refine v_iload_n (i := 0) dX8_within_5 rfl rfl ?_
    refine v_iload_n (i := 2) dX8_within_6 rfl rfl ?_
    refine vn_icmp_gt (tgt := 14) dX8_within_7 rfl (by omega) (by omega) (fun c7 => ?_) (fun c7 => ?_)
    · refine v_iconst (v := nI 0) dX8_within_14 k_iconst_0 ?_
      exact v_zret rfl rfl dX8_within_15 ⟨by rw [if_neg (by omega)], rfl⟩
    · refine v_iconst (v := nI 1) dX8_within_10 k_iconst_1 ?_
      refine v_goto (tgt := 15) dX8_within_11 rfl ?_
      exact v_zret rfl rfl dX8_within_15 ⟨by rw [if_pos (by omega)], rfl⟩
theorem cM_within0 {G : Gl} {η : AH} (v : Int32) (b : Nat) (hb : b < 2147483647) (h : ¬ inr v (b + 1)) : Ct G yX8_within cX8_within 3 (some .boolean) 1 0 0 [.int v, .int (nI 0), .int (nI b)] η (re (some (.int (nI 0))) η) := by
  refine Ct.start rfl rfl (Nat.le_of_ble_eq_true rfl) (fun Γ => ?_)
  refine v_iload_n (i := 0) dX8_within_0 rfl rfl ?_
  refine v_iload_n (i := 1) dX8_within_1 rfl rfl ?_
  refine v_icmp_lt (tgt := 14) dX8_within_2 rfl (fun c2 => ?_) (fun c2 => ?_)
  · refine v_iconst (v := nI 0) dX8_within_14 k_iconst_0 ?_
    exact v_zret rfl rfl dX8_within_15 ⟨rfl, rfl⟩
  · refine v_iload_n (i := 0) dX8_within_5 rfl rfl ?_
    refine v_iload_n (i := 2) dX8_within_6 rfl rfl ?_
    refine v_icmp_gt (tgt := 14) dX8_within_7 rfl (fun c7 => ?_) (fun c7 => ?_)
    · refine v_iconst (v := nI 0) dX8_within_14 k_iconst_0 ?_
      exact v_zret rfl rfl dX8_within_15 ⟨rfl, rfl⟩
    · exact absurd (inr_of2 c2 c7 hb) h
theorem cA_play {G : Gl} {m : Nat} {ad : Nat → Nat} {η0 : AH} (hap : Mp m ad) (σ : MS) {rt : Td → Nat} (A : AS) (hG : MG rt σ A) (a : Int32) : Ct G yX8_play cX8_play 4 (some .int) 4 0 0 [.ref m, .int a] (MH m ad σ η0) (ap rt m ad η0 (spPlay A a) A) := by
  refine Ct.start rfl rfl (Nat.le_of_ble_eq_true rfl) (fun Γ => ?_)
  obtain ⟨p1, p2, p3, p4, p5⟩ := hG.2.2.2.2.2.2.2.1
  have hT := hG.1.1.1
  have hl := hT.1
  have hp := p3 A.2.2.2.2.2.1.length (Nat.le_refl _)
  rw [List.take_length] at hp
  have hB : gN σ 3 = tN A.1 31 := hG.1.1.2.1.2.2.1
  have hTh : gN σ 2 = tN A.1 30 := hG.1.1.2.1.2.1
  have hLa : gN σ 5 = tN A.1 33 := hG.1.1.2.1.2.2.2.2.1
  by_cases hin : inr a 16
  case neg =>
    refine v_aload_n (i := 0) dX8_play_0 rfl rfl ?_
    refine v_iconst (v := nI 0) dX8_play_1 k_iconst_0 ?_
    refine mp_thrown rfl dX8_play_2 ?_
    refine v_iload_n (i := 1) dX8_play_5 rfl rfl ?_
    refine v_iconst (v := nI 0) dX8_play_6 k_iconst_0 ?_
    refine v_iconst (v := nI 2) dX8_play_7 k_iconst_2 ?_
    refine v_callSi (cM_within0 a 2 (by decide) (fun ⟨j, h1, h2⟩ => hin ⟨j, by omega, h2⟩)) (lw_S q2562 q2563 q136 q2564) iX8_within rfl rfl (by decide) (by decide) (Nat.le_of_ble_eq_true rfl) dX8_play_8 ?_
    refine vn_if_ne (tgt := 46) dX8_play_11 rfl (by decide) (fun c11 => ?_) (fun c11 => ?_)
    · exact absurd rfl c11
    · refine v_iload_n (i := 1) dX8_play_14 rfl rfl ?_
      refine v_iconst (v := nI 4) dX8_play_15 k_iconst_4 ?_
      refine v_icmp_lt (tgt := 29) dX8_play_16 rfl (fun c16 => ?_) (fun c16 => ?_)
      · refine v_iload_n (i := 1) dX8_play_29 rfl rfl ?_
        refine v_bipush (v := nI 8) dX8_play_30 k_bipush_8 ?_
        refine v_icmp_lt (tgt := 50) dX8_play_32 rfl (fun c32 => ?_) (fun c32 => ?_)
        · refine v_iconst (v := nI 0) dX8_play_50 k_iconst_0 ?_
          refine v_istore_n (i := 2) dX8_play_51 rfl (by decide) rfl ?_
          refine v_aload_n (i := 0) dX8_play_52 rfl rfl ?_
          refine v_iload_n (i := 2) dX8_play_53 rfl rfl ?_
          refine v_iconst (v := nI 1) dX8_play_54 k_iconst_1 ?_
          refine v_callVi (cM_right0 hap σ) (lw_V q2197 q2199 qs56 q136 q2200) iX8_right rfl KX8 MH_m rfl rfl (by decide) (by decide) (Nat.le_of_ble_eq_true rfl) dX8_play_55 ?_
          refine vn_if_ne (tgt := 63) dX8_play_58 rfl (by decide) (fun c58 => ?_) (fun c58 => ?_)
          · exact absurd rfl c58
          · refine v_iconst (v := nI 0) dX8_play_61 k_iconst_0 ?_
            exact v_iret rfl dX8_play_62 ⟨_, rfl, sN σ 0 1, rfl, hG, fun _ => rfl, fun v q => (by unfold spPlay at q; rw [nOf_none hin (by decide)] at q; cases q)⟩
        · refine v_iload_n (i := 1) dX8_play_35 rfl rfl ?_
          refine v_bipush (v := nI 8) dX8_play_36 k_bipush_8 ?_
          refine v_aload_n (i := 0) dX8_play_38 rfl rfl ?_
          refine mg_things rfl dX8_play_39 ?_
          refine vn_iadd dX8_play_42 ?_
          refine v_icmp_ge (tgt := 50) dX8_play_43 rfl (fun c43 => ?_) (fun c43 => ?_)
          · refine v_iconst (v := nI 0) dX8_play_50 k_iconst_0 ?_
            refine v_istore_n (i := 2) dX8_play_51 rfl (by decide) rfl ?_
            refine v_aload_n (i := 0) dX8_play_52 rfl rfl ?_
            refine v_iload_n (i := 2) dX8_play_53 rfl rfl ?_
            refine v_iconst (v := nI 1) dX8_play_54 k_iconst_1 ?_
            refine v_callVi (cM_right0 hap σ) (lw_V q2197 q2199 qs56 q136 q2200) iX8_right rfl KX8 MH_m rfl rfl (by decide) (by decide) (Nat.le_of_ble_eq_true rfl) dX8_play_55 ?_
            refine vn_if_ne (tgt := 63) dX8_play_58 rfl (by decide) (fun c58 => ?_) (fun c58 => ?_)
            · exact absurd rfl c58
            · refine v_iconst (v := nI 0) dX8_play_61 k_iconst_0 ?_
              exact v_iret rfl dX8_play_62 ⟨_, rfl, sN σ 0 1, rfl, hG, fun _ => rfl, fun v q => (by unfold spPlay at q; rw [nOf_none hin (by decide)] at q; cases q)⟩
          · exact absurd (neg_lt (no16_lt hin (show 8 + gN σ 2 ≤ 16 by omega) (by decide) (nle_lt c43)) (by decide)) c32
      · refine v_iload_n (i := 1) dX8_play_19 rfl rfl ?_
        refine v_iconst (v := nI 4) dX8_play_20 k_iconst_4 ?_
        refine v_aload_n (i := 0) dX8_play_21 rfl rfl ?_
        refine mg_boats rfl dX8_play_22 ?_
        refine vn_iadd dX8_play_25 ?_
        refine v_icmp_lt (tgt := 46) dX8_play_26 rfl (fun c26 => ?_) (fun c26 => ?_)
        · exact absurd (neg_lt (no16_lt hin (show 4 + gN σ 3 ≤ 16 by omega) (by decide) c26) (by decide)) c16
        · refine v_iload_n (i := 1) dX8_play_29 rfl rfl ?_
          refine v_bipush (v := nI 8) dX8_play_30 k_bipush_8 ?_
          refine v_icmp_lt (tgt := 50) dX8_play_32 rfl (fun c32 => ?_) (fun c32 => ?_)
          · refine v_iconst (v := nI 0) dX8_play_50 k_iconst_0 ?_
            refine v_istore_n (i := 2) dX8_play_51 rfl (by decide) rfl ?_
            refine v_aload_n (i := 0) dX8_play_52 rfl rfl ?_
            refine v_iload_n (i := 2) dX8_play_53 rfl rfl ?_
            refine v_iconst (v := nI 1) dX8_play_54 k_iconst_1 ?_
            refine v_callVi (cM_right0 hap σ) (lw_V q2197 q2199 qs56 q136 q2200) iX8_right rfl KX8 MH_m rfl rfl (by decide) (by decide) (Nat.le_of_ble_eq_true rfl) dX8_play_55 ?_
            refine vn_if_ne (tgt := 63) dX8_play_58 rfl (by decide) (fun c58 => ?_) (fun c58 => ?_)
            · exact absurd rfl c58
            · refine v_iconst (v := nI 0) dX8_play_61 k_iconst_0 ?_
              exact v_iret rfl dX8_play_62 ⟨_, rfl, sN σ 0 1, rfl, hG, fun _ => rfl, fun v q => (by unfold spPlay at q; rw [nOf_none hin (by decide)] at q; cases q)⟩
          · refine v_iload_n (i := 1) dX8_play_35 rfl rfl ?_
            refine v_bipush (v := nI 8) dX8_play_36 k_bipush_8 ?_
            refine v_aload_n (i := 0) dX8_play_38 rfl rfl ?_
            refine mg_things rfl dX8_play_39 ?_
            refine vn_iadd dX8_play_42 ?_
            refine v_icmp_ge (tgt := 50) dX8_play_43 rfl (fun c43 => ?_) (fun c43 => ?_)
            · refine v_iconst (v := nI 0) dX8_play_50 k_iconst_0 ?_
              refine v_istore_n (i := 2) dX8_play_51 rfl (by decide) rfl ?_
              refine v_aload_n (i := 0) dX8_play_52 rfl rfl ?_
              refine v_iload_n (i := 2) dX8_play_53 rfl rfl ?_
              refine v_iconst (v := nI 1) dX8_play_54 k_iconst_1 ?_
              refine v_callVi (cM_right0 hap σ) (lw_V q2197 q2199 qs56 q136 q2200) iX8_right rfl KX8 MH_m rfl rfl (by decide) (by decide) (Nat.le_of_ble_eq_true rfl) dX8_play_55 ?_
              refine vn_if_ne (tgt := 63) dX8_play_58 rfl (by decide) (fun c58 => ?_) (fun c58 => ?_)
              · exact absurd rfl c58
              · refine v_iconst (v := nI 0) dX8_play_61 k_iconst_0 ?_
                exact v_iret rfl dX8_play_62 ⟨_, rfl, sN σ 0 1, rfl, hG, fun _ => rfl, fun v q => (by unfold spPlay at q; rw [nOf_none hin (by decide)] at q; cases q)⟩
            · exact absurd (neg_lt (no16_lt hin (show 8 + gN σ 2 ≤ 16 by omega) (by decide) (nle_lt c43)) (by decide)) c32
  obtain ⟨j, hj, rfl⟩ := hin
  have hW : WX (sN σ 0 0) A.1 (tA A.1 41) (tA A.1 42) 0 := WX.of hG.1.1 hG.1.2.1 hG.1.2.2.1
  have hE := spPlay_j (A := A) hj (rfl)
  have hx22 := hp.2.1
  generalize hyy : stL A.1 A.2.2.2.2.2.1 = x at *
  refine v_aload_n (i := 0) dX8_play_0 rfl rfl ?_
  refine v_iconst (v := nI 0) dX8_play_1 k_iconst_0 ?_
  refine mp_thrown rfl dX8_play_2 ?_
  refine v_iload_n (i := 1) dX8_play_5 rfl rfl ?_
  refine v_iconst (v := nI 0) dX8_play_6 k_iconst_0 ?_
  refine v_iconst (v := nI 2) dX8_play_7 k_iconst_2 ?_
  refine v_callSi (cM_within j 0 2 (by omega) (by decide) (by decide)) (lw_S q2562 q2563 q136 q2564) iX8_within rfl rfl (by decide) (by decide) (Nat.le_of_ble_eq_true rfl) dX8_play_8 ?_
  refine vn_if_ne (tgt := 46) dX8_play_11 rfl (by split <;> decide) (fun c11 => ?_) (fun c11 => ?_)
  · have c11 : j < 3 := by
      by_cases q : 0 ≤ j ∧ j ≤ 2
      · omega
      · rw [if_neg q] at c11; exact absurd rfl c11
    refine v_iconst (v := nI 1) dX8_play_46 k_iconst_1 ?_
    refine v_goto (tgt := 51) dX8_play_47 rfl ?_
    refine v_istore_n (i := 2) dX8_play_51 rfl (by decide) rfl ?_
    refine v_aload_n (i := 0) dX8_play_52 rfl rfl ?_
    refine v_iload_n (i := 2) dX8_play_53 rfl rfl ?_
    refine v_iconst (v := nI 1) dX8_play_54 k_iconst_1 ?_
    refine v_callVi (cM_right1 hap σ) (lw_V q2197 q2199 qs56 q136 q2200) iX8_right rfl KX8 MH_m rfl rfl (by decide) (by decide) (Nat.le_of_ble_eq_true rfl) dX8_play_55 ?_
    refine vn_if_ne (tgt := 63) dX8_play_58 rfl (by decide) (fun c58 => ?_) (fun c58 => ?_)
    · refine v_aload_n (i := 0) dX8_play_63 rfl rfl ?_
      refine mg_playState rfl dX8_play_64 ?_
      refine v_aload_n (i := 0) dX8_play_67 rfl rfl ?_
      refine mg_made rfl dX8_play_68 ?_
      refine ml_playState hap (show gN σ 84 < 61 by omega) dX8_play_71 ?_
      refine v_top (show _ = nI x from congrArg nI (by show gA σ 86 (gN σ 84) = x; rw [p1]; exact hp.1)) ?_
      refine v_istore_n (i := 3) dX8_play_72 rfl (by decide) rfl ?_
      refine v_iload_n (i := 1) dX8_play_73 rfl rfl ?_
      refine vn_if_ne (tgt := 87) dX8_play_74 rfl (by omega) (fun c74 => ?_) (fun c74 => ?_)
      · refine v_iload_n (i := 1) dX8_play_87 rfl rfl ?_
        refine v_iconst (v := nI 1) dX8_play_88 k_iconst_1 ?_
        refine vn_icmp_ne (tgt := 106) dX8_play_89 rfl (by omega) (by omega) (fun c89 => ?_) (fun c89 => ?_)
        · refine v_iload_n (i := 1) dX8_play_106 rfl rfl ?_
          refine v_iconst (v := nI 2) dX8_play_107 k_iconst_2 ?_
          refine vn_icmp_ne (tgt := 130) dX8_play_108 rfl (by omega) (by omega) (fun c108 => ?_) (fun c108 => ?_)
          · refine v_iload_n (i := 1) dX8_play_130 rfl rfl ?_
            refine v_bipush (v := nI 8) dX8_play_131 k_bipush_8 ?_
            refine vn_icmp_ge (tgt := 146) dX8_play_133 rfl (by omega) (by omega) (fun c133 => ?_) (fun c133 => ?_)
            · refine v_iload_n (i := 3) dX8_play_146 rfl rfl ?_
              refine v_iconst (v := nI 2) dX8_play_147 k_iconst_2 ?_
              refine v_iload_n (i := 1) dX8_play_148 rfl rfl ?_
              refine v_bipush (v := nI 8) dX8_play_149 k_bipush_8 ?_
              refine vn_isub (by omega) dX8_play_151 ?_
              refine vn_imul dX8_play_152 ?_
              refine vn_ishr (by omega) (by omega) dX8_play_153 ?_
              refine v_iconst (v := nI 3) dX8_play_154 k_iconst_3 ?_
              refine vn_and3 dX8_play_155 ?_
              exact v_iret rfl dX8_play_156 ⟨_, rfl, sN σ 0 0, rfl, hG, fun q => (by rw [hE, if_neg (by omega), if_neg (by omega), if_neg (by omega), if_neg (by omega), if_pos (by omega)] at q; cases q), fun v q => (by rw [hE, if_neg (by omega), if_neg (by omega), if_neg (by omega), if_neg (by omega), if_pos (by omega)] at q; cases q; exact ⟨rfl, rfl⟩)⟩
            · refine v_iload_n (i := 3) dX8_play_136 rfl rfl ?_
              refine v_iload_n (i := 1) dX8_play_137 rfl rfl ?_
              refine v_iconst (v := nI 4) dX8_play_138 k_iconst_4 ?_
              refine vn_isub (by omega) dX8_play_139 ?_
              refine v_callSi (cM_boatIn x (j - 4) (by omega) (by omega)) (lw_S q2410 q2411 q136 q2412) iX8_boatIn rfl rfl (by decide) (by decide) (Nat.le_of_ble_eq_true rfl) dX8_play_140 ?_
              refine v_goto (tgt := 156) dX8_play_143 rfl ?_
              exact v_iret rfl dX8_play_156 ⟨_, rfl, sN σ 0 0, rfl, hG, fun q => (by rw [hE, if_neg (by omega), if_neg (by omega), if_neg (by omega), if_pos (by omega)] at q; cases q), fun v q => (by rw [hE, if_neg (by omega), if_neg (by omega), if_neg (by omega), if_pos (by omega)] at q; cases q; exact ⟨rfl, rfl⟩)⟩
          · refine v_aload_n (i := 0) dX8_play_111 rfl rfl ?_
            refine mg_lampAt rfl dX8_play_112 ?_
            refine v_iconst (v := -1) dX8_play_115 k_iconst_m1 ?_
            refine vo_icmp_ne (tgt := 123) dX8_play_116 rfl (show gN σ 5 < _ by omega) (fun c116 => ?_) (fun c116 => ?_)
            · have c116 : ¬ tN A.1 33 = 0 := by rw [← hLa]; exact c116
              refine v_iload_n (i := 3) dX8_play_123 rfl rfl ?_
              refine v_bipush (v := nI 20) dX8_play_124 k_bipush_20 ?_
              refine vn_ishr (by omega) (by decide) dX8_play_126 ?_
              refine v_iconst (v := nI 3) dX8_play_127 k_iconst_3 ?_
              refine vn_and3 dX8_play_128 ?_
              exact v_iret rfl dX8_play_129 ⟨_, rfl, sN σ 0 0, rfl, hG, fun q => (by rw [hE, if_neg (by omega), if_neg (by omega), if_pos (by omega), if_neg c116] at q; cases q), fun v q => (by rw [hE, if_neg (by omega), if_neg (by omega), if_pos (by omega), if_neg c116] at q; cases q; exact ⟨rfl, rfl⟩)⟩
            · have c116 : tN A.1 33 = 0 := by rw [← hLa]; exact c116
              refine v_iconst (v := -1) dX8_play_119 k_iconst_m1 ?_
              refine v_goto (tgt := 129) dX8_play_120 rfl ?_
              exact v_iret rfl dX8_play_129 ⟨_, rfl, sN σ 0 0, rfl, hG, fun q => (by rw [hE, if_neg (by omega), if_neg (by omega), if_pos (by omega), if_pos c116] at q; cases q), fun v q => (by rw [hE, if_neg (by omega), if_neg (by omega), if_pos (by omega), if_pos c116] at q; cases q; exact ⟨rfl, rfl⟩)⟩
        · refine v_aload_n (i := 0) dX8_play_92 rfl rfl ?_
          refine v_iload_n (i := 3) dX8_play_93 rfl rfl ?_
          refine v_callVi (cX_isGoal hap (sN σ 0 0) A.1 _ _ 0 hW x (by omega)) (lw_V q2439 q2441 qs101 q136 q2442) iX8_isGoal rfl KX8 MH_m rfl rfl (by decide) (by decide) (Nat.le_of_ble_eq_true rfl) dX8_play_94 ?_
          refine vn_if_eq (tgt := 104) dX8_play_97 rfl (by split <;> decide) (fun c97 => ?_) (fun c97 => ?_)
          · have c97 : ¬ goalT A.1 x := fun q => by rw [if_pos q] at c97; exact absurd c97 (by decide)
            refine v_iconst (v := nI 0) dX8_play_104 k_iconst_0 ?_
            exact v_iret rfl dX8_play_105 ⟨_, rfl, sN σ 0 0, rfl, hG, fun q => (by rw [hE, if_neg (by omega), if_pos (by omega)] at q; cases q), fun v q => (by rw [hE, if_neg (by omega), if_pos (by omega)] at q; cases q; exact ⟨by rw [if_neg c97], rfl⟩)⟩
          · have c97 : goalT A.1 x := Classical.byContradiction fun q => by rw [if_neg q] at c97; exact c97 rfl
            refine v_iconst (v := nI 1) dX8_play_100 k_iconst_1 ?_
            refine v_goto (tgt := 105) dX8_play_101 rfl ?_
            exact v_iret rfl dX8_play_105 ⟨_, rfl, sN σ 0 0, rfl, hG, fun q => (by rw [hE, if_neg (by omega), if_pos (by omega)] at q; cases q), fun v q => (by rw [hE, if_neg (by omega), if_pos (by omega)] at q; cases q; exact ⟨by rw [if_pos c97], rfl⟩)⟩
      · refine v_aload_n (i := 0) dX8_play_77 rfl rfl ?_
        refine mg_playMinutes rfl dX8_play_78 ?_
        refine v_aload_n (i := 0) dX8_play_81 rfl rfl ?_
        refine mg_made rfl dX8_play_82 ?_
        refine ml_playMinutes hap (show gN σ 84 < 61 by omega) dX8_play_85 ?_
        exact v_iret rfl dX8_play_86 ⟨_, rfl, sN σ 0 0, rfl, hG, fun q => (by rw [hE, if_pos (by omega)] at q; cases q), fun v q => (by rw [hE, if_pos (by omega)] at q; cases q; exact ⟨congrArg nI (by show gA σ 87 (gN σ 84) = _; rw [p1]; exact hp.2.2), rfl⟩)⟩
    · exact absurd c58 (by decide)
  · have c11 : ¬ j < 3 := fun q => by rw [if_pos (by omega)] at c11; exact absurd c11 (by decide)
    refine v_iload_n (i := 1) dX8_play_14 rfl rfl ?_
    refine v_iconst (v := nI 4) dX8_play_15 k_iconst_4 ?_
    refine vn_icmp_lt (tgt := 29) dX8_play_16 rfl (by omega) (by omega) (fun c16 => ?_) (fun c16 => ?_)
    · refine v_iload_n (i := 1) dX8_play_29 rfl rfl ?_
      refine v_bipush (v := nI 8) dX8_play_30 k_bipush_8 ?_
      refine vn_icmp_lt (tgt := 50) dX8_play_32 rfl (by omega) (by omega) (fun c32 => ?_) (fun c32 => ?_)
      · refine v_iconst (v := nI 0) dX8_play_50 k_iconst_0 ?_
        refine v_istore_n (i := 2) dX8_play_51 rfl (by decide) rfl ?_
        refine v_aload_n (i := 0) dX8_play_52 rfl rfl ?_
        refine v_iload_n (i := 2) dX8_play_53 rfl rfl ?_
        refine v_iconst (v := nI 1) dX8_play_54 k_iconst_1 ?_
        refine v_callVi (cM_right0 hap σ) (lw_V q2197 q2199 qs56 q136 q2200) iX8_right rfl KX8 MH_m rfl rfl (by decide) (by decide) (Nat.le_of_ble_eq_true rfl) dX8_play_55 ?_
        refine vn_if_ne (tgt := 63) dX8_play_58 rfl (by decide) (fun c58 => ?_) (fun c58 => ?_)
        · exact absurd rfl c58
        · refine v_iconst (v := nI 0) dX8_play_61 k_iconst_0 ?_
          exact v_iret rfl dX8_play_62 ⟨_, rfl, sN σ 0 1, rfl, hG, fun _ => rfl, fun v q => (by rw [hE, if_neg (by omega), if_neg (by omega), if_neg (by omega), if_neg (by omega), if_neg (by omega)] at q; cases q)⟩
      · refine v_iload_n (i := 1) dX8_play_35 rfl rfl ?_
        refine v_bipush (v := nI 8) dX8_play_36 k_bipush_8 ?_
        refine v_aload_n (i := 0) dX8_play_38 rfl rfl ?_
        refine mg_things rfl dX8_play_39 ?_
        refine vn_iadd dX8_play_42 ?_
        refine vn_icmp_ge (tgt := 50) dX8_play_43 rfl (by omega) (show 8 + gN σ 2 < _ by omega) (fun c43 => ?_) (fun c43 => ?_)
        · have c43 : 8 + gN σ 2 ≤ j := c43
          refine v_iconst (v := nI 0) dX8_play_50 k_iconst_0 ?_
          refine v_istore_n (i := 2) dX8_play_51 rfl (by decide) rfl ?_
          refine v_aload_n (i := 0) dX8_play_52 rfl rfl ?_
          refine v_iload_n (i := 2) dX8_play_53 rfl rfl ?_
          refine v_iconst (v := nI 1) dX8_play_54 k_iconst_1 ?_
          refine v_callVi (cM_right0 hap σ) (lw_V q2197 q2199 qs56 q136 q2200) iX8_right rfl KX8 MH_m rfl rfl (by decide) (by decide) (Nat.le_of_ble_eq_true rfl) dX8_play_55 ?_
          refine vn_if_ne (tgt := 63) dX8_play_58 rfl (by decide) (fun c58 => ?_) (fun c58 => ?_)
          · exact absurd rfl c58
          · refine v_iconst (v := nI 0) dX8_play_61 k_iconst_0 ?_
            exact v_iret rfl dX8_play_62 ⟨_, rfl, sN σ 0 1, rfl, hG, fun _ => rfl, fun v q => (by rw [hE, if_neg (by omega), if_neg (by omega), if_neg (by omega), if_neg (by omega), if_neg (by omega)] at q; cases q)⟩
        · have c43 : j < 8 + gN σ 2 := c43
          refine v_iconst (v := nI 1) dX8_play_46 k_iconst_1 ?_
          refine v_goto (tgt := 51) dX8_play_47 rfl ?_
          refine v_istore_n (i := 2) dX8_play_51 rfl (by decide) rfl ?_
          refine v_aload_n (i := 0) dX8_play_52 rfl rfl ?_
          refine v_iload_n (i := 2) dX8_play_53 rfl rfl ?_
          refine v_iconst (v := nI 1) dX8_play_54 k_iconst_1 ?_
          refine v_callVi (cM_right1 hap σ) (lw_V q2197 q2199 qs56 q136 q2200) iX8_right rfl KX8 MH_m rfl rfl (by decide) (by decide) (Nat.le_of_ble_eq_true rfl) dX8_play_55 ?_
          refine vn_if_ne (tgt := 63) dX8_play_58 rfl (by decide) (fun c58 => ?_) (fun c58 => ?_)
          · refine v_aload_n (i := 0) dX8_play_63 rfl rfl ?_
            refine mg_playState rfl dX8_play_64 ?_
            refine v_aload_n (i := 0) dX8_play_67 rfl rfl ?_
            refine mg_made rfl dX8_play_68 ?_
            refine ml_playState hap (show gN σ 84 < 61 by omega) dX8_play_71 ?_
            refine v_top (show _ = nI x from congrArg nI (by show gA σ 86 (gN σ 84) = x; rw [p1]; exact hp.1)) ?_
            refine v_istore_n (i := 3) dX8_play_72 rfl (by decide) rfl ?_
            refine v_iload_n (i := 1) dX8_play_73 rfl rfl ?_
            refine vn_if_ne (tgt := 87) dX8_play_74 rfl (by omega) (fun c74 => ?_) (fun c74 => ?_)
            · refine v_iload_n (i := 1) dX8_play_87 rfl rfl ?_
              refine v_iconst (v := nI 1) dX8_play_88 k_iconst_1 ?_
              refine vn_icmp_ne (tgt := 106) dX8_play_89 rfl (by omega) (by omega) (fun c89 => ?_) (fun c89 => ?_)
              · refine v_iload_n (i := 1) dX8_play_106 rfl rfl ?_
                refine v_iconst (v := nI 2) dX8_play_107 k_iconst_2 ?_
                refine vn_icmp_ne (tgt := 130) dX8_play_108 rfl (by omega) (by omega) (fun c108 => ?_) (fun c108 => ?_)
                · refine v_iload_n (i := 1) dX8_play_130 rfl rfl ?_
                  refine v_bipush (v := nI 8) dX8_play_131 k_bipush_8 ?_
                  refine vn_icmp_ge (tgt := 146) dX8_play_133 rfl (by omega) (by omega) (fun c133 => ?_) (fun c133 => ?_)
                  · refine v_iload_n (i := 3) dX8_play_146 rfl rfl ?_
                    refine v_iconst (v := nI 2) dX8_play_147 k_iconst_2 ?_
                    refine v_iload_n (i := 1) dX8_play_148 rfl rfl ?_
                    refine v_bipush (v := nI 8) dX8_play_149 k_bipush_8 ?_
                    refine vn_isub (by omega) dX8_play_151 ?_
                    refine vn_imul dX8_play_152 ?_
                    refine vn_ishr (by omega) (by omega) dX8_play_153 ?_
                    refine v_iconst (v := nI 3) dX8_play_154 k_iconst_3 ?_
                    refine vn_and3 dX8_play_155 ?_
                    exact v_iret rfl dX8_play_156 ⟨_, rfl, sN σ 0 0, rfl, hG, fun q => (by rw [hE, if_neg (by omega), if_neg (by omega), if_neg (by omega), if_neg (by omega), if_pos (by omega)] at q; cases q), fun v q => (by rw [hE, if_neg (by omega), if_neg (by omega), if_neg (by omega), if_neg (by omega), if_pos (by omega)] at q; cases q; exact ⟨rfl, rfl⟩)⟩
                  · refine v_iload_n (i := 3) dX8_play_136 rfl rfl ?_
                    refine v_iload_n (i := 1) dX8_play_137 rfl rfl ?_
                    refine v_iconst (v := nI 4) dX8_play_138 k_iconst_4 ?_
                    refine vn_isub (by omega) dX8_play_139 ?_
                    refine v_callSi (cM_boatIn x (j - 4) (by omega) (by omega)) (lw_S q2410 q2411 q136 q2412) iX8_boatIn rfl rfl (by decide) (by decide) (Nat.le_of_ble_eq_true rfl) dX8_play_140 ?_
                    refine v_goto (tgt := 156) dX8_play_143 rfl ?_
                    exact v_iret rfl dX8_play_156 ⟨_, rfl, sN σ 0 0, rfl, hG, fun q => (by rw [hE, if_neg (by omega), if_neg (by omega), if_neg (by omega), if_pos (by omega)] at q; cases q), fun v q => (by rw [hE, if_neg (by omega), if_neg (by omega), if_neg (by omega), if_pos (by omega)] at q; cases q; exact ⟨rfl, rfl⟩)⟩
                · refine v_aload_n (i := 0) dX8_play_111 rfl rfl ?_
                  refine mg_lampAt rfl dX8_play_112 ?_
                  refine v_iconst (v := -1) dX8_play_115 k_iconst_m1 ?_
                  refine vo_icmp_ne (tgt := 123) dX8_play_116 rfl (show gN σ 5 < _ by omega) (fun c116 => ?_) (fun c116 => ?_)
                  · have c116 : ¬ tN A.1 33 = 0 := by rw [← hLa]; exact c116
                    refine v_iload_n (i := 3) dX8_play_123 rfl rfl ?_
                    refine v_bipush (v := nI 20) dX8_play_124 k_bipush_20 ?_
                    refine vn_ishr (by omega) (by decide) dX8_play_126 ?_
                    refine v_iconst (v := nI 3) dX8_play_127 k_iconst_3 ?_
                    refine vn_and3 dX8_play_128 ?_
                    exact v_iret rfl dX8_play_129 ⟨_, rfl, sN σ 0 0, rfl, hG, fun q => (by rw [hE, if_neg (by omega), if_neg (by omega), if_pos (by omega), if_neg c116] at q; cases q), fun v q => (by rw [hE, if_neg (by omega), if_neg (by omega), if_pos (by omega), if_neg c116] at q; cases q; exact ⟨rfl, rfl⟩)⟩
                  · have c116 : tN A.1 33 = 0 := by rw [← hLa]; exact c116
                    refine v_iconst (v := -1) dX8_play_119 k_iconst_m1 ?_
                    refine v_goto (tgt := 129) dX8_play_120 rfl ?_
                    exact v_iret rfl dX8_play_129 ⟨_, rfl, sN σ 0 0, rfl, hG, fun q => (by rw [hE, if_neg (by omega), if_neg (by omega), if_pos (by omega), if_pos c116] at q; cases q), fun v q => (by rw [hE, if_neg (by omega), if_neg (by omega), if_pos (by omega), if_pos c116] at q; cases q; exact ⟨rfl, rfl⟩)⟩
              · refine v_aload_n (i := 0) dX8_play_92 rfl rfl ?_
                refine v_iload_n (i := 3) dX8_play_93 rfl rfl ?_
                refine v_callVi (cX_isGoal hap (sN σ 0 0) A.1 _ _ 0 hW x (by omega)) (lw_V q2439 q2441 qs101 q136 q2442) iX8_isGoal rfl KX8 MH_m rfl rfl (by decide) (by decide) (Nat.le_of_ble_eq_true rfl) dX8_play_94 ?_
                refine vn_if_eq (tgt := 104) dX8_play_97 rfl (by split <;> decide) (fun c97 => ?_) (fun c97 => ?_)
                · have c97 : ¬ goalT A.1 x := fun q => by rw [if_pos q] at c97; exact absurd c97 (by decide)
                  refine v_iconst (v := nI 0) dX8_play_104 k_iconst_0 ?_
                  exact v_iret rfl dX8_play_105 ⟨_, rfl, sN σ 0 0, rfl, hG, fun q => (by rw [hE, if_neg (by omega), if_pos (by omega)] at q; cases q), fun v q => (by rw [hE, if_neg (by omega), if_pos (by omega)] at q; cases q; exact ⟨by rw [if_neg c97], rfl⟩)⟩
                · have c97 : goalT A.1 x := Classical.byContradiction fun q => by rw [if_neg q] at c97; exact c97 rfl
                  refine v_iconst (v := nI 1) dX8_play_100 k_iconst_1 ?_
                  refine v_goto (tgt := 105) dX8_play_101 rfl ?_
                  exact v_iret rfl dX8_play_105 ⟨_, rfl, sN σ 0 0, rfl, hG, fun q => (by rw [hE, if_neg (by omega), if_pos (by omega)] at q; cases q), fun v q => (by rw [hE, if_neg (by omega), if_pos (by omega)] at q; cases q; exact ⟨by rw [if_pos c97], rfl⟩)⟩
            · refine v_aload_n (i := 0) dX8_play_77 rfl rfl ?_
              refine mg_playMinutes rfl dX8_play_78 ?_
              refine v_aload_n (i := 0) dX8_play_81 rfl rfl ?_
              refine mg_made rfl dX8_play_82 ?_
              refine ml_playMinutes hap (show gN σ 84 < 61 by omega) dX8_play_85 ?_
              exact v_iret rfl dX8_play_86 ⟨_, rfl, sN σ 0 0, rfl, hG, fun q => (by rw [hE, if_pos (by omega)] at q; cases q), fun v q => (by rw [hE, if_pos (by omega)] at q; cases q; exact ⟨congrArg nI (by show gA σ 87 (gN σ 84) = _; rw [p1]; exact hp.2.2), rfl⟩)⟩
          · exact absurd c58 (by decide)
    · refine v_iload_n (i := 1) dX8_play_19 rfl rfl ?_
      refine v_iconst (v := nI 4) dX8_play_20 k_iconst_4 ?_
      refine v_aload_n (i := 0) dX8_play_21 rfl rfl ?_
      refine mg_boats rfl dX8_play_22 ?_
      refine vn_iadd dX8_play_25 ?_
      refine vn_icmp_lt (tgt := 46) dX8_play_26 rfl (by omega) (show 4 + gN σ 3 < _ by omega) (fun c26 => ?_) (fun c26 => ?_)
      · have c26 : j < 4 + gN σ 3 := c26
        refine v_iconst (v := nI 1) dX8_play_46 k_iconst_1 ?_
        refine v_goto (tgt := 51) dX8_play_47 rfl ?_
        refine v_istore_n (i := 2) dX8_play_51 rfl (by decide) rfl ?_
        refine v_aload_n (i := 0) dX8_play_52 rfl rfl ?_
        refine v_iload_n (i := 2) dX8_play_53 rfl rfl ?_
        refine v_iconst (v := nI 1) dX8_play_54 k_iconst_1 ?_
        refine v_callVi (cM_right1 hap σ) (lw_V q2197 q2199 qs56 q136 q2200) iX8_right rfl KX8 MH_m rfl rfl (by decide) (by decide) (Nat.le_of_ble_eq_true rfl) dX8_play_55 ?_
        refine vn_if_ne (tgt := 63) dX8_play_58 rfl (by decide) (fun c58 => ?_) (fun c58 => ?_)
        · refine v_aload_n (i := 0) dX8_play_63 rfl rfl ?_
          refine mg_playState rfl dX8_play_64 ?_
          refine v_aload_n (i := 0) dX8_play_67 rfl rfl ?_
          refine mg_made rfl dX8_play_68 ?_
          refine ml_playState hap (show gN σ 84 < 61 by omega) dX8_play_71 ?_
          refine v_top (show _ = nI x from congrArg nI (by show gA σ 86 (gN σ 84) = x; rw [p1]; exact hp.1)) ?_
          refine v_istore_n (i := 3) dX8_play_72 rfl (by decide) rfl ?_
          refine v_iload_n (i := 1) dX8_play_73 rfl rfl ?_
          refine vn_if_ne (tgt := 87) dX8_play_74 rfl (by omega) (fun c74 => ?_) (fun c74 => ?_)
          · refine v_iload_n (i := 1) dX8_play_87 rfl rfl ?_
            refine v_iconst (v := nI 1) dX8_play_88 k_iconst_1 ?_
            refine vn_icmp_ne (tgt := 106) dX8_play_89 rfl (by omega) (by omega) (fun c89 => ?_) (fun c89 => ?_)
            · refine v_iload_n (i := 1) dX8_play_106 rfl rfl ?_
              refine v_iconst (v := nI 2) dX8_play_107 k_iconst_2 ?_
              refine vn_icmp_ne (tgt := 130) dX8_play_108 rfl (by omega) (by omega) (fun c108 => ?_) (fun c108 => ?_)
              · refine v_iload_n (i := 1) dX8_play_130 rfl rfl ?_
                refine v_bipush (v := nI 8) dX8_play_131 k_bipush_8 ?_
                refine vn_icmp_ge (tgt := 146) dX8_play_133 rfl (by omega) (by omega) (fun c133 => ?_) (fun c133 => ?_)
                · refine v_iload_n (i := 3) dX8_play_146 rfl rfl ?_
                  refine v_iconst (v := nI 2) dX8_play_147 k_iconst_2 ?_
                  refine v_iload_n (i := 1) dX8_play_148 rfl rfl ?_
                  refine v_bipush (v := nI 8) dX8_play_149 k_bipush_8 ?_
                  refine vn_isub (by omega) dX8_play_151 ?_
                  refine vn_imul dX8_play_152 ?_
                  refine vn_ishr (by omega) (by omega) dX8_play_153 ?_
                  refine v_iconst (v := nI 3) dX8_play_154 k_iconst_3 ?_
                  refine vn_and3 dX8_play_155 ?_
                  exact v_iret rfl dX8_play_156 ⟨_, rfl, sN σ 0 0, rfl, hG, fun q => (by rw [hE, if_neg (by omega), if_neg (by omega), if_neg (by omega), if_neg (by omega), if_pos (by omega)] at q; cases q), fun v q => (by rw [hE, if_neg (by omega), if_neg (by omega), if_neg (by omega), if_neg (by omega), if_pos (by omega)] at q; cases q; exact ⟨rfl, rfl⟩)⟩
                · refine v_iload_n (i := 3) dX8_play_136 rfl rfl ?_
                  refine v_iload_n (i := 1) dX8_play_137 rfl rfl ?_
                  refine v_iconst (v := nI 4) dX8_play_138 k_iconst_4 ?_
                  refine vn_isub (by omega) dX8_play_139 ?_
                  refine v_callSi (cM_boatIn x (j - 4) (by omega) (by omega)) (lw_S q2410 q2411 q136 q2412) iX8_boatIn rfl rfl (by decide) (by decide) (Nat.le_of_ble_eq_true rfl) dX8_play_140 ?_
                  refine v_goto (tgt := 156) dX8_play_143 rfl ?_
                  exact v_iret rfl dX8_play_156 ⟨_, rfl, sN σ 0 0, rfl, hG, fun q => (by rw [hE, if_neg (by omega), if_neg (by omega), if_neg (by omega), if_pos (by omega)] at q; cases q), fun v q => (by rw [hE, if_neg (by omega), if_neg (by omega), if_neg (by omega), if_pos (by omega)] at q; cases q; exact ⟨rfl, rfl⟩)⟩
              · refine v_aload_n (i := 0) dX8_play_111 rfl rfl ?_
                refine mg_lampAt rfl dX8_play_112 ?_
                refine v_iconst (v := -1) dX8_play_115 k_iconst_m1 ?_
                refine vo_icmp_ne (tgt := 123) dX8_play_116 rfl (show gN σ 5 < _ by omega) (fun c116 => ?_) (fun c116 => ?_)
                · have c116 : ¬ tN A.1 33 = 0 := by rw [← hLa]; exact c116
                  refine v_iload_n (i := 3) dX8_play_123 rfl rfl ?_
                  refine v_bipush (v := nI 20) dX8_play_124 k_bipush_20 ?_
                  refine vn_ishr (by omega) (by decide) dX8_play_126 ?_
                  refine v_iconst (v := nI 3) dX8_play_127 k_iconst_3 ?_
                  refine vn_and3 dX8_play_128 ?_
                  exact v_iret rfl dX8_play_129 ⟨_, rfl, sN σ 0 0, rfl, hG, fun q => (by rw [hE, if_neg (by omega), if_neg (by omega), if_pos (by omega), if_neg c116] at q; cases q), fun v q => (by rw [hE, if_neg (by omega), if_neg (by omega), if_pos (by omega), if_neg c116] at q; cases q; exact ⟨rfl, rfl⟩)⟩
                · have c116 : tN A.1 33 = 0 := by rw [← hLa]; exact c116
                  refine v_iconst (v := -1) dX8_play_119 k_iconst_m1 ?_
                  refine v_goto (tgt := 129) dX8_play_120 rfl ?_
                  exact v_iret rfl dX8_play_129 ⟨_, rfl, sN σ 0 0, rfl, hG, fun q => (by rw [hE, if_neg (by omega), if_neg (by omega), if_pos (by omega), if_pos c116] at q; cases q), fun v q => (by rw [hE, if_neg (by omega), if_neg (by omega), if_pos (by omega), if_pos c116] at q; cases q; exact ⟨rfl, rfl⟩)⟩
            · refine v_aload_n (i := 0) dX8_play_92 rfl rfl ?_
              refine v_iload_n (i := 3) dX8_play_93 rfl rfl ?_
              refine v_callVi (cX_isGoal hap (sN σ 0 0) A.1 _ _ 0 hW x (by omega)) (lw_V q2439 q2441 qs101 q136 q2442) iX8_isGoal rfl KX8 MH_m rfl rfl (by decide) (by decide) (Nat.le_of_ble_eq_true rfl) dX8_play_94 ?_
              refine vn_if_eq (tgt := 104) dX8_play_97 rfl (by split <;> decide) (fun c97 => ?_) (fun c97 => ?_)
              · have c97 : ¬ goalT A.1 x := fun q => by rw [if_pos q] at c97; exact absurd c97 (by decide)
                refine v_iconst (v := nI 0) dX8_play_104 k_iconst_0 ?_
                exact v_iret rfl dX8_play_105 ⟨_, rfl, sN σ 0 0, rfl, hG, fun q => (by rw [hE, if_neg (by omega), if_pos (by omega)] at q; cases q), fun v q => (by rw [hE, if_neg (by omega), if_pos (by omega)] at q; cases q; exact ⟨by rw [if_neg c97], rfl⟩)⟩
              · have c97 : goalT A.1 x := Classical.byContradiction fun q => by rw [if_neg q] at c97; exact c97 rfl
                refine v_iconst (v := nI 1) dX8_play_100 k_iconst_1 ?_
                refine v_goto (tgt := 105) dX8_play_101 rfl ?_
                exact v_iret rfl dX8_play_105 ⟨_, rfl, sN σ 0 0, rfl, hG, fun q => (by rw [hE, if_neg (by omega), if_pos (by omega)] at q; cases q), fun v q => (by rw [hE, if_neg (by omega), if_pos (by omega)] at q; cases q; exact ⟨by rw [if_pos c97], rfl⟩)⟩
          · refine v_aload_n (i := 0) dX8_play_77 rfl rfl ?_
            refine mg_playMinutes rfl dX8_play_78 ?_
            refine v_aload_n (i := 0) dX8_play_81 rfl rfl ?_
            refine mg_made rfl dX8_play_82 ?_
            refine ml_playMinutes hap (show gN σ 84 < 61 by omega) dX8_play_85 ?_
            exact v_iret rfl dX8_play_86 ⟨_, rfl, sN σ 0 0, rfl, hG, fun q => (by rw [hE, if_pos (by omega)] at q; cases q), fun v q => (by rw [hE, if_pos (by omega)] at q; cases q; exact ⟨congrArg nI (by show gA σ 87 (gN σ 84) = _; rw [p1]; exact hp.2.2), rfl⟩)⟩
        · exact absurd c58 (by decide)
      · have c26 : 4 + gN σ 3 ≤ j := c26
        refine v_iload_n (i := 1) dX8_play_29 rfl rfl ?_
        refine v_bipush (v := nI 8) dX8_play_30 k_bipush_8 ?_
        refine vn_icmp_lt (tgt := 50) dX8_play_32 rfl (by omega) (by omega) (fun c32 => ?_) (fun c32 => ?_)
        · refine v_iconst (v := nI 0) dX8_play_50 k_iconst_0 ?_
          refine v_istore_n (i := 2) dX8_play_51 rfl (by decide) rfl ?_
          refine v_aload_n (i := 0) dX8_play_52 rfl rfl ?_
          refine v_iload_n (i := 2) dX8_play_53 rfl rfl ?_
          refine v_iconst (v := nI 1) dX8_play_54 k_iconst_1 ?_
          refine v_callVi (cM_right0 hap σ) (lw_V q2197 q2199 qs56 q136 q2200) iX8_right rfl KX8 MH_m rfl rfl (by decide) (by decide) (Nat.le_of_ble_eq_true rfl) dX8_play_55 ?_
          refine vn_if_ne (tgt := 63) dX8_play_58 rfl (by decide) (fun c58 => ?_) (fun c58 => ?_)
          · exact absurd rfl c58
          · refine v_iconst (v := nI 0) dX8_play_61 k_iconst_0 ?_
            exact v_iret rfl dX8_play_62 ⟨_, rfl, sN σ 0 1, rfl, hG, fun _ => rfl, fun v q => (by rw [hE, if_neg (by omega), if_neg (by omega), if_neg (by omega), if_neg (by omega), if_neg (by omega)] at q; cases q)⟩
        · refine v_iload_n (i := 1) dX8_play_35 rfl rfl ?_
          refine v_bipush (v := nI 8) dX8_play_36 k_bipush_8 ?_
          refine v_aload_n (i := 0) dX8_play_38 rfl rfl ?_
          refine mg_things rfl dX8_play_39 ?_
          refine vn_iadd dX8_play_42 ?_
          refine vn_icmp_ge (tgt := 50) dX8_play_43 rfl (by omega) (show 8 + gN σ 2 < _ by omega) (fun c43 => ?_) (fun c43 => ?_)
          · have c43 : 8 + gN σ 2 ≤ j := c43
            refine v_iconst (v := nI 0) dX8_play_50 k_iconst_0 ?_
            refine v_istore_n (i := 2) dX8_play_51 rfl (by decide) rfl ?_
            refine v_aload_n (i := 0) dX8_play_52 rfl rfl ?_
            refine v_iload_n (i := 2) dX8_play_53 rfl rfl ?_
            refine v_iconst (v := nI 1) dX8_play_54 k_iconst_1 ?_
            refine v_callVi (cM_right0 hap σ) (lw_V q2197 q2199 qs56 q136 q2200) iX8_right rfl KX8 MH_m rfl rfl (by decide) (by decide) (Nat.le_of_ble_eq_true rfl) dX8_play_55 ?_
            refine vn_if_ne (tgt := 63) dX8_play_58 rfl (by decide) (fun c58 => ?_) (fun c58 => ?_)
            · exact absurd rfl c58
            · refine v_iconst (v := nI 0) dX8_play_61 k_iconst_0 ?_
              exact v_iret rfl dX8_play_62 ⟨_, rfl, sN σ 0 1, rfl, hG, fun _ => rfl, fun v q => (by rw [hE, if_neg (by omega), if_neg (by omega), if_neg (by omega), if_neg (by omega), if_neg (by omega)] at q; cases q)⟩
          · have c43 : j < 8 + gN σ 2 := c43
            refine v_iconst (v := nI 1) dX8_play_46 k_iconst_1 ?_
            refine v_goto (tgt := 51) dX8_play_47 rfl ?_
            refine v_istore_n (i := 2) dX8_play_51 rfl (by decide) rfl ?_
            refine v_aload_n (i := 0) dX8_play_52 rfl rfl ?_
            refine v_iload_n (i := 2) dX8_play_53 rfl rfl ?_
            refine v_iconst (v := nI 1) dX8_play_54 k_iconst_1 ?_
            refine v_callVi (cM_right1 hap σ) (lw_V q2197 q2199 qs56 q136 q2200) iX8_right rfl KX8 MH_m rfl rfl (by decide) (by decide) (Nat.le_of_ble_eq_true rfl) dX8_play_55 ?_
            refine vn_if_ne (tgt := 63) dX8_play_58 rfl (by decide) (fun c58 => ?_) (fun c58 => ?_)
            · refine v_aload_n (i := 0) dX8_play_63 rfl rfl ?_
              refine mg_playState rfl dX8_play_64 ?_
              refine v_aload_n (i := 0) dX8_play_67 rfl rfl ?_
              refine mg_made rfl dX8_play_68 ?_
              refine ml_playState hap (show gN σ 84 < 61 by omega) dX8_play_71 ?_
              refine v_top (show _ = nI x from congrArg nI (by show gA σ 86 (gN σ 84) = x; rw [p1]; exact hp.1)) ?_
              refine v_istore_n (i := 3) dX8_play_72 rfl (by decide) rfl ?_
              refine v_iload_n (i := 1) dX8_play_73 rfl rfl ?_
              refine vn_if_ne (tgt := 87) dX8_play_74 rfl (by omega) (fun c74 => ?_) (fun c74 => ?_)
              · refine v_iload_n (i := 1) dX8_play_87 rfl rfl ?_
                refine v_iconst (v := nI 1) dX8_play_88 k_iconst_1 ?_
                refine vn_icmp_ne (tgt := 106) dX8_play_89 rfl (by omega) (by omega) (fun c89 => ?_) (fun c89 => ?_)
                · refine v_iload_n (i := 1) dX8_play_106 rfl rfl ?_
                  refine v_iconst (v := nI 2) dX8_play_107 k_iconst_2 ?_
                  refine vn_icmp_ne (tgt := 130) dX8_play_108 rfl (by omega) (by omega) (fun c108 => ?_) (fun c108 => ?_)
                  · refine v_iload_n (i := 1) dX8_play_130 rfl rfl ?_
                    refine v_bipush (v := nI 8) dX8_play_131 k_bipush_8 ?_
                    refine vn_icmp_ge (tgt := 146) dX8_play_133 rfl (by omega) (by omega) (fun c133 => ?_) (fun c133 => ?_)
                    · refine v_iload_n (i := 3) dX8_play_146 rfl rfl ?_
                      refine v_iconst (v := nI 2) dX8_play_147 k_iconst_2 ?_
                      refine v_iload_n (i := 1) dX8_play_148 rfl rfl ?_
                      refine v_bipush (v := nI 8) dX8_play_149 k_bipush_8 ?_
                      refine vn_isub (by omega) dX8_play_151 ?_
                      refine vn_imul dX8_play_152 ?_
                      refine vn_ishr (by omega) (by omega) dX8_play_153 ?_
                      refine v_iconst (v := nI 3) dX8_play_154 k_iconst_3 ?_
                      refine vn_and3 dX8_play_155 ?_
                      exact v_iret rfl dX8_play_156 ⟨_, rfl, sN σ 0 0, rfl, hG, fun q => (by rw [hE, if_neg (by omega), if_neg (by omega), if_neg (by omega), if_neg (by omega), if_pos (by omega)] at q; cases q), fun v q => (by rw [hE, if_neg (by omega), if_neg (by omega), if_neg (by omega), if_neg (by omega), if_pos (by omega)] at q; cases q; exact ⟨rfl, rfl⟩)⟩
                    · refine v_iload_n (i := 3) dX8_play_136 rfl rfl ?_
                      refine v_iload_n (i := 1) dX8_play_137 rfl rfl ?_
                      refine v_iconst (v := nI 4) dX8_play_138 k_iconst_4 ?_
                      refine vn_isub (by omega) dX8_play_139 ?_
                      refine v_callSi (cM_boatIn x (j - 4) (by omega) (by omega)) (lw_S q2410 q2411 q136 q2412) iX8_boatIn rfl rfl (by decide) (by decide) (Nat.le_of_ble_eq_true rfl) dX8_play_140 ?_
                      refine v_goto (tgt := 156) dX8_play_143 rfl ?_
                      exact v_iret rfl dX8_play_156 ⟨_, rfl, sN σ 0 0, rfl, hG, fun q => (by rw [hE, if_neg (by omega), if_neg (by omega), if_neg (by omega), if_pos (by omega)] at q; cases q), fun v q => (by rw [hE, if_neg (by omega), if_neg (by omega), if_neg (by omega), if_pos (by omega)] at q; cases q; exact ⟨rfl, rfl⟩)⟩
                  · refine v_aload_n (i := 0) dX8_play_111 rfl rfl ?_
                    refine mg_lampAt rfl dX8_play_112 ?_
                    refine v_iconst (v := -1) dX8_play_115 k_iconst_m1 ?_
                    refine vo_icmp_ne (tgt := 123) dX8_play_116 rfl (show gN σ 5 < _ by omega) (fun c116 => ?_) (fun c116 => ?_)
                    · have c116 : ¬ tN A.1 33 = 0 := by rw [← hLa]; exact c116
                      refine v_iload_n (i := 3) dX8_play_123 rfl rfl ?_
                      refine v_bipush (v := nI 20) dX8_play_124 k_bipush_20 ?_
                      refine vn_ishr (by omega) (by decide) dX8_play_126 ?_
                      refine v_iconst (v := nI 3) dX8_play_127 k_iconst_3 ?_
                      refine vn_and3 dX8_play_128 ?_
                      exact v_iret rfl dX8_play_129 ⟨_, rfl, sN σ 0 0, rfl, hG, fun q => (by rw [hE, if_neg (by omega), if_neg (by omega), if_pos (by omega), if_neg c116] at q; cases q), fun v q => (by rw [hE, if_neg (by omega), if_neg (by omega), if_pos (by omega), if_neg c116] at q; cases q; exact ⟨rfl, rfl⟩)⟩
                    · have c116 : tN A.1 33 = 0 := by rw [← hLa]; exact c116
                      refine v_iconst (v := -1) dX8_play_119 k_iconst_m1 ?_
                      refine v_goto (tgt := 129) dX8_play_120 rfl ?_
                      exact v_iret rfl dX8_play_129 ⟨_, rfl, sN σ 0 0, rfl, hG, fun q => (by rw [hE, if_neg (by omega), if_neg (by omega), if_pos (by omega), if_pos c116] at q; cases q), fun v q => (by rw [hE, if_neg (by omega), if_neg (by omega), if_pos (by omega), if_pos c116] at q; cases q; exact ⟨rfl, rfl⟩)⟩
                · refine v_aload_n (i := 0) dX8_play_92 rfl rfl ?_
                  refine v_iload_n (i := 3) dX8_play_93 rfl rfl ?_
                  refine v_callVi (cX_isGoal hap (sN σ 0 0) A.1 _ _ 0 hW x (by omega)) (lw_V q2439 q2441 qs101 q136 q2442) iX8_isGoal rfl KX8 MH_m rfl rfl (by decide) (by decide) (Nat.le_of_ble_eq_true rfl) dX8_play_94 ?_
                  refine vn_if_eq (tgt := 104) dX8_play_97 rfl (by split <;> decide) (fun c97 => ?_) (fun c97 => ?_)
                  · have c97 : ¬ goalT A.1 x := fun q => by rw [if_pos q] at c97; exact absurd c97 (by decide)
                    refine v_iconst (v := nI 0) dX8_play_104 k_iconst_0 ?_
                    exact v_iret rfl dX8_play_105 ⟨_, rfl, sN σ 0 0, rfl, hG, fun q => (by rw [hE, if_neg (by omega), if_pos (by omega)] at q; cases q), fun v q => (by rw [hE, if_neg (by omega), if_pos (by omega)] at q; cases q; exact ⟨by rw [if_neg c97], rfl⟩)⟩
                  · have c97 : goalT A.1 x := Classical.byContradiction fun q => by rw [if_neg q] at c97; exact c97 rfl
                    refine v_iconst (v := nI 1) dX8_play_100 k_iconst_1 ?_
                    refine v_goto (tgt := 105) dX8_play_101 rfl ?_
                    exact v_iret rfl dX8_play_105 ⟨_, rfl, sN σ 0 0, rfl, hG, fun q => (by rw [hE, if_neg (by omega), if_pos (by omega)] at q; cases q), fun v q => (by rw [hE, if_neg (by omega), if_pos (by omega)] at q; cases q; exact ⟨by rw [if_pos c97], rfl⟩)⟩
              · refine v_aload_n (i := 0) dX8_play_77 rfl rfl ?_
                refine mg_playMinutes rfl dX8_play_78 ?_
                refine v_aload_n (i := 0) dX8_play_81 rfl rfl ?_
                refine mg_made rfl dX8_play_82 ?_
                refine ml_playMinutes hap (show gN σ 84 < 61 by omega) dX8_play_85 ?_
                exact v_iret rfl dX8_play_86 ⟨_, rfl, sN σ 0 0, rfl, hG, fun q => (by rw [hE, if_pos (by omega)] at q; cases q), fun v q => (by rw [hE, if_pos (by omega)] at q; cases q; exact ⟨congrArg nI (by show gA σ 87 (gN σ 84) = _; rw [p1]; exact hp.2.2), rfl⟩)⟩
            · exact absurd c58 (by decide)
