theorem cM_works {G : Gl} {η : AH} (act : Nat) (a b : Int32) (h4 : 4 ≤ act) (h11 : act ≤ 11) : Ct G yX8_works cX8_works 3 (some .int) 1 0 0 [.int (nI act), .int a, .int b] η (re (some (.int (wkI act a b))) η) := by
  refine Ct.start rfl rfl (Nat.le_of_ble_eq_true rfl) (fun Γ => ?_)
  refine v_iload_n (i := 0) dX8_works_0 rfl rfl ?_
  rcases (show act = 4 ∨ act = 5 ∨ act = 6 ∨ act = 7 ∨ act = 8 ∨ act = 9 ∨ act = 10 ∨ act = 11 by omega) with rfl | rfl | rfl | rfl | rfl | rfl | rfl | rfl
  · refine v_tableIn (off := 43) (tgt := 44) dX8_works_1 (by decide) (by decide) (by decide) rfl ?_
    refine v_iload_n (i := 1) dX8_works_44 rfl rfl ?_
    refine v_if_eq (tgt := 56) dX8_works_45 rfl (fun c45 => ?_) (fun c45 => ?_)
    · refine v_iconst (v := nI 0) dX8_works_56 k_iconst_0 ?_
      exact v_iret rfl dX8_works_57 ⟨by simp_all [wkI, nI_0] <;> rfl, rfl⟩
    · refine v_iload_n (i := 2) dX8_works_48 rfl rfl ?_
      refine v_if_eq (tgt := 56) dX8_works_49 rfl (fun c49 => ?_) (fun c49 => ?_)
      · refine v_iconst (v := nI 0) dX8_works_56 k_iconst_0 ?_
        exact v_iret rfl dX8_works_57 ⟨by simp_all [wkI, nI_0] <;> rfl, rfl⟩
      · refine v_iconst (v := nI 1) dX8_works_52 k_iconst_1 ?_
        refine v_goto (tgt := 57) dX8_works_53 rfl ?_
        exact v_iret rfl dX8_works_57 ⟨by simp_all [wkI, nI_0] <;> rfl, rfl⟩
  · refine v_tableIn (off := 57) (tgt := 58) dX8_works_1 (by decide) (by decide) (by decide) rfl ?_
    refine v_iload_n (i := 1) dX8_works_58 rfl rfl ?_
    refine v_if_ne (tgt := 66) dX8_works_59 rfl (fun c59 => ?_) (fun c59 => ?_)
    · refine v_iconst (v := nI 1) dX8_works_66 k_iconst_1 ?_
      refine v_goto (tgt := 71) dX8_works_67 rfl ?_
      exact v_iret rfl dX8_works_71 ⟨by simp_all [wkI, nI_0] <;> rfl, rfl⟩
    · refine v_iload_n (i := 2) dX8_works_62 rfl rfl ?_
      refine v_if_eq (tgt := 70) dX8_works_63 rfl (fun c63 => ?_) (fun c63 => ?_)
      · refine v_iconst (v := nI 0) dX8_works_70 k_iconst_0 ?_
        exact v_iret rfl dX8_works_71 ⟨by simp_all [wkI, nI_0] <;> rfl, rfl⟩
      · refine v_iconst (v := nI 1) dX8_works_66 k_iconst_1 ?_
        refine v_goto (tgt := 71) dX8_works_67 rfl ?_
        exact v_iret rfl dX8_works_71 ⟨by simp_all [wkI, nI_0] <;> rfl, rfl⟩
  · refine v_tableIn (off := 71) (tgt := 72) dX8_works_1 (by decide) (by decide) (by decide) rfl ?_
    refine v_iload_n (i := 1) dX8_works_72 rfl rfl ?_
    refine v_iload_n (i := 2) dX8_works_73 rfl rfl ?_
    refine v_icmp_ge (tgt := 81) dX8_works_74 rfl (fun c74 => ?_) (fun c74 => ?_)
    · refine v_iconst (v := nI 0) dX8_works_81 k_iconst_0 ?_
      exact v_iret rfl dX8_works_82 ⟨by simp_all [wkI, nI_0] <;> rfl, rfl⟩
    · refine v_iconst (v := nI 1) dX8_works_77 k_iconst_1 ?_
      refine v_goto (tgt := 82) dX8_works_78 rfl ?_
      exact v_iret rfl dX8_works_82 ⟨by simp_all [wkI, nI_0] <;> rfl, rfl⟩
  · refine v_tableIn (off := 82) (tgt := 83) dX8_works_1 (by decide) (by decide) (by decide) rfl ?_
    refine v_iload_n (i := 1) dX8_works_83 rfl rfl ?_
    refine v_iload_n (i := 2) dX8_works_84 rfl rfl ?_
    refine v_icmp_ne (tgt := 92) dX8_works_85 rfl (fun c85 => ?_) (fun c85 => ?_)
    · refine v_iconst (v := nI 0) dX8_works_92 k_iconst_0 ?_
      exact v_iret rfl dX8_works_93 ⟨by simp_all [wkI, nI_0] <;> rfl, rfl⟩
    · refine v_iconst (v := nI 1) dX8_works_88 k_iconst_1 ?_
      refine v_goto (tgt := 93) dX8_works_89 rfl ?_
      exact v_iret rfl dX8_works_93 ⟨by simp_all [wkI, nI_0] <;> rfl, rfl⟩
  · refine v_tableIn (off := 93) (tgt := 94) dX8_works_1 (by decide) (by decide) (by decide) rfl ?_
    refine v_iload_n (i := 1) dX8_works_94 rfl rfl ?_
    refine v_iload_n (i := 2) dX8_works_95 rfl rfl ?_
    refine v_iadd dX8_works_96 ?_
    exact v_iret rfl dX8_works_97 ⟨by simp_all [wkI, nI_0] <;> rfl, rfl⟩
  · refine v_tableIn (off := 97) (tgt := 98) dX8_works_1 (by decide) (by decide) (by decide) rfl ?_
    refine v_iload_n (i := 1) dX8_works_98 rfl rfl ?_
    refine v_iload_n (i := 2) dX8_works_99 rfl rfl ?_
    refine v_isub dX8_works_100 ?_
    exact v_iret rfl dX8_works_101 ⟨by simp_all [wkI, nI_0] <;> rfl, rfl⟩
  · refine v_tableIn (off := 101) (tgt := 102) dX8_works_1 (by decide) (by decide) (by decide) rfl ?_
    refine v_iload_n (i := 1) dX8_works_102 rfl rfl ?_
    refine v_iload_n (i := 2) dX8_works_103 rfl rfl ?_
    refine v_imul dX8_works_104 ?_
    exact v_iret rfl dX8_works_105 ⟨by simp_all [wkI, nI_0] <;> rfl, rfl⟩
  · refine v_tableOut (tgt := 106) dX8_works_1 (by decide) rfl ?_
    refine v_iload_n (i := 2) dX8_works_106 rfl rfl ?_
    refine v_if_ne (tgt := 114) dX8_works_107 rfl (fun c107 => ?_) (fun c107 => ?_)
    · refine v_iload_n (i := 1) dX8_works_114 rfl rfl ?_
      refine v_iload_n (i := 2) dX8_works_115 rfl rfl ?_
      refine v_idiv dX8_works_116 c107 ?_
      exact v_iret rfl dX8_works_117 ⟨by simp_all [wkI, nI_0] <;> rfl, rfl⟩
    · refine v_iconst (v := nI 0) dX8_works_110 k_iconst_0 ?_
      refine v_goto (tgt := 117) dX8_works_111 rfl ?_
      exact v_iret rfl dX8_works_117 ⟨by simp_all [wkI, nI_0] <;> rfl, rfl⟩
theorem cM_valueOf {G : Gl} {m : Nat} {ad : Nat → Nat} {η0 : AH} (hap : Mp m ad) (σ : MS) (k s sh b l : Nat) (hk : k < 132) (hs : s < 256) (hT : gN σ 2 ≤ 8) (hm : ∀ t, t < gN σ 2 → gA σ 7 t < 2147483648) (hk2 : k < 100 → k < 32) : Ct G yX8_valueOf cX8_valueOf 6 (some .int) 2 0 0 [.ref m, .int (nI k), .int (nI s), .int (nI sh), .int (nI b), .int (nI l)] (MH m ad σ η0) (re (some (.int (nI (valM (gA σ 6) (gA σ 7) (gN σ 2) s sh b l k)))) (MH m ad σ η0)) := by
  refine Ct.start rfl rfl (Nat.le_of_ble_eq_true rfl) (fun Γ => ?_)
  refine v_iload_n (i := 1) dX8_valueOf_0 rfl rfl ?_
  refine v_bipush (v := nI 100) dX8_valueOf_1 k_bipush_100 ?_
  refine vn_icmp_ge (tgt := 12) dX8_valueOf_3 rfl (by omega) (by omega) (fun c3 => ?_) (fun c3 => ?_)
  · refine v_iload_n (i := 1) dX8_valueOf_12 rfl rfl ?_
    refine v_bipush (v := nI 100) dX8_valueOf_13 k_bipush_100 ?_
    refine vn_isub (by omega) dX8_valueOf_15 ?_
    rcases (show k = 117 ∨ k = 107 ∨ k = 118 ∨ k = 119 ∨ k = 105 ∨ (k ≠ 117 ∧ k ≠ 107 ∧ k ≠ 118 ∧ k ≠ 119 ∧ k ≠ 105) by omega) with rfl | rfl | rfl | rfl | rfl | hk5
    · refine v_tableIn (off := 76) (tgt := 92) dX8_valueOf_16 (by decide) (by decide) (by decide) rfl ?_
      refine v_iload_n (i := 2) dX8_valueOf_92 rfl rfl ?_
      refine v_callSi (cM_bits s hs) (lw_S q2340 q2341 q136 q2342) iX8_bits rfl rfl (by decide) (by decide) (Nat.le_of_ble_eq_true rfl) dX8_valueOf_93 ?_
      exact v_iret rfl dX8_valueOf_96 ⟨by simp_all [valM, bt], rfl⟩
    · refine v_tableIn (off := 81) (tgt := 97) dX8_valueOf_16 (by decide) (by decide) (by decide) rfl ?_
      refine v_aload_n (i := 0) dX8_valueOf_97 rfl rfl ?_
      refine v_iload_n (i := 2) dX8_valueOf_98 rfl rfl ?_
      refine v_aload_n (i := 0) dX8_valueOf_99 rfl rfl ?_
      refine mg_weight rfl dX8_valueOf_100 ?_
      refine v_callVi (cM_sumOf hap σ s (by omega) hT) (lw_V q2343 q2345 qs86 q136 q2346) iX8_sumOf rfl KX8 MH_m rfl rfl (by decide) (by decide) (Nat.le_of_ble_eq_true rfl) dX8_valueOf_103 ?_
      exact v_iret rfl dX8_valueOf_106 ⟨by simp_all [valM, bt], rfl⟩
    · refine v_tableIn (off := 91) (tgt := 107) dX8_valueOf_16 (by decide) (by decide) (by decide) rfl ?_
      refine v_aload_n (i := 0) dX8_valueOf_107 rfl rfl ?_
      refine v_iload_n (i := 2) dX8_valueOf_108 rfl rfl ?_
      refine v_callVi (cM_rowers hap σ s (by omega) hT hm) (lw_V q2347 q2349 qs87 q136 q2350) iX8_rowers rfl KX8 MH_m rfl rfl (by decide) (by decide) (Nat.le_of_ble_eq_true rfl) dX8_valueOf_109 ?_
      exact v_iret rfl dX8_valueOf_112 ⟨by simp_all [valM, bt], rfl⟩
    · refine v_tableIn (off := 97) (tgt := 113) dX8_valueOf_16 (by decide) (by decide) (by decide) rfl ?_
      refine v_iload (i := 4) dX8_valueOf_113 rfl ?_
      exact v_iret rfl dX8_valueOf_115 ⟨by simp_all [valM, bt], rfl⟩
    · refine v_tableIn (off := 100) (tgt := 116) dX8_valueOf_16 (by decide) (by decide) (by decide) rfl ?_
      refine v_iload (i := 5) dX8_valueOf_116 rfl ?_
      exact v_iret rfl dX8_valueOf_118 ⟨by simp_all [valM, bt], rfl⟩
    · have hd : ∀ j : Nat, j < 32 → (j = 17 ∨ j = 7 ∨ j = 18 ∨ j = 19 ∨ j = 5) ∨ ((j < 5 ∨ 19 < j) ∨ (5 ≤ j ∧ j ≤ 19 ∧ (#[100, 103, 81, 103, 103, 103, 103, 103, 103, 103, 103, 103, 76, 91, 97] : Array Int)[j - 5]? = some 103)) := by decide
      have hd := (hd (k - 100) (by omega)).resolve_left (by omega)
      rcases hd with h9 | ⟨h9, h10, h11⟩
      · refine v_tableOut (tgt := 119) dX8_valueOf_16 (by rw [nI_toInt (by omega)]; omega) rfl ?_
        refine v_iload_n (i := 3) dX8_valueOf_119 rfl rfl ?_
        exact v_iret rfl dX8_valueOf_120 ⟨by simp [valM, hk5, show ¬ k < 100 by omega], rfl⟩
      · refine v_tableIn (off := 103) (tgt := 119) dX8_valueOf_16 (by rw [nI_toInt (by omega)]; omega) (by rw [nI_toInt (by omega)]; omega) (by rw [nI_toInt (by omega), show ((k - 100 : Nat) : Int) - 5 = ((k - 100 - 5 : Nat) : Int) by omega]; exact h11) rfl ?_
        refine v_iload_n (i := 3) dX8_valueOf_119 rfl rfl ?_
        exact v_iret rfl dX8_valueOf_120 ⟨by simp [valM, hk5, show ¬ k < 100 by omega], rfl⟩
  · refine v_iload_n (i := 2) dX8_valueOf_6 rfl rfl ?_
    refine v_iload_n (i := 1) dX8_valueOf_7 rfl rfl ?_
    refine vn_ishr (by omega) (by omega) dX8_valueOf_8 ?_
    refine v_iconst (v := nI 1) dX8_valueOf_9 k_iconst_1 ?_
    refine vn_and1 dX8_valueOf_10 ?_
    exact v_iret rfl dX8_valueOf_11 ⟨by simp_all [valM, bt], rfl⟩
theorem cM_worth {G : Gl} {m : Nat} {ad : Nat → Nat} {η0 : AH} (hap : Mp m ad) (σ : MS) (n0 k0 s sh b l : Nat) (res : Int32) (hs : s < 256) (hT : gN σ 2 ≤ 8) (hm : ∀ t, t < gN σ 2 → gA σ 7 t < 2147483648) (hr : evR (gA σ 16) (valM (gA σ 6) (gA σ 7) (gN σ 2) s sh b l) n0 k0 [] = some res) : Ct G yX8_worth cX8_worth 9 (some .int) 3 0 0 [.ref m, .int (nI k0), .int (nI s), .int (nI sh), .int (nI b), .int (nI l)] (MH m ad σ η0) (ri fun r η => r = res ∧ ∃ p, η = MH m ad (stB σ 51 p) η0) := by
  refine Ct.start rfl rfl (Nat.le_of_ble_eq_true rfl) (fun Γ => ?_)
  have L : ∀ (n k : Nat) (st : List Int32) (p : Nat → Int32) (z : Option Value), evR (gA σ 16) (valM (gA σ 6) (gA σ 7) (gN σ 2) s sh b l) n k st = some res → pst p st → V G Γ yX8_worth cX8_worth 9 (some .int) [] 3 (ri fun r η => r = res ∧ ∃ p, η = MH m ad (stB σ 51 p) η0) 0 0 (MH m ad (stB σ 51 p) η0) 6 [some (.ref m), some (.int (nI k0)), some (.int (nI s)), some (.int (nI sh)), some (.int (nI b)), some (.int (nI l)), some (.int (nI st.length)), some (.int (nI k)), z] [] := by
    intro n
    induction n with
    | zero => intro k st p z h; cases h
    | succ n ih =>
      intro k st p z h hp
      unfold evR at h
      split at h
      case isFalse => cases h
      rename_i hk
      have hck : gA σ 16 k < 2147483648 := by
        by_cases hx : gA σ 16 k < 12
        · omega
        · rw [if_neg (by omega), if_neg (by omega), if_neg (by omega), if_neg (by omega), if_neg hx] at h
          cases h
      refine v_aload_n (i := 0) dX8_worth_6 rfl rfl ?_
      refine mg_code rfl dX8_worth_7 ?_
      refine v_iload (i := 7) dX8_worth_10 rfl ?_
      refine ml_code hap (by omega) dX8_worth_12 ?_
      refine vn_if_eq (tgt := 160) dX8_worth_13 rfl hck (fun c13 => ?_) (fun c13 => ?_)
      · have c13 : gA σ 16 k = 0 := c13
        rw [if_pos c13] at h
        rcases st with _ | ⟨r, _ | ⟨r2, st⟩⟩
        · cases h
        case' cons.cons => cases h
        have er : r = res := Option.some.inj h
        refine v_aload_n (i := 0) dX8_worth_160 rfl rfl ?_
        refine mg_pile rfl dX8_worth_161 ?_
        refine v_iconst (v := nI 0) dX8_worth_164 k_iconst_0 ?_
        refine ml_pile hap (by omega) dX8_worth_165 ?_
        exact v_iret rfl dX8_worth_166 ⟨_, rfl, by rw [← er, ← hp.1]; rfl, p, rfl⟩
      · have c13 : ¬ gA σ 16 k = 0 := c13
        rw [if_neg c13] at h
        refine v_aload_n (i := 0) dX8_worth_16 rfl rfl ?_
        refine mg_code rfl dX8_worth_17 ?_
        refine v_iload (i := 7) dX8_worth_20 rfl ?_
        refine ml_code hap (by omega) dX8_worth_22 ?_
        refine v_istore (i := 8) dX8_worth_23 (by decide) rfl ?_
        refine vn_iinc 1 dX8_worth_25 rfl k_iconst_1 (by decide) rfl ?_
        refine v_iload (i := 8) dX8_worth_28 rfl ?_
        refine v_iconst (v := nI 1) dX8_worth_30 k_iconst_1 ?_
        refine vn_icmp_eq (tgt := 40) dX8_worth_31 rfl hck (by omega) (fun c31 => ?_) (fun c31 => ?_)
        · have c31 : gA σ 16 k = 1 := c31
          rw [if_pos c31] at h
          split at h
          case isFalse => cases h
          rename_i hk1
          refine v_aload_n (i := 0) dX8_worth_40 rfl rfl ?_
          refine mg_pile rfl dX8_worth_41 ?_
          refine v_iload (i := 6) dX8_worth_44 rfl ?_
          refine v_iload (i := 8) dX8_worth_46 rfl ?_
          refine v_iconst (v := nI 1) dX8_worth_48 k_iconst_1 ?_
          refine vn_icmp_ne (tgt := 62) dX8_worth_49 rfl hck (by omega) (fun c49 => ?_) (fun c49 => ?_)
          · exact absurd c31 c49
          · refine v_aload_n (i := 0) dX8_worth_52 rfl rfl ?_
            refine mg_code rfl dX8_worth_53 ?_
            refine v_iload (i := 7) dX8_worth_56 rfl ?_
            refine ml_code hap (by omega) dX8_worth_58 ?_
            refine v_goto (tgt := 79) dX8_worth_59 rfl ?_
            refine ms_pile hap (by omega) dX8_worth_79 ?_
            refine vn_iinc 1 dX8_worth_80 rfl k_iconst_1 (by decide) rfl ?_
            refine vn_iinc 1 dX8_worth_83 rfl k_iconst_1 (by decide) rfl ?_
            refine v_goto (tgt := 157) dX8_worth_86 rfl ?_
            refine v_goto (tgt := 6) dX8_worth_157 rfl ?_
            rw [sB_stB]
            exact ih (k + 2) (nI (gA σ 16 (k + 1)) :: st) _ _ h (pst_push hp)
        · have c31 : ¬ gA σ 16 k = 1 := c31
          rw [if_neg c31] at h
          refine v_iload (i := 8) dX8_worth_34 rfl ?_
          refine v_iconst (v := nI 2) dX8_worth_36 k_iconst_2 ?_
          refine vn_icmp_ne (tgt := 89) dX8_worth_37 rfl hck (by omega) (fun c37 => ?_) (fun c37 => ?_)
          · have c37 : ¬ gA σ 16 k = 2 := c37
            rw [if_neg c37] at h
            refine v_iload (i := 8) dX8_worth_89 rfl ?_
            refine v_iconst (v := nI 3) dX8_worth_91 k_iconst_3 ?_
            refine vn_icmp_ne (tgt := 124) dX8_worth_92 rfl hck (by omega) (fun c92 => ?_) (fun c92 => ?_)
            · have c92 : ¬ gA σ 16 k = 3 := c92
              rw [if_neg c92] at h
              split at h
              case isFalse => cases h
              rename_i hk12
              rcases st with _ | ⟨y, _ | ⟨x, st'⟩⟩
              · cases h
              · cases h
              have h1 : (y :: x :: st').length - 1 - 1 = st'.length := rfl
              refine vn_idec 1 dX8_worth_124 rfl k_iconst_m1n (Nat.succ_le_succ (Nat.zero_le _)) (by decide) rfl ?_
              refine v_aload_n (i := 0) dX8_worth_127 rfl rfl ?_
              refine mg_pile rfl dX8_worth_128 ?_
              refine v_iload (i := 6) dX8_worth_131 rfl ?_
              refine v_iconst (v := nI 1) dX8_worth_133 k_iconst_1 ?_
              refine vn_isub (show 1 ≤ st'.length + 1 by omega) dX8_worth_134 ?_
              refine v_iload (i := 8) dX8_worth_135 rfl ?_
              refine v_aload_n (i := 0) dX8_worth_137 rfl rfl ?_
              refine mg_pile rfl dX8_worth_138 ?_
              refine v_iload (i := 6) dX8_worth_141 rfl ?_
              refine v_iconst (v := nI 1) dX8_worth_143 k_iconst_1 ?_
              refine vn_isub (show 1 ≤ st'.length + 1 by omega) dX8_worth_144 ?_
              refine ml_pile hap (by rw [h1]; simp at hk; omega) dX8_worth_145 ?_
              refine v_top (show _ = x from hp.2.1) ?_
              refine v_aload_n (i := 0) dX8_worth_146 rfl rfl ?_
              refine mg_pile rfl dX8_worth_147 ?_
              refine v_iload (i := 6) dX8_worth_150 rfl ?_
              refine ml_pile hap (show st'.length + 1 < 720 by simp at hk; omega) dX8_worth_152 ?_
              refine v_top (show _ = y from hp.1) ?_
              refine v_callSi (cM_works (gA σ 16 k) x y (by omega) (by omega)) (lw_S q2351 q2352 q136 q2353) iX8_works rfl rfl (by decide) (by decide) (Nat.le_of_ble_eq_true rfl) dX8_worth_153 ?_
              refine ms_pile hap (by rw [h1]; simp at hk; omega) dX8_worth_156 ?_
              refine v_goto (tgt := 6) dX8_worth_157 rfl ?_
              rw [sB_stB]
              exact ih (k + 1) (wkI (gA σ 16 k) x y :: st') _ _ h (pst_push hp.2.2)
            · have c92 : gA σ 16 k = 3 := c92
              rw [if_pos c92] at h
              rcases st with _ | ⟨a, st'⟩
              · cases h
              have h1 : (a :: st').length - 1 = st'.length := rfl
              have h : evR (gA σ 16) (valM (gA σ 6) (gA σ 7) (gN σ 2) s sh b l) n (k + 1) ((if a = 0 then 1 else 0) :: st') = some res := h
              refine v_aload_n (i := 0) dX8_worth_95 rfl rfl ?_
              refine mg_pile rfl dX8_worth_96 ?_
              refine v_iload (i := 6) dX8_worth_99 rfl ?_
              refine v_iconst (v := nI 1) dX8_worth_101 k_iconst_1 ?_
              refine vn_isub (Nat.succ_le_succ (Nat.zero_le _)) dX8_worth_102 ?_
              refine v_aload_n (i := 0) dX8_worth_103 rfl rfl ?_
              refine mg_pile rfl dX8_worth_104 ?_
              refine v_iload (i := 6) dX8_worth_107 rfl ?_
              refine v_iconst (v := nI 1) dX8_worth_109 k_iconst_1 ?_
              refine vn_isub (Nat.succ_le_succ (Nat.zero_le _)) dX8_worth_110 ?_
              refine ml_pile hap (by rw [h1]; simp at hk; omega) dX8_worth_111 ?_
              refine v_top (show _ = a from hp.1) ?_
              refine v_if_ne (tgt := 119) dX8_worth_112 rfl (fun c112 => ?_) (fun c112 => ?_)
              · refine v_iconst (v := nI 0) dX8_worth_119 k_iconst_0 ?_
                refine ms_pile hap (by rw [h1]; simp at hk; omega) dX8_worth_120 ?_
                refine v_goto (tgt := 157) dX8_worth_121 rfl ?_
                refine v_goto (tgt := 6) dX8_worth_157 rfl ?_
                rw [sB_stB]
                exact ih (k + 1) ((if a = 0 then 1 else 0) :: st') _ _ h (by rw [if_neg c112]; exact pst_push hp.2)
              · refine v_iconst (v := nI 1) dX8_worth_115 k_iconst_1 ?_
                refine v_goto (tgt := 120) dX8_worth_116 rfl ?_
                refine ms_pile hap (by rw [h1]; simp at hk; omega) dX8_worth_120 ?_
                refine v_goto (tgt := 157) dX8_worth_121 rfl ?_
                refine v_goto (tgt := 6) dX8_worth_157 rfl ?_
                rw [sB_stB]
                exact ih (k + 1) ((if a = 0 then 1 else 0) :: st') _ _ h (by rw [if_pos c112]; exact pst_push hp.2)
          · have c37 : gA σ 16 k = 2 := c37
            rw [if_pos c37] at h
            split at h
            case isFalse => cases h
            rename_i hk1
            refine v_aload_n (i := 0) dX8_worth_40 rfl rfl ?_
            refine mg_pile rfl dX8_worth_41 ?_
            refine v_iload (i := 6) dX8_worth_44 rfl ?_
            refine v_iload (i := 8) dX8_worth_46 rfl ?_
            refine v_iconst (v := nI 1) dX8_worth_48 k_iconst_1 ?_
            refine vn_icmp_ne (tgt := 62) dX8_worth_49 rfl hck (by omega) (fun c49 => ?_) (fun c49 => ?_)
            · refine v_aload_n (i := 0) dX8_worth_62 rfl rfl ?_
              refine v_aload_n (i := 0) dX8_worth_63 rfl rfl ?_
              refine mg_code rfl dX8_worth_64 ?_
              refine v_iload (i := 7) dX8_worth_67 rfl ?_
              refine ml_code hap (by omega) dX8_worth_69 ?_
              refine v_iload_n (i := 2) dX8_worth_70 rfl rfl ?_
              refine v_iload_n (i := 3) dX8_worth_71 rfl rfl ?_
              refine v_iload (i := 4) dX8_worth_72 rfl ?_
              refine v_iload (i := 5) dX8_worth_74 rfl ?_
              refine v_callVi (cM_valueOf hap (stB σ 51 p) (gA σ 16 (k + 1)) s sh b l hk1.1 hs hT hm hk1.2) (lw_V q2336 q2338 qs85 q136 q2339) iX8_valueOf rfl KX8 MH_m rfl rfl (by decide) (by decide) (Nat.le_of_ble_eq_true rfl) dX8_worth_76 ?_
              refine ms_pile hap (by omega) dX8_worth_79 ?_
              refine vn_iinc 1 dX8_worth_80 rfl k_iconst_1 (by decide) rfl ?_
              refine vn_iinc 1 dX8_worth_83 rfl k_iconst_1 (by decide) rfl ?_
              refine v_goto (tgt := 157) dX8_worth_86 rfl ?_
              refine v_goto (tgt := 6) dX8_worth_157 rfl ?_
              rw [sB_stB]
              exact ih (k + 2) (nI (valM (gA σ 6) (gA σ 7) (gN σ 2) s sh b l (gA σ 16 (k + 1))) :: st) _ _ h (pst_push hp)
            · exact absurd c49 c31
  refine v_iconst (v := nI 0) dX8_worth_0 k_iconst_0 ?_
  refine v_istore (i := 6) dX8_worth_1 (by decide) rfl ?_
  refine v_iload_n (i := 1) dX8_worth_3 rfl rfl ?_
  refine v_istore (i := 7) dX8_worth_4 (by decide) rfl ?_
  have L0 := L n0 k0 [] (gB σ 51) none hr trivial
  rw [stB_self] at L0
  exact L0
