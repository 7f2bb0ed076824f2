theorem cA_reached {G : Gl} {m : Nat} {ad : Nat → Nat} {η0 : AH} (hap : Mp m ad) (σ : MS) {rt : Td → Nat} (A : AS) (hG : MG rt σ A) (a : Int32) : Ct G yX8_reached cX8_reached 5 (some .int) 9 0 0 [.ref m, .int a] (MH m ad σ η0) (ap rt m ad η0 (spReached A a) A) := by
  refine Ct.start rfl rfl (Nat.le_of_ble_eq_true rfl) (fun Γ => ?_)
  by_cases hin : inr a 4
  case neg =>
    refine v_aload_n (i := 0) dX8_reached_0 rfl rfl ?_
    refine v_iconst (v := nI 0) dX8_reached_1 k_iconst_0 ?_
    refine mp_thrown rfl dX8_reached_2 ?_
    refine v_aload_n (i := 0) dX8_reached_5 rfl rfl ?_
    refine v_iload_n (i := 1) dX8_reached_6 rfl rfl ?_
    refine v_if_lt (tgt := 19) dX8_reached_7 rfl (fun c7 => ?_) (fun c7 => ?_)
    · refine v_iconst (v := nI 0) dX8_reached_19 k_iconst_0 ?_
      refine v_iconst (v := nI 1) dX8_reached_20 k_iconst_1 ?_
      refine v_callVi (cM_right0 hap σ) (lw_V q2197 q2199 qs56 q136 q2200) iX8_right rfl KX8 MH_m rfl rfl (by decide) (by decide) (Nat.le_of_ble_eq_true rfl) dX8_reached_21 ?_
      refine vn_if_ne (tgt := 29) dX8_reached_24 rfl (by decide) (fun c24 => ?_) (fun c24 => ?_)
      · exact absurd rfl c24
      · refine v_iconst (v := nI 0) dX8_reached_27 k_iconst_0 ?_
        exact v_iret rfl dX8_reached_28 ⟨_, rfl, sN σ 0 1, rfl, hG, fun _ => rfl, fun v q => (by unfold spReached at q; rw [nOf_none hin (by decide)] at q; cases q)⟩
    · refine v_iload_n (i := 1) dX8_reached_10 rfl rfl ?_
      refine v_iconst (v := nI 3) dX8_reached_11 k_iconst_3 ?_
      refine v_icmp_gt (tgt := 19) dX8_reached_12 rfl (fun c12 => ?_) (fun c12 => ?_)
      · refine v_iconst (v := nI 0) dX8_reached_19 k_iconst_0 ?_
        refine v_iconst (v := nI 1) dX8_reached_20 k_iconst_1 ?_
        refine v_callVi (cM_right0 hap σ) (lw_V q2197 q2199 qs56 q136 q2200) iX8_right rfl KX8 MH_m rfl rfl (by decide) (by decide) (Nat.le_of_ble_eq_true rfl) dX8_reached_21 ?_
        refine vn_if_ne (tgt := 29) dX8_reached_24 rfl (by decide) (fun c24 => ?_) (fun c24 => ?_)
        · exact absurd rfl c24
        · refine v_iconst (v := nI 0) dX8_reached_27 k_iconst_0 ?_
          exact v_iret rfl dX8_reached_28 ⟨_, rfl, sN σ 0 1, rfl, hG, fun _ => rfl, fun v q => (by unfold spReached at q; rw [nOf_none hin (by decide)] at q; cases q)⟩
      · exact absurd (inr_of2 c7 c12 (by decide)) hin
  obtain ⟨j, hj, rfl⟩ := hin
  have hno := nOf_some hj (by decide)
  have L66 : ∀ (σ2 : MS) (X : XT), expl (c0T A.1) = some X → XW X → XM σ2 X → (∀ k, k < xn X → gA σ2 59 k = d0T A.1 X k) → (∀ k, k < xn X → gA σ2 59 k ≤ 2003) → MG rt σ2 A → gN σ2 0 = 0 → ¬ j < 2 → ∀ (n k lv mv : Nat), k + n = xn X → lv = lostN (d0T A.1 X) k → mv = mostN (xfar X) k → lv ≤ k → mv ≤ k → V G Γ yX8_reached cX8_reached 5 (some .int) [] 9 (ap rt m ad η0 (spReached A (nI j)) A) 0 0 (MH m ad σ2 η0) 66 [some (.ref m), some (.int (nI j)), some (.int (nI lv)), some (.int (nI mv)), some (.int (nI k))] [] := by
    intro σ2 X hx hw hX hds hf3 hG2 h00 hj2 n
    have hn2 := hw.2.1
    have h54 := hX.1
    induction n with
    | zero =>
      intro k lv mv hk hlv hmv hl2 hm2
      have e : k = xn X := by omega
      subst e
      refine v_iload (i := 4) dX8_reached_66 rfl ?_
      refine v_aload_n (i := 0) dX8_reached_68 rfl rfl ?_
      refine mg_states rfl dX8_reached_69 ?_
      refine vn_icmp_ge (tgt := 123) dX8_reached_72 rfl (by omega) (show gN σ2 54 < _ by omega) (fun c72 => ?_) (fun c72 => ?_)
      · refine v_iload_n (i := 1) dX8_reached_123 rfl rfl ?_
        refine v_iconst (v := nI 2) dX8_reached_124 k_iconst_2 ?_
        refine vn_icmp_ne (tgt := 132) dX8_reached_125 rfl (by omega) (by omega) (fun c125 => ?_) (fun c125 => ?_)
        · refine v_iload_n (i := 3) dX8_reached_132 rfl rfl ?_
          exact v_iret rfl dX8_reached_133 ⟨_, rfl, σ2, rfl, hG2, fun q => (by unfold spReached at q; rw [hno] at q; cases q), fun v q => (by unfold spReached at q; rw [hno] at q; simp only [Option.map_some, hx] at q; cases q; exact ⟨by rw [if_neg (by omega), if_neg (by omega), if_neg c125, hmv], h00⟩)⟩
        · refine v_iload_n (i := 2) dX8_reached_128 rfl rfl ?_
          refine v_goto (tgt := 133) dX8_reached_129 rfl ?_
          exact v_iret rfl dX8_reached_133 ⟨_, rfl, σ2, rfl, hG2, fun q => (by unfold spReached at q; rw [hno] at q; cases q), fun v q => (by unfold spReached at q; rw [hno] at q; simp only [Option.map_some, hx] at q; cases q; exact ⟨by rw [if_neg (by omega), if_neg (by omega), if_pos c125, hlv], h00⟩)⟩
      · exact absurd (show xn X < gN σ2 54 from c72) (by omega)
    | succ n ih =>
      intro k lv mv hk hlv hmv hl2 hm2
      have hk2 : k < xn X := by omega
      have hd := hds k hk2
      have hd3 := hf3 k hk2
      obtain ⟨x1, x2, x3, x4⟩ := hX.2.2.2.2.1 k hk2
      refine v_iload (i := 4) dX8_reached_66 rfl ?_
      refine v_aload_n (i := 0) dX8_reached_68 rfl rfl ?_
      refine mg_states rfl dX8_reached_69 ?_
      refine vn_icmp_ge (tgt := 123) dX8_reached_72 rfl (by omega) (show gN σ2 54 < _ by omega) (fun c72 => ?_) (fun c72 => ?_)
      · exact absurd (show gN σ2 54 ≤ k from c72) (by omega)
      · refine v_iload_n (i := 2) dX8_reached_75 rfl rfl ?_
        refine v_aload_n (i := 0) dX8_reached_76 rfl rfl ?_
        refine mg_toGoal rfl dX8_reached_77 ?_
        refine v_iload (i := 4) dX8_reached_80 rfl ?_
        refine ml_toGoal hap (show k < 2001 by omega) dX8_reached_82 ?_
        refine v_iconst (v := -1) dX8_reached_83 k_iconst_m1 ?_
        refine vo_icmp_ne (tgt := 91) dX8_reached_84 rfl (show gA σ2 59 k < _ by omega) (fun c84 => ?_) (fun c84 => ?_)
        · have c84 : ¬ d0T A.1 X k = 0 := by rw [← hd]; exact c84
          refine v_iconst (v := nI 0) dX8_reached_91 k_iconst_0 ?_
          refine vn_iadd dX8_reached_92 ?_
          refine v_istore_n (i := 2) dX8_reached_93 rfl (by decide) rfl ?_
          refine v_aload_n (i := 0) dX8_reached_94 rfl rfl ?_
          refine mg_far rfl dX8_reached_95 ?_
          refine v_iload (i := 4) dX8_reached_98 rfl ?_
          refine ml_far hap (show k < 2001 by omega) dX8_reached_100 ?_
          refine v_top (show _ = nI (xfar X k) from congrArg nI x2) ?_
          refine v_iload_n (i := 3) dX8_reached_101 rfl rfl ?_
          refine vn_icmp_le (tgt := 115) dX8_reached_102 rfl (by omega) (by omega) (fun c102 => ?_) (fun c102 => ?_)
          · refine v_iload_n (i := 3) dX8_reached_115 rfl rfl ?_
            refine v_istore_n (i := 3) dX8_reached_116 rfl (by decide) rfl ?_
            refine vn_iinc 1 dX8_reached_117 rfl k_iconst_1 (by decide) rfl ?_
            refine v_goto (tgt := 66) dX8_reached_120 rfl ?_
            exact ih (k + 1) _ _ (by omega) (by show _ = lostN _ k + _; rw [if_neg c84, hlv]) (by show _ = if _ then _ else _; rw [← hmv, if_neg (by omega)]) (by omega) (by omega)
          · refine v_aload_n (i := 0) dX8_reached_105 rfl rfl ?_
            refine mg_far rfl dX8_reached_106 ?_
            refine v_iload (i := 4) dX8_reached_109 rfl ?_
            refine ml_far hap (show k < 2001 by omega) dX8_reached_111 ?_
            refine v_top (show _ = nI (xfar X k) from congrArg nI x2) ?_
            refine v_goto (tgt := 116) dX8_reached_112 rfl ?_
            refine v_istore_n (i := 3) dX8_reached_116 rfl (by decide) rfl ?_
            refine vn_iinc 1 dX8_reached_117 rfl k_iconst_1 (by decide) rfl ?_
            refine v_goto (tgt := 66) dX8_reached_120 rfl ?_
            exact ih (k + 1) _ _ (by omega) (by show _ = lostN _ k + _; rw [if_neg c84, hlv]) (by show _ = if _ then _ else _; rw [← hmv, if_pos (by omega)]) (by omega) (by omega)
        · have c84 : d0T A.1 X k = 0 := by rw [← hd]; exact c84
          refine v_iconst (v := nI 1) dX8_reached_87 k_iconst_1 ?_
          refine v_goto (tgt := 92) dX8_reached_88 rfl ?_
          refine vn_iadd dX8_reached_92 ?_
          refine v_istore_n (i := 2) dX8_reached_93 rfl (by decide) rfl ?_
          refine v_aload_n (i := 0) dX8_reached_94 rfl rfl ?_
          refine mg_far rfl dX8_reached_95 ?_
          refine v_iload (i := 4) dX8_reached_98 rfl ?_
          refine ml_far hap (show k < 2001 by omega) dX8_reached_100 ?_
          refine v_top (show _ = nI (xfar X k) from congrArg nI x2) ?_
          refine v_iload_n (i := 3) dX8_reached_101 rfl rfl ?_
          refine vn_icmp_le (tgt := 115) dX8_reached_102 rfl (by omega) (by omega) (fun c102 => ?_) (fun c102 => ?_)
          · refine v_iload_n (i := 3) dX8_reached_115 rfl rfl ?_
            refine v_istore_n (i := 3) dX8_reached_116 rfl (by decide) rfl ?_
            refine vn_iinc 1 dX8_reached_117 rfl k_iconst_1 (by decide) rfl ?_
            refine v_goto (tgt := 66) dX8_reached_120 rfl ?_
            exact ih (k + 1) _ _ (by omega) (by show _ = lostN _ k + _; rw [if_pos c84, hlv]) (by show _ = if _ then _ else _; rw [← hmv, if_neg (by omega)]) (by omega) (by omega)
          · refine v_aload_n (i := 0) dX8_reached_105 rfl rfl ?_
            refine mg_far rfl dX8_reached_106 ?_
            refine v_iload (i := 4) dX8_reached_109 rfl ?_
            refine ml_far hap (show k < 2001 by omega) dX8_reached_111 ?_
            refine v_top (show _ = nI (xfar X k) from congrArg nI x2) ?_
            refine v_goto (tgt := 116) dX8_reached_112 rfl ?_
            refine v_istore_n (i := 3) dX8_reached_116 rfl (by decide) rfl ?_
            refine vn_iinc 1 dX8_reached_117 rfl k_iconst_1 (by decide) rfl ?_
            refine v_goto (tgt := 66) dX8_reached_120 rfl ?_
            exact ih (k + 1) _ _ (by omega) (by show _ = lostN _ k + _; rw [if_pos c84, hlv]) (by show _ = if _ then _ else _; rw [← hmv, if_pos (by omega)]) (by omega) (by omega)
  refine v_aload_n (i := 0) dX8_reached_0 rfl rfl ?_
  refine v_iconst (v := nI 0) dX8_reached_1 k_iconst_0 ?_
  refine mp_thrown rfl dX8_reached_2 ?_
  refine v_aload_n (i := 0) dX8_reached_5 rfl rfl ?_
  refine v_iload_n (i := 1) dX8_reached_6 rfl rfl ?_
  refine vn_if_lt (tgt := 19) dX8_reached_7 rfl (by omega) ?_
  refine v_iload_n (i := 1) dX8_reached_10 rfl rfl ?_
  refine v_iconst (v := nI 3) dX8_reached_11 k_iconst_3 ?_
  refine vn_icmp_gt (tgt := 19) dX8_reached_12 rfl (by omega) (by omega) (fun c12 => ?_) (fun c12 => ?_)
  · omega
  · refine v_iconst (v := nI 1) dX8_reached_15 k_iconst_1 ?_
    refine v_goto (tgt := 20) dX8_reached_16 rfl ?_
    refine v_iconst (v := nI 1) dX8_reached_20 k_iconst_1 ?_
    refine v_callVi (cM_right1 hap σ) (lw_V q2197 q2199 qs56 q136 q2200) iX8_right rfl KX8 MH_m rfl rfl (by decide) (by decide) (Nat.le_of_ble_eq_true rfl) dX8_reached_21 ?_
    refine vn_if_ne (tgt := 29) dX8_reached_24 rfl (by decide) (fun c24 => ?_) (fun c24 => ?_)
    · refine v_aload_n (i := 0) dX8_reached_29 rfl rfl ?_
      refine v_callVI (kc' := 0) (ks' := 0) (cM_finds hap (sN σ 0 0) A.1 hG.1) (lw_V q2390 q2392 qs90 q136 q2393) iX8_finds rfl KX8 MH_m rfl rfl (by decide) (by decide) (Nat.le_of_ble_eq_true rfl) (by decide) (by decide) dX8_reached_30 (fun x_ η' h => ?_)
      obtain ⟨σ2, rfl, g1, g2, g3, g4, g5, g6, g7, g8⟩ := h
      have hMF2 : MF σ2 A.1 := ⟨g1.mi hG.1.1, g3, g2, by omega, g5, fun _ => g6⟩
      have hG2 : MG rt σ2 A := MG.keep (σ := sN σ 0 0) hG hMF2 g1.q
      have h00 : gN σ2 0 = 0 := g1.1 0 (by decide) (by decide) (by decide) (by decide) (by decide)
      cases hx : expl (c0T A.1)
      · obtain rfl := g7 hx
        refine vn_if_ne (tgt := 38) dX8_reached_33 rfl (by decide) (fun c33 => ?_) (fun c33 => ?_)
        · exact absurd rfl c33
        · refine v_iconst (v := -1) dX8_reached_36 k_iconst_m1 ?_
          exact v_iret rfl dX8_reached_37 ⟨_, rfl, σ2, rfl, hG2, fun q => (by unfold spReached at q; rw [hno] at q; cases q), fun v q => (by unfold spReached at q; rw [hno] at q; simp only [Option.map_some, hx] at q; cases q; exact ⟨rfl, h00⟩)⟩
      · rename_i X
        obtain rfl := g8 X hx
        have hw := expl_w hx
        obtain ⟨f1, hX, hF, hEQ, hf3⟩ := g6.2 X hx
        have hds : ∀ k, k < xn X → gA σ2 59 k = d0T A.1 X k := fun k hk => dsF_eq hw (fun _ => by decide) hEQ hk
        have hn2 := hw.2.1
        have hn1 := hw.1
        have hne := hw.2.2.1
        have h54 := hX.1
        refine vn_if_ne (tgt := 38) dX8_reached_33 rfl (by decide) (fun c33 => ?_) (fun c33 => ?_)
        · refine v_iload_n (i := 1) dX8_reached_38 rfl rfl ?_
          refine v_iconst (v := nI 2) dX8_reached_39 k_iconst_2 ?_
          refine vn_icmp_ge (tgt := 59) dX8_reached_40 rfl (by omega) (by omega) (fun c40 => ?_) (fun c40 => ?_)
          · have c40 : 2 ≤ j := c40
            refine v_iconst (v := nI 0) dX8_reached_59 k_iconst_0 ?_
            refine v_istore_n (i := 2) dX8_reached_60 rfl (by decide) rfl ?_
            refine v_iconst (v := nI 0) dX8_reached_61 k_iconst_0 ?_
            refine v_istore_n (i := 3) dX8_reached_62 rfl (by decide) rfl ?_
            refine v_iconst (v := nI 0) dX8_reached_63 k_iconst_0 ?_
            refine v_istore (i := 4) dX8_reached_64 (by decide) rfl ?_
            exact L66 σ2 X hx hw hX hds hf3 hG2 h00 (by omega) (xn X) 0 0 0 (by omega) rfl rfl (by omega) (by omega)
          · have c40 : j < 2 := c40
            refine v_iload_n (i := 1) dX8_reached_43 rfl rfl ?_
            refine vn_if_ne (tgt := 54) dX8_reached_44 rfl (by omega) (fun c44 => ?_) (fun c44 => ?_)
            · refine v_aload_n (i := 0) dX8_reached_54 rfl rfl ?_
              refine mg_crossings rfl dX8_reached_55 ?_
              exact v_iret rfl dX8_reached_58 ⟨_, rfl, σ2, rfl, hG2, fun q => (by unfold spReached at q; rw [hno] at q; cases q), fun v q => (by unfold spReached at q; rw [hno] at q; simp only [Option.map_some, hx] at q; cases q; exact ⟨by rw [if_neg c44, if_pos (by omega)]; exact congrArg nI hX.2.1, h00⟩)⟩
            · refine v_aload_n (i := 0) dX8_reached_47 rfl rfl ?_
              refine mg_states rfl dX8_reached_48 ?_
              refine v_goto (tgt := 58) dX8_reached_51 rfl ?_
              exact v_iret rfl dX8_reached_58 ⟨_, rfl, σ2, rfl, hG2, fun q => (by unfold spReached at q; rw [hno] at q; cases q), fun v q => (by unfold spReached at q; rw [hno] at q; simp only [Option.map_some, hx] at q; cases q; exact ⟨by rw [if_pos c44]; exact congrArg nI h54, h00⟩)⟩
        · exact absurd c33 (by decide)
    · exact absurd c24 (by decide)
theorem cM_startsWay {G : Gl} {m : Nat} {ad : Nat → Nat} {η0 : AH} (hap : Mp m ad) (σ : MS) (x : Nat) : Ct G yX8_startsWay cX8_startsWay 2 none 1 0 0 [.ref m, .int (nI x)] (MH m ad σ η0) (re none (MH m ad (sA (sN (sN σ 70 1) 71 (gN σ 2)) 76 0 x) η0)) := by
  refine Ct.start rfl rfl (Nat.le_of_ble_eq_true rfl) (fun Γ => ?_)
  refine v_aload_n (i := 0) dX8_startsWay_0 rfl rfl ?_
  refine v_iconst (v := nI 0) dX8_startsWay_1 k_iconst_0 ?_
  refine mp_keptMany_n rfl dX8_startsWay_2 ?_
  refine v_aload_n (i := 0) dX8_startsWay_5 rfl rfl ?_
  refine v_aload_n (i := 0) dX8_startsWay_6 rfl rfl ?_
  refine mg_things rfl dX8_startsWay_7 ?_
  refine mp_keptThings rfl dX8_startsWay_10 ?_
  refine v_aload_n (i := 0) dX8_startsWay_13 rfl rfl ?_
  refine mg_keptState rfl dX8_startsWay_14 ?_
  refine v_iconst (v := nI 0) dX8_startsWay_17 k_iconst_0 ?_
  refine v_iload_n (i := 1) dX8_startsWay_18 rfl rfl ?_
  refine ms_keptState hap (by decide) dX8_startsWay_19 ?_
  exact v_vret rfl dX8_startsWay_20 ⟨rfl, rfl⟩
def kepM (σ : MS) (K b to s mn y : Nat) : MS := sA (sN (sA (sA (sA (sA σ 72 K b) 73 K to) 74 K s) 75 K mn) 70 (K + 1 + 1)) 76 (K + 1) y
theorem getD_l {l : List Mv} {z : Mv} {i : Nat} (h : i < l.length) : (l ++ [z]).getD i Mv0 = l.getD i Mv0 := by
  rw [List.getD_eq_getElem?_getD, List.getD_eq_getElem?_getD, List.getElem?_append_left h]
theorem getD_e {l : List Mv} {z : Mv} : (l ++ [z]).getD l.length Mv0 = z := by
  rw [List.getD_eq_getElem?_getD, List.getElem?_append_right (Nat.le_refl _), Nat.sub_self]
  rfl
theorem KPm.add {σ : MS} {τ : Td} {l : List Mv} (h : KPm σ τ l) {b to s : Nat} (hl : l.length < 2000) (hz : mvOk τ (b, to, s)) (hT : TB τ) : KPm (kepM σ l.length b to s (mxN (tA τ 39) s (tN τ 30)) (bhT τ (stL τ l) b to s)) τ (l ++ [(b, to, s)]) := by
  obtain ⟨a1, a2, a3, a4, a5, a6⟩ := h
  have e : (l ++ [(b, to, s)]).length = l.length + 1 := by simp
  refine ⟨by rw [e]; rfl, by omega, a3, fun i hi => ?_, fun i hi => ?_, fun z hz2 => ?_⟩
  · show va_up (gA σ 72) l.length b i = _ ∧ va_up (gA σ 73) l.length to i = _ ∧ va_up (gA σ 74) l.length s i = _ ∧ va_up (gA σ 75) l.length (mxN (tA τ 39) s (tN τ 30)) i = _
    by_cases c : i = l.length
    · subst c
      rw [getD_e, va_up_e, va_up_e, va_up_e, va_up_e]
      exact ⟨rfl, rfl, rfl, rfl⟩
    · rw [getD_l (by omega), va_up_n c, va_up_n c, va_up_n c, va_up_n c]
      exact a4 i (by omega)
  · show va_up (gA σ 76) (l.length + 1) _ i = _ ∧ _
    by_cases c : i = l.length + 1
    · subst c
      rw [va_up_e, List.take_of_length_le (by omega), stL_add]
      refine ⟨rfl, bhT_lt hT ?_ hz.1 (by have := hz.2.1; have := hT.1; dsimp only at *; omega)⟩
      have := (a5 l.length (Nat.le_refl _)).2
      rwa [List.take_length] at this
    · rw [va_up_n c, List.take_append_of_le_length (by omega)]
      exact a5 i (by omega)
  · rcases List.mem_append.mp hz2 with h1 | h1
    · exact a6 z h1
    · rw [List.mem_singleton.mp h1]
      exact hz
theorem cM_keepsEdge {G : Gl} {m : Nat} {ad : Nat → Nat} {η0 : AH} (hap : Mp m ad) (σ : MS) (τ : Td) (hd ld : Nat → Nat) (w : Nat) (hW : WX σ τ hd ld w) (K e b to s j y : Nat) (h70 : gN σ 70 = K + 1) (hK : K < 2000) (he : e < 40001) (e1 : gA σ 61 e = b) (e2 : gA σ 62 e = to) (e3 : gA σ 63 e = s) (e4 : gA σ 64 e = j) (hj : j < 2001) (e5 : gA σ 56 j = y) (hs : s < 256) : Ct G yX8_keepsEdge cX8_keepsEdge 2 none 2 0 0 [.ref m, .int (nI e)] (MH m ad σ η0) (re none (MH m ad (kepM σ K b to s (mxN (tA τ 39) s (tN τ 30)) y) η0)) := by
  refine Ct.start rfl rfl (Nat.le_of_ble_eq_true rfl) (fun Γ => ?_)
  refine v_aload_n (i := 0) dX8_keepsEdge_0 rfl rfl ?_
  refine mg_keptBoat rfl dX8_keepsEdge_1 ?_
  refine v_aload_n (i := 0) dX8_keepsEdge_4 rfl rfl ?_
  refine mg_keptMany rfl dX8_keepsEdge_5 ?_
  refine v_top (show oI (gN σ 70) = nI K by rw [h70]; rfl) ?_
  refine v_aload_n (i := 0) dX8_keepsEdge_8 rfl rfl ?_
  refine mg_edgeBoat rfl dX8_keepsEdge_9 ?_
  refine v_iload_n (i := 1) dX8_keepsEdge_12 rfl rfl ?_
  refine ml_edgeBoat hap (by omega) dX8_keepsEdge_13 ?_
  refine v_top (show _ = nI b from congrArg nI e1) ?_
  refine ms_keptBoat hap (by omega) dX8_keepsEdge_14 ?_
  refine v_aload_n (i := 0) dX8_keepsEdge_15 rfl rfl ?_
  refine mg_keptTo rfl dX8_keepsEdge_16 ?_
  refine v_aload_n (i := 0) dX8_keepsEdge_19 rfl rfl ?_
  refine mg_keptMany rfl dX8_keepsEdge_20 ?_
  refine v_top (show oI (gN σ 70) = nI K by rw [h70]; rfl) ?_
  refine v_aload_n (i := 0) dX8_keepsEdge_23 rfl rfl ?_
  refine mg_edgeTo rfl dX8_keepsEdge_24 ?_
  refine v_iload_n (i := 1) dX8_keepsEdge_27 rfl rfl ?_
  refine ml_edgeTo hap (by omega) dX8_keepsEdge_28 ?_
  refine v_top (show _ = nI to from congrArg nI e2) ?_
  refine ms_keptTo hap (by omega) dX8_keepsEdge_29 ?_
  refine v_aload_n (i := 0) dX8_keepsEdge_30 rfl rfl ?_
  refine mg_keptSet rfl dX8_keepsEdge_31 ?_
  refine v_aload_n (i := 0) dX8_keepsEdge_34 rfl rfl ?_
  refine mg_keptMany rfl dX8_keepsEdge_35 ?_
  refine v_top (show oI (gN σ 70) = nI K by rw [h70]; rfl) ?_
  refine v_aload_n (i := 0) dX8_keepsEdge_38 rfl rfl ?_
  refine mg_edgeSet rfl dX8_keepsEdge_39 ?_
  refine v_iload_n (i := 1) dX8_keepsEdge_42 rfl rfl ?_
  refine ml_edgeSet hap (by omega) dX8_keepsEdge_43 ?_
  refine v_top (show _ = nI s from congrArg nI e3) ?_
  refine ms_keptSet hap (by omega) dX8_keepsEdge_44 ?_
  refine v_aload_n (i := 0) dX8_keepsEdge_45 rfl rfl ?_
  refine mg_keptMinutes rfl dX8_keepsEdge_46 ?_
  refine v_aload_n (i := 0) dX8_keepsEdge_49 rfl rfl ?_
  refine mg_keptMany rfl dX8_keepsEdge_50 ?_
  refine v_top (show oI (gN σ 70) = nI K by rw [h70]; rfl) ?_
  refine v_aload_n (i := 0) dX8_keepsEdge_53 rfl rfl ?_
  refine v_aload_n (i := 0) dX8_keepsEdge_54 rfl rfl ?_
  refine mg_edgeSet rfl dX8_keepsEdge_55 ?_
  refine v_iload_n (i := 1) dX8_keepsEdge_58 rfl rfl ?_
  refine ml_edgeSet hap (by omega) dX8_keepsEdge_59 ?_
  refine v_top (show _ = nI s from congrArg nI e3) ?_
  refine v_callVi (cX_minutesOf hap (sA (sA (sA σ 72 K b) 73 K to) 74 K s) τ hd ld w hW s (by omega)) (lw_V q2455 q2457 qs104 q136 q2458) iX8_minutesOf rfl KX8 MH_m rfl rfl (by decide) (by decide) (Nat.le_of_ble_eq_true rfl) dX8_keepsEdge_60 ?_
  refine ms_keptMinutes hap (by omega) dX8_keepsEdge_63 ?_
  refine v_aload_n (i := 0) dX8_keepsEdge_64 rfl rfl ?_
  refine v_dup dX8_keepsEdge_65 rfl ?_
  refine mg_keptMany rfl dX8_keepsEdge_66 ?_
  refine v_top (show oI (gN σ 70) = nI K by rw [h70]; rfl) ?_
  refine v_iconst (v := nI 1) dX8_keepsEdge_69 k_iconst_1 ?_
  refine vn_iadd dX8_keepsEdge_70 ?_
  refine mp_keptMany_n rfl dX8_keepsEdge_71 ?_
  refine v_aload_n (i := 0) dX8_keepsEdge_74 rfl rfl ?_
  refine mg_keptState rfl dX8_keepsEdge_75 ?_
  refine v_aload_n (i := 0) dX8_keepsEdge_78 rfl rfl ?_
  refine mg_keptMany rfl dX8_keepsEdge_79 ?_
  refine v_top (show oI (K + 1 + 1) = nI (K + 1) from rfl) ?_
  refine v_aload_n (i := 0) dX8_keepsEdge_82 rfl rfl ?_
  refine mg_stateOf rfl dX8_keepsEdge_83 ?_
  refine v_aload_n (i := 0) dX8_keepsEdge_86 rfl rfl ?_
  refine mg_edgeState rfl dX8_keepsEdge_87 ?_
  refine v_iload_n (i := 1) dX8_keepsEdge_90 rfl rfl ?_
  refine ml_edgeState hap (by omega) dX8_keepsEdge_91 ?_
  refine v_top (show _ = nI j from congrArg nI e4) ?_
  refine ml_stateOf hap (by omega) dX8_keepsEdge_92 ?_
  refine v_top (show _ = nI y from congrArg nI e5) ?_
  refine ms_keptState hap (by omega) dX8_keepsEdge_93 ?_
  exact v_vret rfl dX8_keepsEdge_94 ⟨rfl, rfl⟩
