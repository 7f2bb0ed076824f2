theorem ixN_first {st : Nat → Nat} {y n k : Nat} (hk : k < n) (e : st k = y) (h : ∀ j, j < k → st j ≠ y) : ixN st y n = k := by
  have h1 := ixN_le st y n
  by_cases c : ixN st y n < n
  · obtain ⟨a, b⟩ := ixN_lt c
    rcases Nat.lt_trichotomy (ixN st y n) k with q | q | q
    · exact absurd a (h _ q)
    · exact q
    · exact absurd e (b k q)
  · exact absurd e (ixN_n (by omega) k hk)
theorem cA_hint {G : Gl} {m : Nat} {ad : Nat → Nat} {η0 : AH} (hap : Mp m ad) (σ : MS) {rt : Td → Nat} (A : AS) (hG : MG rt σ A) (a : Int32) : Ct G yX8_hint cX8_hint 5 (some .int) 9 0 0 [.ref m, .int a] (MH m ad σ η0) (ap rt m ad η0 (spHint A a) A) := by
  refine Ct.start rfl rfl (Nat.le_of_ble_eq_true rfl) (fun Γ => ?_)
  by_cases hin : inr a 4
  case neg =>
    refine v_aload_n (i := 0) dX8_hint_0 rfl rfl ?_
    refine v_iconst (v := nI 0) dX8_hint_1 k_iconst_0 ?_
    refine mp_thrown rfl dX8_hint_2 ?_
    refine v_aload_n (i := 0) dX8_hint_5 rfl rfl ?_
    refine v_iload_n (i := 1) dX8_hint_6 rfl rfl ?_
    refine v_if_lt (tgt := 19) dX8_hint_7 rfl (fun c7 => ?_) (fun c7 => ?_)
    · refine v_iconst (v := nI 0) dX8_hint_19 k_iconst_0 ?_
      refine v_iconst (v := nI 1) dX8_hint_20 k_iconst_1 ?_
      refine v_callVi (cM_right0 hap σ) (lw_V q2197 q2199 qs56 q136 q2200) iX8_right rfl KX8 MH_m rfl rfl (by decide) (by decide) (Nat.le_of_ble_eq_true rfl) dX8_hint_21 ?_
      refine vn_if_ne (tgt := 29) dX8_hint_24 rfl (by decide) (fun c24 => ?_) (fun c24 => ?_)
      · exact absurd rfl c24
      · refine v_iconst (v := nI 0) dX8_hint_27 k_iconst_0 ?_
        exact v_iret rfl dX8_hint_28 ⟨_, rfl, sN σ 0 1, rfl, hG, fun _ => rfl, fun v q => (by unfold spHint at q; rw [nOf_none hin (by decide)] at q; cases q)⟩
    · refine v_iload_n (i := 1) dX8_hint_10 rfl rfl ?_
      refine v_iconst (v := nI 3) dX8_hint_11 k_iconst_3 ?_
      refine v_icmp_gt (tgt := 19) dX8_hint_12 rfl (fun c12 => ?_) (fun c12 => ?_)
      · refine v_iconst (v := nI 0) dX8_hint_19 k_iconst_0 ?_
        refine v_iconst (v := nI 1) dX8_hint_20 k_iconst_1 ?_
        refine v_callVi (cM_right0 hap σ) (lw_V q2197 q2199 qs56 q136 q2200) iX8_right rfl KX8 MH_m rfl rfl (by decide) (by decide) (Nat.le_of_ble_eq_true rfl) dX8_hint_21 ?_
        refine vn_if_ne (tgt := 29) dX8_hint_24 rfl (by decide) (fun c24 => ?_) (fun c24 => ?_)
        · exact absurd rfl c24
        · refine v_iconst (v := nI 0) dX8_hint_27 k_iconst_0 ?_
          exact v_iret rfl dX8_hint_28 ⟨_, rfl, sN σ 0 1, rfl, hG, fun _ => rfl, fun v q => (by unfold spHint at q; rw [nOf_none hin (by decide)] at q; cases q)⟩
      · exact absurd (inr_of2 c7 c12 (by decide)) hin
  obtain ⟨j, hj, rfl⟩ := hin
  have hno := nOf_some hj (by decide)
  refine v_aload_n (i := 0) dX8_hint_0 rfl rfl ?_
  refine v_iconst (v := nI 0) dX8_hint_1 k_iconst_0 ?_
  refine mp_thrown rfl dX8_hint_2 ?_
  refine v_aload_n (i := 0) dX8_hint_5 rfl rfl ?_
  refine v_iload_n (i := 1) dX8_hint_6 rfl rfl ?_
  refine vn_if_lt (tgt := 19) dX8_hint_7 rfl (by omega) ?_
  refine v_iload_n (i := 1) dX8_hint_10 rfl rfl ?_
  refine v_iconst (v := nI 3) dX8_hint_11 k_iconst_3 ?_
  refine vn_icmp_gt (tgt := 19) dX8_hint_12 rfl (by omega) (by omega) (fun c12 => ?_) (fun c12 => ?_)
  · omega
  · refine v_iconst (v := nI 1) dX8_hint_15 k_iconst_1 ?_
    refine v_goto (tgt := 20) dX8_hint_16 rfl ?_
    refine v_iconst (v := nI 1) dX8_hint_20 k_iconst_1 ?_
    refine v_callVi (cM_right1 hap σ) (lw_V q2197 q2199 qs56 q136 q2200) iX8_right rfl KX8 MH_m rfl rfl (by decide) (by decide) (Nat.le_of_ble_eq_true rfl) dX8_hint_21 ?_
    refine vn_if_ne (tgt := 29) dX8_hint_24 rfl (by decide) (fun c24 => ?_) (fun c24 => ?_)
    · refine v_aload_n (i := 0) dX8_hint_29 rfl rfl ?_
      refine v_callVI (kc' := 0) (ks' := 0) (cM_finds hap (sN σ 0 0) A.1 hG.1) (lw_V q2390 q2392 qs90 q136 q2393) iX8_finds rfl KX8 MH_m rfl rfl (by decide) (by decide) (Nat.le_of_ble_eq_true rfl) (by decide) (by decide) dX8_hint_30 (fun x_ η' h => ?_)
      obtain ⟨σ2, rfl, g1, g2, g3, g4, g5, g6, g7, g8⟩ := h
      have hMF2 : MF σ2 A.1 := ⟨g1.mi hG.1.1, g3, g2, by omega, g5, fun _ => g6⟩
      have hG2 : MG rt σ2 A := MG.keep (σ := sN σ 0 0) hG hMF2 g1.q
      have h00 : gN σ2 0 = 0 := g1.1 0 (by decide) (by decide) (by decide) (by decide) (by decide)
      cases hx : expl (c0T A.1)
      · obtain rfl := g7 hx
        refine vn_if_ne (tgt := 39) dX8_hint_33 rfl (by decide) (fun c33 => ?_) (fun c33 => ?_)
        · exact absurd rfl c33
        · refine v_bipush (v := -2) dX8_hint_36 k_bipush_m2 ?_
          exact v_iret rfl dX8_hint_38 ⟨_, rfl, σ2, rfl, hG2, fun q => (by unfold spHint at q; rw [hno] at q; cases q), fun v q => (by unfold spHint at q; rw [hno] at q; simp only [Option.map_some, hx] at q; cases q; exact ⟨rfl, h00⟩)⟩
      · rename_i X
        obtain rfl := g8 X hx
        have hw := expl_w hx
        obtain ⟨f1, hX, hF, hEQ, hf3⟩ := g6.2 X hx
        have hds : ∀ k, k < xn X → gA σ2 59 k = d0T A.1 X k := fun k hk => dsF_eq hw (fun _ => by decide) hEQ hk
        have hn2 := hw.2.1
        have hn1 := hw.1
        have hne := hw.2.2.1
        have h54 := hX.1
        refine vn_if_ne (tgt := 39) dX8_hint_33 rfl (by decide) (fun c33 => ?_) (fun c33 => ?_)
        · obtain ⟨p1, p2, p3, p4, p5⟩ := hG2.2.2.2.2.2.2.2.1
          have hp := p3 A.2.2.2.2.2.1.length (Nat.le_refl _)
          rw [List.take_length] at hp
          obtain ⟨kk, hkk, ekk⟩ := expl_p hx A.2.2.2.2.2.1 p5
          generalize hyy : stL A.1 A.2.2.2.2.2.1 = y at *
          generalize hf : gA σ2 59 = f at *
          have L41 : ∀ (n k : Nat) (z3 z4 : Option Value), k + n = xn X → (∀ i, i < k → xst X i ≠ y) → V G Γ yX8_hint cX8_hint 5 (some .int) [] 9 (ap rt m ad η0 (spHint A (nI j)) A) 0 0 (MH m ad σ2 η0) 41 [some (.ref m), some (.int (nI j)), some (.int (nI k)), z3, z4] [] := by
            intro n
            induction n with
            | zero => intro k z3 z4 hk hno2; exact absurd ekk (hno2 kk (by omega))
            | succ n ih =>
              intro k z3 z4 hk hno2
              have hk2 : k < xn X := by omega
              obtain ⟨x1, x2, x3, x4⟩ := hX.2.2.2.2.1 k hk2
              have hfk := hf3 k hk2
              have hF1 := hF k (by omega)
              refine v_aload_n (i := 0) dX8_hint_41 rfl rfl ?_
              refine mg_stateOf rfl dX8_hint_42 ?_
              refine v_iload_n (i := 2) dX8_hint_45 rfl rfl ?_
              refine ml_stateOf hap (show k < 2001 by omega) dX8_hint_46 ?_
              refine v_top (show _ = nI (xst X k) from congrArg nI x1) ?_
              refine v_aload_n (i := 0) dX8_hint_47 rfl rfl ?_
              refine mg_playState rfl dX8_hint_48 ?_
              refine v_aload_n (i := 0) dX8_hint_51 rfl rfl ?_
              refine mg_made rfl dX8_hint_52 ?_
              refine ml_playState hap (show gN σ2 84 < 61 by omega) dX8_hint_55 ?_
              refine v_top (show _ = nI y from congrArg nI (by rw [p1]; exact hp.1)) ?_
              refine vn_icmp_eq (tgt := 65) dX8_hint_56 rfl (by omega) (by omega) (fun c56 => ?_) (fun c56 => ?_)
              · have hix : ixN (xst X) y (xn X) = k := ixN_first hk2 c56 hno2
                have hdk := hds k hk2
                refine v_aload_n (i := 0) dX8_hint_65 rfl rfl ?_
                refine mg_toGoal rfl dX8_hint_66 ?_
                refine v_iload_n (i := 2) dX8_hint_69 rfl rfl ?_
                refine ml_toGoal hap (show k < 2001 by omega) dX8_hint_70 ?_
                refine v_top (show _ = oI (f k) from congrArg oI (congrFun hf k)) ?_
                refine v_istore_n (i := 3) dX8_hint_71 rfl (by decide) rfl ?_
                refine v_iload_n (i := 3) dX8_hint_72 rfl rfl ?_
                refine vo_if_lt (tgt := 80) dX8_hint_73 rfl (show f k < _ by omega) (fun c73 => ?_) (fun c73 => ?_)
                · refine v_iload_n (i := 3) dX8_hint_80 rfl rfl ?_
                  exact v_iret rfl dX8_hint_81 ⟨_, rfl, σ2, rfl, hG2, fun q => (by unfold spHint at q; rw [hno] at q; cases q), fun v q => (by unfold spHint at q; rw [hno] at q; simp only [Option.map_some, hx] at q; cases q; exact ⟨by rw [hyy, hix, ← hdk]; rw [if_pos (Or.inl c73)], h00⟩)⟩
                · refine v_iload_n (i := 1) dX8_hint_76 rfl rfl ?_
                  refine vn_if_ne (tgt := 82) dX8_hint_77 rfl (by omega) (fun c77 => ?_) (fun c77 => ?_)
                  · refine v_iload_n (i := 3) dX8_hint_82 rfl rfl ?_
                    refine v_top (oI_n c73) ?_
                    refine vn_if_ne (tgt := 88) dX8_hint_83 rfl (by omega) (fun c83 => ?_) (fun c83 => ?_)
                    · obtain ⟨y1, y2, y3, y4, y5⟩ := bestE_ok hEQ hw hk2 (show 1 < f k by omega)
                      have hbe : bestE X (d0T A.1 X) (fun _ => 1) k = bestE X f (fun _ => 1) k := (bestE_congr hw hk2 hds).symm
                      have L96 : ∀ (q e : Nat), fstB (goodE X f (fun _ => 1) k) q e = bestE X f (fun _ => 1) k → e + q = xfs X (k + 1) → xfs X k ≤ e → e ≤ bestE X f (fun _ => 1) k → V G Γ yX8_hint cX8_hint 5 (some .int) [] 9 (ap rt m ad η0 (spHint A (nI j)) A) 0 0 (MH m ad σ2 η0) 96 [some (.ref m), some (.int (nI j)), some (.int (nI k)), some (.int (oI (f k))), some (.int (nI e))] [] := by
                        intro q
                        induction q with
                        | zero => intro e h1 h2 h3 h4; omega
                        | succ q ihq =>
                          intro e h1 h2 h3 h4
                          have he : e < xe X := by have := hw.2.2.2.2.1 (k + 1) (by omega); omega
                          have hj2 := hw.2.2.2.2.2 e he
                          obtain ⟨s1, s2, s3, s4, s5, s6, s7, s8⟩ := hX.2.2.2.2.2 e he
                          have hfj := hf3 _ hj2
                          have h1 : (if goodE X f (fun _ => 1) k e = true then e else fstB (goodE X f (fun _ => 1) k) q (e + 1)) = bestE X f (fun _ => 1) k := h1
                          refine v_aload_n (i := 0) dX8_hint_96 rfl rfl ?_
                          refine mg_toGoal rfl dX8_hint_97 ?_
                          refine v_aload_n (i := 0) dX8_hint_100 rfl rfl ?_
                          refine mg_edgeState rfl dX8_hint_101 ?_
                          refine v_iload (i := 4) dX8_hint_104 rfl ?_
                          refine ml_edgeState hap (show e < 40001 by omega) dX8_hint_106 ?_
                          refine v_top (show _ = nI (xej X e) from congrArg nI s4) ?_
                          refine ml_toGoal hap (show xej X e < 2001 by omega) dX8_hint_107 ?_
                          refine v_top (show _ = oI (f (xej X e)) from congrArg oI (congrFun hf _)) ?_
                          refine v_iload_n (i := 3) dX8_hint_108 rfl rfl ?_
                          refine v_top (oI_n (by omega)) ?_
                          refine v_iconst (v := nI 1) dX8_hint_109 k_iconst_1 ?_
                          refine vn_isub (by omega) dX8_hint_110 ?_
                          refine von_icmp_eq (tgt := 120) dX8_hint_111 rfl (show f (xej X e) < _ by omega) (by omega) (fun c111 => ?_) (fun c111 => ?_)
                          · have hgood : goodE X f (fun _ => 1) k e = true := by unfold goodE; rw [decide_eq_true_eq]; exact ⟨by omega, by show f (xej X e) + 1 = f k; omega⟩
                            rw [if_pos hgood] at h1
                            refine v_iload_n (i := 1) dX8_hint_120 rfl rfl ?_
                            refine v_iconst (v := nI 1) dX8_hint_121 k_iconst_1 ?_
                            refine vn_icmp_ne (tgt := 135) dX8_hint_122 rfl (by omega) (by omega) (fun c122 => ?_) (fun c122 => ?_)
                            · refine v_iload_n (i := 1) dX8_hint_135 rfl rfl ?_
                              refine v_iconst (v := nI 2) dX8_hint_136 k_iconst_2 ?_
                              refine vn_icmp_ne (tgt := 150) dX8_hint_137 rfl (by omega) (by omega) (fun c137 => ?_) (fun c137 => ?_)
                              · refine v_aload_n (i := 0) dX8_hint_150 rfl rfl ?_
                                refine mg_edgeSet rfl dX8_hint_151 ?_
                                refine v_iload (i := 4) dX8_hint_154 rfl ?_
                                refine ml_edgeSet hap (show e < 40001 by omega) dX8_hint_156 ?_
                                refine v_top (show _ = nI (xes X e) from congrArg nI s3) ?_
                                exact v_iret rfl dX8_hint_157 ⟨_, rfl, σ2, rfl, hG2, fun q => (by unfold spHint at q; rw [hno] at q; cases q), fun v q => (by unfold spHint at q; rw [hno] at q; simp only [Option.map_some, hx] at q; cases q; exact ⟨by rw [hyy, hix, ← hdk]; rw [if_neg (by omega), if_neg (by omega), hbe, ← h1, if_neg c122, if_neg c137], h00⟩)⟩
                              · refine v_aload_n (i := 0) dX8_hint_140 rfl rfl ?_
                                refine mg_edgeTo rfl dX8_hint_141 ?_
                                refine v_iload (i := 4) dX8_hint_144 rfl ?_
                                refine ml_edgeTo hap (show e < 40001 by omega) dX8_hint_146 ?_
                                refine v_top (show _ = nI (xet X e) from congrArg nI s2) ?_
                                refine v_goto (tgt := 157) dX8_hint_147 rfl ?_
                                exact v_iret rfl dX8_hint_157 ⟨_, rfl, σ2, rfl, hG2, fun q => (by unfold spHint at q; rw [hno] at q; cases q), fun v q => (by unfold spHint at q; rw [hno] at q; simp only [Option.map_some, hx] at q; cases q; exact ⟨by rw [hyy, hix, ← hdk]; rw [if_neg (by omega), if_neg (by omega), hbe, ← h1, if_neg c122, if_pos c137], h00⟩)⟩
                            · refine v_aload_n (i := 0) dX8_hint_125 rfl rfl ?_
                              refine mg_edgeBoat rfl dX8_hint_126 ?_
                              refine v_iload (i := 4) dX8_hint_129 rfl ?_
                              refine ml_edgeBoat hap (show e < 40001 by omega) dX8_hint_131 ?_
                              refine v_top (show _ = nI (xeb X e) from congrArg nI s1) ?_
                              refine v_goto (tgt := 157) dX8_hint_132 rfl ?_
                              exact v_iret rfl dX8_hint_157 ⟨_, rfl, σ2, rfl, hG2, fun q => (by unfold spHint at q; rw [hno] at q; cases q), fun v q => (by unfold spHint at q; rw [hno] at q; simp only [Option.map_some, hx] at q; cases q; exact ⟨by rw [hyy, hix, ← hdk]; rw [if_neg (by omega), if_neg (by omega), hbe, ← h1, if_pos c122], h00⟩)⟩
                          · have hgood : ¬ goodE X f (fun _ => 1) k e = true := by unfold goodE; rw [decide_eq_true_eq]; exact fun w => c111 (by have w2 : f (xej X e) + 1 = f k := w.2; omega)
                            rw [if_neg hgood] at h1
                            refine vn_iinc 1 dX8_hint_114 rfl k_iconst_1 (by decide) rfl ?_
                            refine v_goto (tgt := 96) dX8_hint_117 rfl ?_
                            exact ihq (e + 1) h1 (by omega) (by omega) (by have := fstB_ge (goodE X f (fun _ => 1) k) q (e + 1); omega)
                      refine v_aload_n (i := 0) dX8_hint_88 rfl rfl ?_
                      refine mg_firstOf rfl dX8_hint_89 ?_
                      refine v_iload_n (i := 2) dX8_hint_92 rfl rfl ?_
                      refine ml_firstOf hap (show k < 2002 by omega) dX8_hint_93 ?_
                      refine v_top (show _ = nI (xfs X k) from congrArg nI hF1) ?_
                      refine v_istore (i := 4) dX8_hint_94 (by decide) rfl ?_
                      exact L96 (xfs X (k + 1) - xfs X k) (xfs X k) rfl (by have := hw.2.2.2.1 k hk2; omega) (Nat.le_refl _) y1
                    · refine v_iconst (v := -1) dX8_hint_86 k_iconst_m1 ?_
                      exact v_iret rfl dX8_hint_87 ⟨_, rfl, σ2, rfl, hG2, fun q => (by unfold spHint at q; rw [hno] at q; cases q), fun v q => (by unfold spHint at q; rw [hno] at q; simp only [Option.map_some, hx] at q; cases q; exact ⟨by rw [hyy, hix, ← hdk]; rw [if_neg (by omega), if_pos (by omega)], h00⟩)⟩
                  · refine v_iload_n (i := 3) dX8_hint_80 rfl rfl ?_
                    exact v_iret rfl dX8_hint_81 ⟨_, rfl, σ2, rfl, hG2, fun q => (by unfold spHint at q; rw [hno] at q; cases q), fun v q => (by unfold spHint at q; rw [hno] at q; simp only [Option.map_some, hx] at q; cases q; exact ⟨by rw [hyy, hix, ← hdk]; rw [if_pos (Or.inr c77)], h00⟩)⟩
              · refine vn_iinc 1 dX8_hint_59 rfl k_iconst_1 (by decide) rfl ?_
                refine v_goto (tgt := 41) dX8_hint_62 rfl ?_
                exact ih (k + 1) _ _ (by omega) (fun i hi => by by_cases w : i = k; (rw [w]; exact c56); exact hno2 i (by omega))
          refine v_iconst (v := nI 0) dX8_hint_39 k_iconst_0 ?_
          refine v_istore_n (i := 2) dX8_hint_40 rfl (by decide) rfl ?_
          exact L41 (xn X) 0 _ _ (by omega) (fun i hi => absurd hi (by omega))
        · exact absurd c33 (by decide)
    · exact absurd c24 (by decide)
