def W4e (τ : Td) (X : XT) (e : Nat) : Nat := minE τ X e * 4096 + 1
noncomputable def q0T (τ : Td) (X : XT) : Nat → Nat := dsF X (glT τ X) (W4e τ X)
noncomputable def spQuick (A : AS) : Int32 × AS := match expl (c0T A.1) with
  | none => (-2, A)
  | some X => if q0T A.1 X 0 = 0 then (-1, A) else (nI ((q0T A.1 X 0 - 1) / 4096), (A.1, A.2.1, A.2.2.1, A.2.2.2.1, some (pathL X (q0T A.1 X) (W4e A.1 X) (q0T A.1 X 0) 0), A.2.2.2.2.2))
theorem EQd.fin {X : XT} {gl : Nat → Prop} {W W' f g : Nat → Nat} (hw : XW X) (hW : ∀ e, 0 < W e) (hf : EQd X gl W f) (hg : EQd X gl W' g) : ∀ v k, k < xn X → f k = v → v ≠ 0 → g k ≠ 0 := by
  intro v
  induction v using Nat.strongRecOn with
  | _ v ih =>
    intro k hk hv h0
    by_cases c : gl k
    · have := (hg k hk).1 c
      omega
    · obtain ⟨e, e1, e2, e3, e4⟩ := (((hf k hk).2 c).2 (by omega)).1
      have hWe := hW e
      have g1 := ih (f (xej X e)) (by omega) (xej X e) (hw.ej hk e2) rfl e3
      exact fun q => g1 (((hg k hk).2 c).1 q e e1 e2)
theorem goodE_congr {X : XT} {f g W : Nat → Nat} (hw : XW X) {k e : Nat} (hk : k < xn X) (he : e < xfs X (k + 1)) (h : ∀ j, j < xn X → f j = g j) : goodE X f W k e = goodE X g W k e := by
  unfold goodE
  rw [h k hk, h _ (hw.ej hk he)]
theorem cA_quickest {G : Gl} {m : Nat} {ad : Nat → Nat} {η0 : AH} (hap : Mp m ad) (σ : MS) {rt : Td → Nat} (A : AS) (hG : MG rt σ A) : Ct G yX8_quickest cX8_quickest 4 (some .int) 9 0 0 [.ref m] (MH m ad σ η0) (ap rt m ad η0 (some (spQuick A).1) (spQuick A).2) := by
  refine Ct.start rfl rfl (Nat.le_of_ble_eq_true rfl) (fun Γ => ?_)
  refine v_aload_n (i := 0) dX8_quickest_0 rfl rfl ?_
  refine v_iconst (v := nI 0) dX8_quickest_1 k_iconst_0 ?_
  refine mp_thrown rfl dX8_quickest_2 ?_
  refine v_aload_n (i := 0) dX8_quickest_5 rfl rfl ?_
  refine v_callVI (kc' := 0) (ks' := 0) (cM_finds hap (sN σ 0 0) A.1 hG.1) (lw_V q2390 q2392 qs90 q136 q2393) iX8_finds rfl KX8 MH_m rfl rfl (by decide) (by decide) (Nat.le_of_ble_eq_true rfl) (by decide) (by decide) dX8_quickest_6 (fun x_ η' h => ?_)
  obtain ⟨σ2, rfl, g1, g2, g3, g4, g5, g6, g7, g8⟩ := h
  have hMF2 : MF σ2 A.1 := ⟨g1.mi hG.1.1, g3, g2, by omega, g5, fun _ => g6⟩
  have hG2 : MG rt σ2 A := MG.keep (σ := sN σ 0 0) hG hMF2 g1.q
  have h00 : gN σ2 0 = 0 := g1.1 0 (by decide) (by decide) (by decide) (by decide) (by decide)
  cases hx : expl (c0T A.1)
  · obtain rfl := g7 hx
    refine vn_if_ne (tgt := 15) dX8_quickest_9 rfl (by decide) (fun c9 => ?_) (fun c9 => ?_)
    · exact absurd rfl c9
    · refine v_bipush (v := -2) dX8_quickest_12 k_bipush_m2 ?_
      exact v_iret rfl dX8_quickest_14 (by
          have E : spQuick A = (-2, A) := by unfold spQuick; rw [hx]
          rw [E]
          exact ⟨_, rfl, σ2, rfl, hG2, fun q => (by cases q), fun v q => (by cases q; exact ⟨rfl, h00⟩)⟩)
  · rename_i X
    obtain rfl := g8 X hx
    have hw := expl_w hx
    obtain ⟨f1, hX, hF, hEQ, hf3⟩ := g6.2 X hx
    have hds : ∀ k, k < xn X → gA σ2 59 k = d0T A.1 X k := fun k hk => dsF_eq hw (fun _ => by decide) hEQ hk
    have hn2 := hw.2.1
    have hn1 := hw.1
    have hne := hw.2.2.1
    have h54 := hX.1
    refine vn_if_ne (tgt := 15) dX8_quickest_9 rfl (by decide) (fun c9 => ?_) (fun c9 => ?_)
    · refine v_aload_n (i := 0) dX8_quickest_15 rfl rfl ?_
      refine mg_toGoal rfl dX8_quickest_16 ?_
      refine v_iconst (v := nI 0) dX8_quickest_19 k_iconst_0 ?_
      refine ml_toGoal hap (by decide) dX8_quickest_20 ?_
      refine v_iconst (v := -1) dX8_quickest_21 k_iconst_m1 ?_
      refine vo_icmp_ne (tgt := 27) dX8_quickest_22 rfl (show gA σ2 59 0 < _ by have := hf3 0 (by omega); omega) (fun c22 => ?_) (fun c22 => ?_)
      · have c22 : ¬ gA σ2 59 0 = 0 := c22
        refine v_aload_n (i := 0) dX8_quickest_27 rfl rfl ?_
        refine v_callVW (kc' := 0) (ks' := 0) (cM_prices hap σ2 A.1 _ _ 0 hMF2.wx X hX hw hF hEQ hf3) (lw_V q2463 q2465 qs105 q136 q2466) iX8_prices rfl KX8 MH_m rfl rfl (by decide) (by decide) (Nat.le_of_ble_eq_true rfl) (by decide) (by decide) dX8_quickest_28 (fun η' h => ?_)
        obtain ⟨C, g, rfl, hC, hg⟩ := h
        have hs := expl_s hx
        have hTB := hG.1.1.1
        have h0 := (hX.2.2.2.2.1 0 (by omega)).1
        have hW2 := hMF2.wx
        obtain ⟨sc1, sc2, sc3⟩ := EQd.scale (A := 100000) (B := 4096) hw (by decide) (by decide) (show EQd X (glT A.1 X) (fun e => minE A.1 X e * 100000 + 1) g from hg)
        have hq : ∀ k, k < xn X → (if g k = 0 then 0 else (g k - 1) / 100000 * 4096 + (g k - 1) % 100000 + 1) = q0T A.1 X k := fun k hk => dsF_eq hw (fun e => by omega) sc1 hk
        have hqE : EQd X (glT A.1 X) (W4e A.1 X) (q0T A.1 X) := dsF_ok sc1
        generalize hqq : q0T A.1 X = qf at *
        have hge : ∀ k, k < xn X → ∀ e, xfs X k ≤ e → e < xfs X (k + 1) → goodE X g (W1e A.1 X) k e = goodE X qf (W4e A.1 X) k e := fun k hk e e1 e2 => (sc3 k hk e e1 e2).trans (goodE_congr hw hk e2 hq)
        have g00 : g 0 ≠ 0 := EQd.fin hw (fun _ => by decide) hEQ hg _ 0 (by omega) rfl c22
        have hq0 : qf 0 = (g 0 - 1) / 100000 * 4096 + (g 0 - 1) % 100000 + 1 := by rw [← hq 0 (by omega), if_neg g00]
        have hqn : ∀ k, k < xn X → (qf k = 0 ↔ g k = 0) := fun k hk => by
          rw [← hq k hk]
          constructor
          · intro y
            split at y
            · assumption
            · omega
          · intro y
            rw [if_pos y]
        have hq1 : ∀ k, k < xn X → (qf k ≤ 1 ↔ g k ≤ 1) := fun k hk => by
          rw [← hq k hk]
          split
          · omega
          · next y =>
            constructor
            · intro z
              have h1 : (g k - 1) / 100000 * 4096 = 0 := by omega
              have h2 : (g k - 1) % 100000 = 0 := by omega
              have h3 : (g k - 1) / 100000 = 0 := by omega
              omega
            · intro z
              have h1 : g k - 1 = 0 := by omega
              rw [h1]
              decide
        have hres : (qf 0 - 1) / 4096 = (g 0 - 1) / 100000 := by
          have := sc2 0 (by omega) g00
          rw [hq0]
          omega
        generalize hTL : pathL X qf (W4e A.1 X) (qf 0) 0 = TL
        have hlen : TL.length + 1 ≤ 2000 := by rw [← hTL]; exact pathL_le hqE hw (fun e => by unfold W4e; omega) (by omega)
        have hE : spQuick A = (nI ((g 0 - 1) / 100000), (A.1, A.2.1, A.2.2.1, A.2.2.2.1, some TL, A.2.2.2.2.2)) := by
          unfold spQuick
          rw [hx]
          dsimp only
          rw [hqq, if_neg (fun y => g00 ((hqn 0 (by omega)).mp y)), hres, hTL]
        rw [hE]
        have hK0 : KPm (sA (sN (sN (stC σ2 C) 70 1) 71 (gN σ2 2)) 76 0 (xst X 0)) A.1 [] := ⟨rfl, by simp, hMF2.1.2.1.2.1, fun i hi => absurd hi (by simp), fun i hi => (by have e : i = 0 := (by simpa using hi); subst e; exact ⟨by show va_up (gA σ2 76) 0 _ 0 = _; rw [va_up_e]; exact hs.1, stT_lt hTB⟩), fun z hz => (by cases hz)⟩
        have hF0 : F7 σ2 (sA (sN (sN (stC σ2 C) 70 1) 71 (gN σ2 2)) 76 0 (xst X 0)) := F7.a (F7.n (F7.n (show F7 σ2 (stC σ2 C) from ⟨fun _ _ _ => rfl, fun _ _ => rfl, fun _ => rfl⟩) (by decide)) (by decide)) (by decide)
        have L55 : ∀ (n k : Nat) (pre : List Mv) (σ3 : MS) (z3 : Option Value), pre ++ pathL X qf (W4e A.1 X) n k = TL → k < xn X → qf k ≤ n → qf k ≠ 0 → stL A.1 pre = xst X k → KPm σ3 A.1 pre → F7 σ2 σ3 → gC σ3 = C → V G Γ yX8_quickest cX8_quickest 4 (some .int) [] 9 (ap rt m ad η0 (some (nI ((g 0 - 1) / 100000))) (A.1, A.2.1, A.2.2.1, A.2.2.2.1, some TL, A.2.2.2.2.2)) 0 0 (MH m ad σ3 η0) 55 [some (.ref m), some (.int (nI k)), some (.int (nI ((g 0 - 1) / 100000))), z3] [] := by
          intro n
          induction n with
          | zero => intro k pre σ3 z3 h1 h2 h3 h4; omega
          | succ n ih =>
            intro k pre σ3 z3 hpre hk hfn hf0 hst hK hF3 hC3
            have e57 := hF3.2.1 57 (by decide)
            have e64 := hF3.2.1 64 (by decide)
            have hF1 := hF k (by omega)
            have hpre : pre ++ (if qf k ≤ 1 then [] else mvE X (bestE X qf (W4e A.1 X) k) :: pathL X qf (W4e A.1 X) n (xej X (bestE X qf (W4e A.1 X) k))) = TL := hpre
            have hgk := hC k hk
            refine v_aload_n (i := 0) dX8_quickest_55 rfl rfl ?_
            refine mg_cheap rfl dX8_quickest_56 ?_
            refine v_iload_n (i := 1) dX8_quickest_59 rfl rfl ?_
            refine ml_cheap hap (show k < 2001 by omega) dX8_quickest_60 ?_
            refine v_topl (show _ = lI (g k) from (congrFun hC3 k).trans hgk.1) ?_
            refine v_lconst (v := lN 0) dX8_quickest_61 rfl ?_
            refine v_lcmp dX8_quickest_62 ?_
            refine v_if_le (tgt := 149) dX8_quickest_63 rfl (fun c63 => ?_) (fun c63 => ?_)
            · have c63 : qf k ≤ 1 := (hq1 k hk).mpr ((lc_le (by omega)).mp c63)
              rw [if_pos c63, List.append_nil] at hpre
              subst hpre
              refine v_iload_n (i := 2) dX8_quickest_149 rfl rfl ?_
              exact v_iret rfl dX8_quickest_150 ⟨_, rfl, σ3, rfl, hG2.kept hF3 hK, fun q => (by cases q), fun v q => (by cases q; exact ⟨rfl, (hF3.1 0 (by decide) (by decide)).trans h00⟩)⟩
            · have c63 : ¬ qf k ≤ 1 := fun y => c63 ((lc_le (by omega)).mpr ((hq1 k hk).mp y))
              rw [if_neg c63] at hpre
              obtain ⟨y1, y2, y3, y4, y5⟩ := bestE_ok hqE hw hk (by omega)
              have L73 : ∀ (q e : Nat), fstB (goodE X qf (W4e A.1 X) k) q e = bestE X qf (W4e A.1 X) k → e + q = xfs X (k + 1) → xfs X k ≤ e → e ≤ bestE X qf (W4e A.1 X) k → V G Γ yX8_quickest cX8_quickest 4 (some .int) [] 9 (ap rt m ad η0 (some (nI ((g 0 - 1) / 100000))) (A.1, A.2.1, A.2.2.1, A.2.2.2.1, some TL, A.2.2.2.2.2)) 0 0 (MH m ad σ3 η0) 73 [some (.ref m), some (.int (nI k)), some (.int (nI ((g 0 - 1) / 100000))), some (.int (nI e))] [] := by
                intro q
                induction q with
                | zero => intro e h1 h2 h3 h4; omega
                | succ q ihq =>
                  intro e h1 h2 h3 h4
                  have he : e < xe X := by have := hw.2.2.2.2.1 (k + 1) (by omega); omega
                  have hj := hw.2.2.2.2.2 e he
                  obtain ⟨s1, s2, s3, s4, s5, s6, s7, s8⟩ := hX.2.2.2.2.2 e he
                  have hgj := hC _ hj
                  have hmn := minE_le hTB X e
                  have hWe1 := W1e_le hTB X e
                  have hgee := hge k hk e h3 (by omega)
                  have h1 : (if goodE X qf (W4e A.1 X) k e = true then e else fstB (goodE X qf (W4e A.1 X) k) q (e + 1)) = bestE X qf (W4e A.1 X) k := h1
                  refine v_aload_n (i := 0) dX8_quickest_73 rfl rfl ?_
                  refine mg_cheap rfl dX8_quickest_74 ?_
                  refine v_aload_n (i := 0) dX8_quickest_77 rfl rfl ?_
                  refine mg_edgeState rfl dX8_quickest_78 ?_
                  refine v_iload_n (i := 3) dX8_quickest_81 rfl rfl ?_
                  refine ml_edgeState hap (show e < 40001 by omega) dX8_quickest_82 ?_
                  refine v_top (show _ = nI (xej X e) from congrArg nI ((congrFun e64 e).trans s4)) ?_
                  refine ml_cheap hap (show xej X e < 2001 by omega) dX8_quickest_83 ?_
                  refine v_topl (show _ = lI (g (xej X e)) from (congrFun hC3 _).trans hgj.1) ?_
                  refine v_lconst (v := lN 0) dX8_quickest_84 rfl ?_
                  refine v_lcmp dX8_quickest_85 ?_
                  refine v_if_lt (tgt := 128) dX8_quickest_86 rfl (fun c86 => ?_) (fun c86 => ?_)
                  · have c86 : g (xej X e) = 0 := (lc_lt (by omega)).mp c86
                    have hgood : ¬ goodE X qf (W4e A.1 X) k e = true := by rw [← hgee]; unfold goodE; rw [decide_eq_true_eq]; exact fun w => w.1 c86
                    rw [if_neg hgood] at h1
                    refine vn_iinc 1 dX8_quickest_128 rfl k_iconst_1 (by decide) rfl ?_
                    refine v_goto (tgt := 73) dX8_quickest_131 rfl ?_
                    exact ihq (e + 1) h1 (by omega) (by omega) (by have := fstB_ge (goodE X qf (W4e A.1 X) k) q (e + 1); omega)
                  · have c86 : g (xej X e) ≠ 0 := fun y => c86 ((lc_lt (by omega)).mpr y)
                    refine v_aload_n (i := 0) dX8_quickest_89 rfl rfl ?_
                    refine mg_cheap rfl dX8_quickest_90 ?_
                    refine v_aload_n (i := 0) dX8_quickest_93 rfl rfl ?_
                    refine mg_edgeState rfl dX8_quickest_94 ?_
                    refine v_iload_n (i := 3) dX8_quickest_97 rfl rfl ?_
                    refine ml_edgeState hap (show e < 40001 by omega) dX8_quickest_98 ?_
                    refine v_top (show _ = nI (xej X e) from congrArg nI ((congrFun e64 e).trans s4)) ?_
                    refine ml_cheap hap (show xej X e < 2001 by omega) dX8_quickest_99 ?_
                    refine v_topl (show _ = lN (g (xej X e) - 1) from (congrFun hC3 _).trans (hgj.1.trans (lI_s c86))) ?_
                    refine v_ldc2 (v := lN 100000) q2468 dX8_quickest_100 ?_
                    refine v_aload_n (i := 0) dX8_quickest_103 rfl rfl ?_
                    refine v_aload_n (i := 0) dX8_quickest_104 rfl rfl ?_
                    refine mg_edgeSet rfl dX8_quickest_105 ?_
                    refine v_iload_n (i := 3) dX8_quickest_108 rfl rfl ?_
                    refine ml_edgeSet hap (show e < 40001 by omega) dX8_quickest_109 ?_
                    refine v_top (show _ = nI (xes X e) from congrArg nI ((congrFun (hF3.2.1 63 (by decide)) e).trans s3)) ?_
                    refine v_callVi (cX_minutesOf hap σ3 A.1 _ _ 0 (hF3.wx hW2) (xes X e) (by omega)) (lw_V q2455 q2457 qs104 q136 q2458) iX8_minutesOf rfl KX8 MH_m rfl rfl (by decide) (by decide) (Nat.le_of_ble_eq_true rfl) dX8_quickest_110 ?_
                    refine vl_i2l (by show minE A.1 X e < _; omega) dX8_quickest_113 ?_
                    refine v_lmul dX8_quickest_114 ?_
                    refine v_ladd dX8_quickest_115 ?_
                    refine v_lconst (v := lN 1) dX8_quickest_116 rfl ?_
                    refine v_ladd dX8_quickest_117 ?_
                    refine v_topl (W1e_v A.1 X e (g (xej X e) - 1)) ?_
                    refine v_aload_n (i := 0) dX8_quickest_118 rfl rfl ?_
                    refine mg_cheap rfl dX8_quickest_119 ?_
                    refine v_iload_n (i := 1) dX8_quickest_122 rfl rfl ?_
                    refine ml_cheap hap (show k < 2001 by omega) dX8_quickest_123 ?_
                    refine v_topl (show _ = lI (g k) from (congrFun hC3 k).trans hgk.1) ?_
                    refine v_lcmp dX8_quickest_124 ?_
                    refine v_if_eq (tgt := 134) dX8_quickest_125 rfl (fun c125 => ?_) (fun c125 => ?_)
                    · have c125 : g (xej X e) + W1e A.1 X e = g k := by have := (lc_eq2 (by omega) (by omega)).mp c125; omega
                      have hgood : goodE X qf (W4e A.1 X) k e = true := by rw [← hgee]; unfold goodE; rw [decide_eq_true_eq]; exact ⟨c86, c125⟩
                      rw [if_pos hgood] at h1
                      refine v_aload_n (i := 0) dX8_quickest_134 rfl rfl ?_
                      refine v_iload_n (i := 3) dX8_quickest_135 rfl rfl ?_
                      refine v_callVv (cM_keepsEdge hap σ3 A.1 _ _ 0 (hF3.wx hW2) pre.length e (xeb X e) (xet X e) (xes X e) (xej X e) (xst X (xej X e)) hK.1 (by rw [← h1] at hpre; have := congrArg List.length hpre; simp at this; omega) (by omega) ((congrFun (hF3.2.1 61 (by decide)) e).trans s1) ((congrFun (hF3.2.1 62 (by decide)) e).trans s2) ((congrFun (hF3.2.1 63 (by decide)) e).trans s3) ((congrFun e64 e).trans s4) (by omega) ((congrFun (hF3.2.1 56 (by decide)) _).trans (hX.2.2.2.2.1 _ hj).1) s8) (lw_V q2451 q2453 qs103 q136 q2454) iX8_keepsEdge rfl KX8 MH_m rfl rfl (by decide) (by decide) (Nat.le_of_ble_eq_true rfl) dX8_quickest_136 ?_
                      refine v_aload_n (i := 0) dX8_quickest_139 rfl rfl ?_
                      refine mg_edgeState rfl dX8_quickest_140 ?_
                      refine v_iload_n (i := 3) dX8_quickest_143 rfl rfl ?_
                      refine ml_edgeState hap (show e < 40001 by omega) dX8_quickest_144 ?_
                      refine v_top (show _ = nI (xej X e) from congrArg nI ((congrFun e64 e).trans s4)) ?_
                      refine v_istore_n (i := 1) dX8_quickest_145 rfl (by decide) rfl ?_
                      refine v_goto (tgt := 55) dX8_quickest_146 rfl ?_
                      rw [← h1] at hpre y2 y3 y4
                      have hsd := hs.2 k hk e h3 y2
                      have hmo : mvOk A.1 (xeb X e, xet X e, xes X e) := ⟨s6, (expl_t hx e he).1, s8⟩
                      have hK2 := hK.add (b := xeb X e) (to := xet X e) (s := xes X e) (by have := congrArg List.length hpre; simp at this; omega) hmo hTB
                      rw [hst, ← hsd] at hK2
                      have hW4 : 0 < W4e A.1 X e := by unfold W4e; omega
                      exact ih (xej X e) (pre ++ [mvE X e]) _ _ (by rw [List.append_assoc]; exact hpre) hj (by omega) y3 (by rw [stL_add, hst]; exact hsd.symm) hK2 hF3.kep hC3
                    · have hgood : ¬ goodE X qf (W4e A.1 X) k e = true := by rw [← hgee]; unfold goodE; rw [decide_eq_true_eq]; exact fun w => c125 ((lc_eq2 (by omega) (by omega)).mpr (by have := w.2; omega))
                      rw [if_neg hgood] at h1
                      refine vn_iinc 1 dX8_quickest_128 rfl k_iconst_1 (by decide) rfl ?_
                      refine v_goto (tgt := 73) dX8_quickest_131 rfl ?_
                      exact ihq (e + 1) h1 (by omega) (by omega) (by have := fstB_ge (goodE X qf (W4e A.1 X) k) q (e + 1); omega)
              refine v_aload_n (i := 0) dX8_quickest_66 rfl rfl ?_
              refine mg_firstOf rfl dX8_quickest_67 ?_
              refine v_iload_n (i := 1) dX8_quickest_70 rfl rfl ?_
              refine ml_firstOf hap (show k < 2002 by omega) dX8_quickest_71 ?_
              refine v_top (show _ = nI (xfs X k) from congrArg nI ((congrFun e57 k).trans hF1)) ?_
              refine v_istore_n (i := 3) dX8_quickest_72 rfl (by decide) rfl ?_
              exact L73 (xfs X (k + 1) - xfs X k) (xfs X k) rfl (by have := hw.2.2.2.1 k hk; omega) (Nat.le_refl _) y1
        refine v_aload_n (i := 0) dX8_quickest_31 rfl rfl ?_
        refine v_aload_n (i := 0) dX8_quickest_32 rfl rfl ?_
        refine mg_stateOf rfl dX8_quickest_33 ?_
        refine v_iconst (v := nI 0) dX8_quickest_36 k_iconst_0 ?_
        refine ml_stateOf hap (by decide) dX8_quickest_37 ?_
        refine v_top (show _ = nI (xst X 0) from congrArg nI h0) ?_
        refine v_callVv (cM_startsWay hap (stC σ2 C) (xst X 0)) (lw_V q2447 q2449 qs102 q136 q2450) iX8_startsWay rfl KX8 MH_m rfl rfl (by decide) (by decide) (Nat.le_of_ble_eq_true rfl) dX8_quickest_38 ?_
        refine v_iconst (v := nI 0) dX8_quickest_41 k_iconst_0 ?_
        refine v_istore_n (i := 1) dX8_quickest_42 rfl (by decide) rfl ?_
        refine v_aload_n (i := 0) dX8_quickest_43 rfl rfl ?_
        refine mg_cheap rfl dX8_quickest_44 ?_
        refine v_iconst (v := nI 0) dX8_quickest_47 k_iconst_0 ?_
        refine ml_cheap hap (by decide) dX8_quickest_48 ?_
        refine v_topl (show _ = lN (g 0 - 1) from (hC 0 (by omega)).1.trans (lI_s g00)) ?_
        refine v_ldc2 (v := lN 100000) q2468 dX8_quickest_49 ?_
        refine v_ldiv dX8_quickest_52 (by decide) ?_
        refine v_topl (pk_lDiv (by have := (hC 0 (by omega)).2; omega) (by decide) (by decide)) ?_
        refine v_l2i dX8_quickest_53 (lN_i _) ?_
        refine v_istore_n (i := 2) dX8_quickest_54 rfl (by decide) rfl ?_
        exact L55 (qf 0) 0 [] _ _ hTL (by omega) (Nat.le_refl _) (fun y => g00 ((hqn 0 (by omega)).mp y)) hs.1.symm hK0 hF0 rfl
      · have c22 : gA σ2 59 0 = 0 := c22
        refine v_iconst (v := -1) dX8_quickest_25 k_iconst_m1 ?_
        exact v_iret rfl dX8_quickest_26 (by
            have E : spQuick A = (-1, A) := by
              unfold spQuick
              rw [hx]
              dsimp only
              rw [if_pos]
              exact Classical.byContradiction fun y => by
                have hh : ∃ f, EQd X (glT A.1 X) (W4e A.1 X) f := Classical.byContradiction fun z => y (by unfold q0T dsF; rw [dif_neg z])
                obtain ⟨f, hf⟩ := hh
                exact EQd.fin hw (fun e => by unfold W4e; omega) (dsF_ok hf) hEQ _ 0 (by omega) rfl y c22
            rw [E]
            exact ⟨_, rfl, σ2, rfl, hG2, fun q => (by cases q), fun v q => (by cases q; exact ⟨rfl, h00⟩)⟩)
    · exact absurd c9 (by decide)
