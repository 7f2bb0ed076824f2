theorem cM_bare {G : Gl} {m : Nat} {ad : Nat → Nat} {η0 : AH} (hap : Mp m ad) (σ : MS) (x : Nat) (b to : Int32) (s : Nat) (hx : x < 2147483648) (hs : s < 4294967296) (hS4 : gN σ 1 ≤ 4) (hT : gN σ 2 ≤ 8) (hB2 : gN σ 3 ≤ 2) (hl5 : gN σ 5 ≤ 4) (hw13 : gN σ 13 < 2) (hz12 : ∀ k, k < 16 → gA σ 12 k < 2) (hm : ∀ t, t < gN σ 2 → gA σ 7 t < 2147483648) (hwt : ∀ t, t < gN σ 2 → gA σ 6 t ≤ 99) (hhd : ∀ b, b < gN σ 3 → gA σ 9 b < 2147483648) (hld : ∀ b, b < gN σ 3 → gA σ 10 b < 2147483648) : Ct G yX8_bare cX8_bare 6 (some .int) 2 0 0 [.ref m, .int (nI x), .int b, .int to, .int (nI s)] (MH m ad σ η0) (ri fun r η => η = MH m ad σ η0 ∧ (¬ (inr b (gN σ 3) ∧ inr to (gN σ 1)) → r = nI 1) ∧ ∀ bb tt, bb < gN σ 3 → tt < gN σ 1 → b = nI bb → to = nI tt → r = nI (brN (gN σ 1) (gN σ 2) (gN σ 5) (gA σ 6) (gA σ 7) (gA σ 9) (gA σ 10) (fun a b => if gN σ 13 = 0 then (if a = b then 0 else 1) else gA σ 12 (4 * a + b)) x bb tt s)) := by
  refine Ct.start rfl rfl (Nat.le_of_ble_eq_true rfl) (fun Γ => ?_)
  refine v_iload_n (i := 2) dX8_bare_0 rfl rfl ?_
  refine v_if_lt (tgt := 37) dX8_bare_1 rfl (fun c1 => ?_) (fun c1 => ?_)
  · refine v_iconst (v := nI 1) dX8_bare_37 k_iconst_1 ?_
    exact v_iret rfl dX8_bare_38 ⟨_, rfl, rfl, fun _ => rfl, fun bb tt h1 h2 e1 e2 => absurd ⟨bb, h1, e1⟩ (inr_neg c1 (by omega))⟩
  · refine v_iload_n (i := 2) dX8_bare_4 rfl rfl ?_
    refine v_aload_n (i := 0) dX8_bare_5 rfl rfl ?_
    refine mg_boats rfl dX8_bare_6 ?_
    refine v_icmp_ge (tgt := 37) dX8_bare_9 rfl (fun c9 => ?_) (fun c9 => ?_)
    · refine v_iconst (v := nI 1) dX8_bare_37 k_iconst_1 ?_
      exact v_iret rfl dX8_bare_38 ⟨_, rfl, rfl, fun _ => rfl, fun bb tt h1 h2 e1 e2 => absurd ⟨bb, h1, e1⟩ (inr_ge c9 (by omega))⟩
    · refine v_iload_n (i := 3) dX8_bare_12 rfl rfl ?_
      refine v_if_lt (tgt := 37) dX8_bare_13 rfl (fun c13 => ?_) (fun c13 => ?_)
      · refine v_iconst (v := nI 1) dX8_bare_37 k_iconst_1 ?_
        exact v_iret rfl dX8_bare_38 ⟨_, rfl, rfl, fun _ => rfl, fun bb tt h1 h2 e1 e2 => absurd ⟨tt, h2, e2⟩ (inr_neg c13 (by omega))⟩
      · refine v_iload_n (i := 3) dX8_bare_16 rfl rfl ?_
        refine v_aload_n (i := 0) dX8_bare_17 rfl rfl ?_
        refine mg_shores rfl dX8_bare_18 ?_
        refine v_icmp_ge (tgt := 37) dX8_bare_21 rfl (fun c21 => ?_) (fun c21 => ?_)
        · refine v_iconst (v := nI 1) dX8_bare_37 k_iconst_1 ?_
          exact v_iret rfl dX8_bare_38 ⟨_, rfl, rfl, fun _ => rfl, fun bb tt h1 h2 e1 e2 => absurd ⟨tt, h2, e2⟩ (inr_ge c21 (by omega))⟩
        · obtain ⟨bb, hbb, rfl⟩ := inr_of c1 c9 (by omega)
          obtain ⟨tt, htt, rfl⟩ := inr_of c13 c21 (by omega)
          have hbo := bo_lt x bb
          have hfl := hz12 (4 * bo x bb + tt) (by omega)
          have hst := setN_256 x (bo x bb) hT
          have hhb := hhd bb hbb
          have hlb := hld bb hbb
          have hla := la_lt x
          refine v_aload_n (i := 0) dX8_bare_24 rfl rfl ?_
          refine v_iload_n (i := 1) dX8_bare_25 rfl rfl ?_
          refine v_iload_n (i := 2) dX8_bare_26 rfl rfl ?_
          refine v_callSi (cM_boatIn x bb hx (by omega)) (lw_S q2410 q2411 q136 q2412) iX8_boatIn rfl rfl (by decide) (by decide) (Nat.le_of_ble_eq_true rfl) dX8_bare_27 ?_
          refine v_iload_n (i := 3) dX8_bare_30 rfl rfl ?_
          refine v_callVi (cM_isWater hap σ (bo x bb) tt hbo (by omega) hw13 hfl) (lw_V q2382 q2384 qs89 q136 q2385) iX8_isWater rfl KX8 MH_m rfl rfl (by decide) (by decide) (Nat.le_of_ble_eq_true rfl) dX8_bare_31 ?_
          refine vn_if_ne (tgt := 39) dX8_bare_34 rfl (by split <;> first | omega | (split <;> omega)) (fun c34 => ?_) (fun c34 => ?_)
          · refine v_iload_n (i := 1) dX8_bare_39 rfl rfl ?_
            refine v_iload_n (i := 2) dX8_bare_40 rfl rfl ?_
            refine v_callSi (cM_boatIn x bb hx (by omega)) (lw_S q2410 q2411 q136 q2412) iX8_boatIn rfl rfl (by decide) (by decide) (Nat.le_of_ble_eq_true rfl) dX8_bare_41 ?_
            refine v_istore (i := 5) dX8_bare_44 (by decide) rfl ?_
            refine v_iload (i := 4) dX8_bare_46 rfl ?_
            refine v_aload_n (i := 0) dX8_bare_48 rfl rfl ?_
            refine v_iload_n (i := 1) dX8_bare_49 rfl rfl ?_
            refine v_iload (i := 5) dX8_bare_50 rfl ?_
            refine v_callVi (cM_setAt hap σ x (bo x bb) hx (by omega) hT) (lw_V q2413 q2415 qs95 q136 q2416) iX8_setAt rfl KX8 MH_m rfl rfl (by decide) (by decide) (Nat.le_of_ble_eq_true rfl) dX8_bare_52 ?_
            refine v_iconst (v := -1) dX8_bare_55 k_iconst_m1 ?_
            refine v_ixor dX8_bare_56 ?_
            refine vn_andc dX8_bare_57 ?_
            refine vn_if_eqW (tgt := 63) dX8_bare_58 rfl (Nat.lt_of_le_of_lt (ndf_le _ _) hs) (fun c58 => ?_) (fun c58 => ?_)
            · have hs2 : s < 256 := ndf_0 (n := 8) hst c58
              have hrw := rowN_le (gA σ 7) s (gN σ 2)
              have hsm := sumN_le (M := 99) s (gN σ 2) hwt
              have hpc := popc_le s
              have hsm2 : gN σ 2 * 99 ≤ 8 * 99 := Nat.mul_le_mul_right _ hT
              refine v_aload_n (i := 0) dX8_bare_63 rfl rfl ?_
              refine v_iload (i := 4) dX8_bare_64 rfl ?_
              refine v_callVi (cM_rowers hap σ s (by omega) hT hm) (lw_V q2347 q2349 qs87 q136 q2350) iX8_rowers rfl KX8 MH_m rfl rfl (by decide) (by decide) (Nat.le_of_ble_eq_true rfl) dX8_bare_66 ?_
              refine vn_if_ne (tgt := 74) dX8_bare_69 rfl (by omega) (fun c69 => ?_) (fun c69 => ?_)
              · refine v_iload (i := 4) dX8_bare_74 rfl ?_
                refine v_callSi (cM_bits s hs2) (lw_S q2340 q2341 q136 q2342) iX8_bits rfl rfl (by decide) (by decide) (Nat.le_of_ble_eq_true rfl) dX8_bare_76 ?_
                refine v_aload_n (i := 0) dX8_bare_79 rfl rfl ?_
                refine mg_holds rfl dX8_bare_80 ?_
                refine v_iload_n (i := 2) dX8_bare_83 rfl rfl ?_
                refine ml_holds hap (by omega) dX8_bare_84 ?_
                refine vn_icmp_le (tgt := 90) dX8_bare_85 rfl (by omega) (by omega) (fun c85 => ?_) (fun c85 => ?_)
                · refine v_aload_n (i := 0) dX8_bare_90 rfl rfl ?_
                  refine v_iload (i := 4) dX8_bare_91 rfl ?_
                  refine v_aload_n (i := 0) dX8_bare_93 rfl rfl ?_
                  refine mg_weight rfl dX8_bare_94 ?_
                  refine v_callVi (cM_sumOf hap σ s (by omega) hT) (lw_V q2343 q2345 qs86 q136 q2346) iX8_sumOf rfl KX8 MH_m rfl rfl (by decide) (by decide) (Nat.le_of_ble_eq_true rfl) dX8_bare_97 ?_
                  refine v_aload_n (i := 0) dX8_bare_100 rfl rfl ?_
                  refine mg_loads rfl dX8_bare_101 ?_
                  refine v_iload_n (i := 2) dX8_bare_104 rfl rfl ?_
                  refine ml_loads hap (by omega) dX8_bare_105 ?_
                  refine vn_icmp_le (tgt := 111) dX8_bare_106 rfl (by omega) (by omega) (fun c106 => ?_) (fun c106 => ?_)
                  · refine v_aload_n (i := 0) dX8_bare_111 rfl rfl ?_
                    refine mg_lampAt rfl dX8_bare_112 ?_
                    refine v_iconst (v := -1) dX8_bare_115 k_iconst_m1 ?_
                    refine vo_icmp_eq (tgt := 135) dX8_bare_116 rfl (by omega) (fun c116 => ?_) (fun c116 => ?_)
                    · refine v_iconst (v := nI 0) dX8_bare_135 k_iconst_0 ?_
                      exact v_iret rfl dX8_bare_136 ⟨_, rfl, rfl, fun q => absurd ⟨⟨bb, hbb, rfl⟩, ⟨tt, htt, rfl⟩⟩ q, fun b2 t2 h1 h2 e1 e2 => by
                            have e3 : bb = b2 := (nI_eq (by omega) (by omega)).mp e1
                            have e4 : tt = t2 := (nI_eq (by omega) (by omega)).mp e2
                            subst e3 e4
                            unfold brN
                            rw [if_neg c34]
                            rw [if_neg (fun q => q c58), if_neg c69, if_neg (by omega), if_neg (by omega)]
                            rw [if_neg (fun q => q.1 c116)]⟩
                    · refine v_iload_n (i := 1) dX8_bare_119 rfl rfl ?_
                      refine v_bipush (v := nI 20) dX8_bare_120 k_bipush_20 ?_
                      refine vn_ishr (by omega) (by omega) dX8_bare_122 ?_
                      refine v_iconst (v := nI 3) dX8_bare_123 k_iconst_3 ?_
                      refine vn_and3 dX8_bare_124 ?_
                      refine v_iload (i := 5) dX8_bare_125 rfl ?_
                      refine vn_icmp_eq (tgt := 135) dX8_bare_127 rfl (show la x < _ by omega) (by omega) (fun c127 => ?_) (fun c127 => ?_)
                      · refine v_iconst (v := nI 0) dX8_bare_135 k_iconst_0 ?_
                        exact v_iret rfl dX8_bare_136 ⟨_, rfl, rfl, fun q => absurd ⟨⟨bb, hbb, rfl⟩, ⟨tt, htt, rfl⟩⟩ q, fun b2 t2 h1 h2 e1 e2 => by
                              have e3 : bb = b2 := (nI_eq (by omega) (by omega)).mp e1
                              have e4 : tt = t2 := (nI_eq (by omega) (by omega)).mp e2
                              subst e3 e4
                              unfold brN
                              rw [if_neg c34]
                              rw [if_neg (fun q => q c58), if_neg c69, if_neg (by omega), if_neg (by omega)]
                              rw [if_neg (fun q => q.2 c127)]⟩
                      · refine v_bipush (v := nI 6) dX8_bare_130 k_bipush_6 ?_
                        refine v_goto (tgt := 136) dX8_bare_132 rfl ?_
                        exact v_iret rfl dX8_bare_136 ⟨_, rfl, rfl, fun q => absurd ⟨⟨bb, hbb, rfl⟩, ⟨tt, htt, rfl⟩⟩ q, fun b2 t2 h1 h2 e1 e2 => by
                              have e3 : bb = b2 := (nI_eq (by omega) (by omega)).mp e1
                              have e4 : tt = t2 := (nI_eq (by omega) (by omega)).mp e2
                              subst e3 e4
                              unfold brN
                              rw [if_neg c34]
                              rw [if_neg (fun q => q c58), if_neg c69, if_neg (by omega), if_neg (by omega)]
                              rw [if_pos ⟨c116, c127⟩]⟩
                  · refine v_iconst (v := nI 5) dX8_bare_109 k_iconst_5 ?_
                    exact v_iret rfl dX8_bare_110 ⟨_, rfl, rfl, fun q => absurd ⟨⟨bb, hbb, rfl⟩, ⟨tt, htt, rfl⟩⟩ q, fun b2 t2 h1 h2 e1 e2 => by
                          have e3 : bb = b2 := (nI_eq (by omega) (by omega)).mp e1
                          have e4 : tt = t2 := (nI_eq (by omega) (by omega)).mp e2
                          subst e3 e4
                          unfold brN
                          rw [if_neg c34]
                          rw [if_neg (fun q => q c58), if_neg c69, if_neg (by omega), if_pos c106]⟩
                · refine v_iconst (v := nI 4) dX8_bare_88 k_iconst_4 ?_
                  exact v_iret rfl dX8_bare_89 ⟨_, rfl, rfl, fun q => absurd ⟨⟨bb, hbb, rfl⟩, ⟨tt, htt, rfl⟩⟩ q, fun b2 t2 h1 h2 e1 e2 => by
                        have e3 : bb = b2 := (nI_eq (by omega) (by omega)).mp e1
                        have e4 : tt = t2 := (nI_eq (by omega) (by omega)).mp e2
                        subst e3 e4
                        unfold brN
                        rw [if_neg c34]
                        rw [if_neg (fun q => q c58), if_neg c69, if_pos c85]⟩
              · refine v_iconst (v := nI 3) dX8_bare_72 k_iconst_3 ?_
                exact v_iret rfl dX8_bare_73 ⟨_, rfl, rfl, fun q => absurd ⟨⟨bb, hbb, rfl⟩, ⟨tt, htt, rfl⟩⟩ q, fun b2 t2 h1 h2 e1 e2 => by
                      have e3 : bb = b2 := (nI_eq (by omega) (by omega)).mp e1
                      have e4 : tt = t2 := (nI_eq (by omega) (by omega)).mp e2
                      subst e3 e4
                      unfold brN
                      rw [if_neg c34]
                      rw [if_neg (fun q => q c58), if_pos c69]⟩
            · refine v_iconst (v := nI 2) dX8_bare_61 k_iconst_2 ?_
              exact v_iret rfl dX8_bare_62 ⟨_, rfl, rfl, fun q => absurd ⟨⟨bb, hbb, rfl⟩, ⟨tt, htt, rfl⟩⟩ q, fun b2 t2 h1 h2 e1 e2 => by
                    have e3 : bb = b2 := (nI_eq (by omega) (by omega)).mp e1
                    have e4 : tt = t2 := (nI_eq (by omega) (by omega)).mp e2
                    subst e3 e4
                    unfold brN
                    rw [if_neg c34]
                    rw [if_pos c58]⟩
          · refine v_iconst (v := nI 1) dX8_bare_37 k_iconst_1 ?_
            exact v_iret rfl dX8_bare_38 ⟨_, rfl, rfl, fun _ => rfl, fun b2 t2 h1 h2 e1 e2 => by
                  have e3 : bb = b2 := (nI_eq (by omega) (by omega)).mp e1
                  have e4 : tt = t2 := (nI_eq (by omega) (by omega)).mp e2
                  subst e3 e4
                  unfold brN; rw [if_pos c34]⟩
