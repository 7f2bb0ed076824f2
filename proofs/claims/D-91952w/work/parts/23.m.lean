theorem cM_barsShores {G : Gl} {m : Nat} {ad : Nat → Nat} {η0 : AH} (hap : Mp m ad) (σ : MS) (bf : Nat → Nat → Nat → Nat → Nat) (hB : BarO σ bf) (hC : Cch bf (gA σ 50)) (hB2 : gN σ 3 ≤ 2) (hl5 : gN σ 5 ≤ 4) (hw : gN σ 52 ≤ 12) (x gone gb lg : Nat) (hx : x < 2147483648) (hgb : gb < 2147483648) (hlg : lg < 2) : Ct G yX8_barsShores cX8_barsShores 9 (some .int) 5 0 0 [.ref m, .int (nI x), .int (nI gone), .int (nI gb), .int (nI lg)] (MH m ad σ η0) (ri fun r η => r = nI (bs bf (gN σ 1) (gN σ 2) (gN σ 3) (gN σ 5) (gN σ 52) x gone gb lg) ∧ ∃ c p, Cch bf c ∧ η = MH m ad (sCP σ c p) η0) := by
  refine Ct.start rfl rfl (Nat.le_of_ble_eq_true rfl) (fun Γ => ?_)
  have hlt := hB.lt
  have hS4 : gN σ 1 ≤ 4 := hB.1
  have hT8 : gN σ 2 ≤ 8 := hB.2.1
  have L : ∀ (n s v : Nat) (c : Nat → Nat) (p : Nat → Int32) (z1 z2 : Option Value), gN σ 1 - s = n → s ≤ gN σ 1 → v = bsN bf (gN σ 2) (gN σ 3) (gN σ 5) x gone gb lg s → Cch bf c → V G Γ yX8_barsShores cX8_barsShores 9 (some .int) [] 5 (ri fun r η => r = nI (bs bf (gN σ 1) (gN σ 2) (gN σ 3) (gN σ 5) (gN σ 52) x gone gb lg) ∧ ∃ c p, Cch bf c ∧ η = MH m ad (sCP σ c p) η0) 0 0 (MH m ad (sCP σ c p) η0) 6 [some (.ref m), some (.int (nI x)), some (.int (nI gone)), some (.int (nI gb)), some (.int (nI lg)), some (.int (nI v)), some (.int (nI s)), z1, z2] [] := by
    intro n
    induction n using Nat.strongRecOn with
    | _ n ih =>
      intro s v c p z1 z2 hn hs hv hc
      refine v_iload (i := 6) dX8_barsShores_6 rfl ?_
      refine v_aload_n (i := 0) dX8_barsShores_8 rfl rfl ?_
      refine mg_shores rfl dX8_barsShores_9 ?_
      refine vn_icmp_ge (tgt := 130) dX8_barsShores_12 rfl (by omega) (show gN σ 1 < _ by omega) (fun c12 => ?_) (fun c12 => ?_)
      · have e : s = gN σ 1 := by have : gN σ 1 ≤ s := c12; omega
        subst e
        refine v_aload_n (i := 0) dX8_barsShores_130 rfl rfl ?_
        refine v_iload (i := 5) dX8_barsShores_131 rfl ?_
        refine v_callVi (cM_keeps hap (sCP σ c p) v (by rw [hv]; exact Nat.lt_trans (bsN_lt hlt _ _ _ _ _ _ _ _) (by decide)) hw) (lw_V q2417 q2419 qs96 q136 q2420) iX8_keeps rfl KX8 MH_m rfl rfl (by decide) (by decide) (Nat.le_of_ble_eq_true rfl) dX8_barsShores_133 ?_
        exact v_iret rfl dX8_barsShores_136 ⟨_, rfl, by rw [hv]; rfl, c, p, hc, rfl⟩
      · have c12 : s < gN σ 1 := c12
        have J : ∀ (t lm : Nat), t = thereN x gb s (gN σ 3) → lm = lmp (gN σ 5) lg x s → V G Γ yX8_barsShores cX8_barsShores 9 (some .int) [] 5 (ri fun r η => r = nI (bs bf (gN σ 1) (gN σ 2) (gN σ 3) (gN σ 5) (gN σ 52) x gone gb lg) ∧ ∃ c p, Cch bf c ∧ η = MH m ad (sCP σ c p) η0) 0 0 (MH m ad (sCP σ c p) η0) 90 [some (.ref m), some (.int (nI x)), some (.int (nI gone)), some (.int (nI gb)), some (.int (nI lg)), some (.int (nI v)), some (.int (nI s)), some (.int (nI t)), some (.int (nI lm))] [] := by
          intro t lm ht hlm
          have hlm2 : lm < 2 := by rw [hlm]; exact lmp_lt _ _ _ _
          have ht2 : t ≤ 2 := by rw [ht]; exact Nat.le_trans (thereN_le _ _ _ _) hB2
          refine v_iload (i := 5) dX8_barsShores_90 rfl ?_
          refine v_aload_n (i := 0) dX8_barsShores_92 rfl rfl ?_
          refine v_aload_n (i := 0) dX8_barsShores_93 rfl rfl ?_
          refine v_iload_n (i := 1) dX8_barsShores_94 rfl rfl ?_
          refine v_iload (i := 6) dX8_barsShores_95 rfl ?_
          refine v_callVi (cM_setAt hap (sCP σ c p) x s hx (by omega) hT8) (lw_V q2413 q2415 qs95 q136 q2416) iX8_setAt rfl KX8 MH_m rfl rfl (by decide) (by decide) (Nat.le_of_ble_eq_true rfl) dX8_barsShores_97 ?_
          refine v_iload_n (i := 2) dX8_barsShores_100 rfl rfl ?_
          refine v_iconst (v := -1) dX8_barsShores_101 k_iconst_m1 ?_
          refine v_ixor dX8_barsShores_102 ?_
          refine vn_andc dX8_barsShores_103 ?_
          refine v_iload (i := 6) dX8_barsShores_104 rfl ?_
          refine v_iload (i := 7) dX8_barsShores_106 rfl ?_
          refine v_iload (i := 8) dX8_barsShores_108 rfl ?_
          refine vn_if_eq (tgt := 117) dX8_barsShores_110 rfl (by omega) (fun c110 => ?_) (fun c110 => ?_)
          · refine v_iconst (v := nI 0) dX8_barsShores_117 k_iconst_0 ?_
            refine v_callVI (kc' := 0) (ks' := 0) (cM_barsOf hap (sCP σ c p) bf hB hc (ndf (setN x s (gN σ 2)) gone) s t 0 (ndf_256 (setN_256 x s hT8)) (by omega) ht2 (by decide)) (lw_V q2328 q2330 qs83 q136 q2331) iX8_barsOf rfl KX8 MH_m rfl rfl (by decide) (by decide) (Nat.le_of_ble_eq_true rfl) (by decide) (by decide) dX8_barsShores_118 (fun x_ η' h => ?_)
            obtain ⟨rfl, c', p', hc', rfl⟩ := h
            rw [sCP_sCP]
            refine vn_ior dX8_barsShores_121 ?_
            refine v_istore (i := 5) dX8_barsShores_122 (by decide) rfl ?_
            refine vn_iinc 1 dX8_barsShores_124 rfl k_iconst_1 (by decide) rfl ?_
            refine v_goto (tgt := 6) dX8_barsShores_127 rfl ?_
            exact ih _ (by omega) (s + 1) _ c' p' _ _ rfl (by omega) (by simp only [bsN]; rw [hv, ← ht, ← hlm, c110]) hc'
          · refine v_iconst (v := nI 1) dX8_barsShores_113 k_iconst_1 ?_
            refine v_goto (tgt := 118) dX8_barsShores_114 rfl ?_
            refine v_callVI (kc' := 0) (ks' := 0) (cM_barsOf hap (sCP σ c p) bf hB hc (ndf (setN x s (gN σ 2)) gone) s t 1 (ndf_256 (setN_256 x s hT8)) (by omega) ht2 (by decide)) (lw_V q2328 q2330 qs83 q136 q2331) iX8_barsOf rfl KX8 MH_m rfl rfl (by decide) (by decide) (Nat.le_of_ble_eq_true rfl) (by decide) (by decide) dX8_barsShores_118 (fun x_ η' h => ?_)
            obtain ⟨rfl, c', p', hc', rfl⟩ := h
            rw [sCP_sCP]
            refine vn_ior dX8_barsShores_121 ?_
            refine v_istore (i := 5) dX8_barsShores_122 (by decide) rfl ?_
            refine vn_iinc 1 dX8_barsShores_124 rfl k_iconst_1 (by decide) rfl ?_
            refine v_goto (tgt := 6) dX8_barsShores_127 rfl ?_
            exact ih _ (by omega) (s + 1) _ c' p' _ _ rfl (by omega) (by simp only [bsN]; rw [hv, ← ht, ← hlm, show lm = 1 by omega]) hc'
        have L2 : ∀ (n b t : Nat), gN σ 3 - b = n → b ≤ gN σ 3 → t = thereN x gb s b → V G Γ yX8_barsShores cX8_barsShores 9 (some .int) [] 5 (ri fun r η => r = nI (bs bf (gN σ 1) (gN σ 2) (gN σ 3) (gN σ 5) (gN σ 52) x gone gb lg) ∧ ∃ c p, Cch bf c ∧ η = MH m ad (sCP σ c p) η0) 0 0 (MH m ad (sCP σ c p) η0) 21 [some (.ref m), some (.int (nI x)), some (.int (nI gone)), some (.int (nI gb)), some (.int (nI lg)), some (.int (nI v)), some (.int (nI s)), some (.int (nI t)), some (.int (nI b))] [] := by
          intro n
          induction n using Nat.strongRecOn with
          | _ n ih2 =>
            intro b t hn2 hb ht
            refine v_iload (i := 8) dX8_barsShores_21 rfl ?_
            refine v_aload_n (i := 0) dX8_barsShores_23 rfl rfl ?_
            refine mg_boats rfl dX8_barsShores_24 ?_
            refine vn_icmp_ge (tgt := 59) dX8_barsShores_27 rfl (by omega) (show gN σ 3 < _ by omega) (fun c27 => ?_) (fun c27 => ?_)
            · have e : b = gN σ 3 := by have : gN σ 3 ≤ b := c27; omega
              subst e
              refine v_aload_n (i := 0) dX8_barsShores_59 rfl rfl ?_
              refine mg_lampAt rfl dX8_barsShores_60 ?_
              refine v_iconst (v := -1) dX8_barsShores_63 k_iconst_m1 ?_
              refine vo_icmp_eq (tgt := 87) dX8_barsShores_64 rfl (show gN σ 5 < _ by omega) (fun c64 => ?_) (fun c64 => ?_)
              · refine v_iconst (v := nI 0) dX8_barsShores_87 k_iconst_0 ?_
                refine v_istore (i := 8) dX8_barsShores_88 (by decide) rfl ?_
                exact J _ 0 ht (by unfold lmp; rw [if_neg (fun q => q.1 c64)])
              · refine v_iload (i := 4) dX8_barsShores_67 rfl ?_
                refine vn_if_ne (tgt := 87) dX8_barsShores_69 rfl (by omega) (fun c69 => ?_) (fun c69 => ?_)
                · refine v_iconst (v := nI 0) dX8_barsShores_87 k_iconst_0 ?_
                  refine v_istore (i := 8) dX8_barsShores_88 (by decide) rfl ?_
                  exact J _ 0 ht (by unfold lmp; rw [if_neg (fun q => c69 q.2.1)])
                · refine v_iload_n (i := 1) dX8_barsShores_72 rfl rfl ?_
                  refine v_bipush (v := nI 20) dX8_barsShores_73 k_bipush_20 ?_
                  refine vn_ishr (by omega) (by omega) dX8_barsShores_75 ?_
                  refine v_iconst (v := nI 3) dX8_barsShores_76 k_iconst_3 ?_
                  refine vn_and3 dX8_barsShores_77 ?_
                  refine v_iload (i := 6) dX8_barsShores_78 rfl ?_
                  refine vn_icmp_ne (tgt := 87) dX8_barsShores_80 rfl (by omega) (by omega) (fun c80 => ?_) (fun c80 => ?_)
                  · refine v_iconst (v := nI 0) dX8_barsShores_87 k_iconst_0 ?_
                    refine v_istore (i := 8) dX8_barsShores_88 (by decide) rfl ?_
                    exact J _ 0 ht (by unfold lmp; rw [if_neg (fun q => c80 q.2.2)])
                  · refine v_iconst (v := nI 1) dX8_barsShores_83 k_iconst_1 ?_
                    refine v_goto (tgt := 88) dX8_barsShores_84 rfl ?_
                    refine v_istore (i := 8) dX8_barsShores_88 (by decide) rfl ?_
                    exact J _ 1 ht (by unfold lmp; rw [if_pos ⟨c64, c69, c80⟩])
            · have c27 : b < gN σ 3 := c27
              refine v_iload_n (i := 3) dX8_barsShores_30 rfl rfl ?_
              refine v_iload (i := 8) dX8_barsShores_31 rfl ?_
              refine vn_ishr (by omega) (by omega) dX8_barsShores_33 ?_
              refine v_iconst (v := nI 1) dX8_barsShores_34 k_iconst_1 ?_
              refine vn_and1 dX8_barsShores_35 ?_
              refine vn_if_ne (tgt := 53) dX8_barsShores_36 rfl (by omega) (fun c36 => ?_) (fun c36 => ?_)
              · refine vn_iinc 1 dX8_barsShores_53 rfl k_iconst_1 (by decide) rfl ?_
                refine v_goto (tgt := 21) dX8_barsShores_56 rfl ?_
                exact ih2 _ (by omega) (b + 1) _ rfl (by omega) (by simp [thereN, bt, ← ht, c36])
              · refine v_iload_n (i := 1) dX8_barsShores_39 rfl rfl ?_
                refine v_iload (i := 8) dX8_barsShores_40 rfl ?_
                refine v_callSi (cM_boatIn x b hx (by omega)) (lw_S q2410 q2411 q136 q2412) iX8_boatIn rfl rfl (by decide) (by decide) (Nat.le_of_ble_eq_true rfl) dX8_barsShores_42 ?_
                refine v_iload (i := 6) dX8_barsShores_45 rfl ?_
                have hbo : bo x b < 4 := Nat.mod_lt _ (by decide)
                refine vn_icmp_ne (tgt := 53) dX8_barsShores_47 rfl (by omega) (by omega) (fun c47 => ?_) (fun c47 => ?_)
                · refine vn_iinc 1 dX8_barsShores_53 rfl k_iconst_1 (by decide) rfl ?_
                  refine v_goto (tgt := 21) dX8_barsShores_56 rfl ?_
                  exact ih2 _ (by omega) (b + 1) _ rfl (by omega) (by simp [thereN, bt, ← ht, c47])
                · refine vn_iinc 1 dX8_barsShores_50 rfl k_iconst_1 (by decide) rfl ?_
                  refine vn_iinc 1 dX8_barsShores_53 rfl k_iconst_1 (by decide) rfl ?_
                  refine v_goto (tgt := 21) dX8_barsShores_56 rfl ?_
                  exact ih2 _ (by omega) (b + 1) _ rfl (by omega) (by simp [thereN, bt, ← ht, c36, c47])
        refine v_iconst (v := nI 0) dX8_barsShores_15 k_iconst_0 ?_
        refine v_istore (i := 7) dX8_barsShores_16 (by decide) rfl ?_
        refine v_iconst (v := nI 0) dX8_barsShores_18 k_iconst_0 ?_
        refine v_istore (i := 8) dX8_barsShores_19 (by decide) rfl ?_
        exact L2 _ 0 0 rfl (by omega) rfl
  refine v_iconst (v := nI 0) dX8_barsShores_0 k_iconst_0 ?_
  refine v_istore (i := 5) dX8_barsShores_1 (by decide) rfl ?_
  refine v_iconst (v := nI 0) dX8_barsShores_3 k_iconst_0 ?_
  refine v_istore (i := 6) dX8_barsShores_4 (by decide) rfl ?_
  have L0 := L _ 0 0 (gA σ 50) (gB σ 51) none none rfl (Nat.zero_le _) rfl hC
  rw [sCP_self] at L0
  exact L0
theorem cM_aboard {G : Gl} {m : Nat} {ad : Nat → Nat} {η0 : AH} (hap : Mp m ad) (σ : MS) (bf : Nat → Nat → Nat → Nat → Nat) (hB : BarO σ bf) (hC : Cch bf (gA σ 50)) (hB2 : gN σ 3 ≤ 2) (hl5 : gN σ 5 ≤ 4) (hw : gN σ 52 ≤ 12) (s : Nat) (hs : s < 256) : Ct G yX8_aboard cX8_aboard 2 (some .int) 5 0 0 [.ref m, .int (nI s)] (MH m ad σ η0) (ri fun r η => r = nI (ab bf (gN σ 1) (gN σ 5) (gN σ 52) s) ∧ ∃ c p, Cch bf c ∧ η = MH m ad (sCP σ c p) η0) := by
  refine Ct.start rfl rfl (Nat.le_of_ble_eq_true rfl) (fun Γ => ?_)
  have hS4 : gN σ 1 ≤ 4 := hB.1
  refine v_aload_n (i := 0) dX8_aboard_0 rfl rfl ?_
  refine v_aload_n (i := 0) dX8_aboard_1 rfl rfl ?_
  refine v_iload_n (i := 1) dX8_aboard_2 rfl rfl ?_
  refine v_aload_n (i := 0) dX8_aboard_3 rfl rfl ?_
  refine mg_shores rfl dX8_aboard_4 ?_
  refine v_iconst (v := nI 1) dX8_aboard_7 k_iconst_1 ?_
  refine v_aload_n (i := 0) dX8_aboard_8 rfl rfl ?_
  refine mg_lampAt rfl dX8_aboard_9 ?_
  refine v_iconst (v := -1) dX8_aboard_12 k_iconst_m1 ?_
  refine vo_icmp_ne (tgt := 20) dX8_aboard_13 rfl (by omega) (fun c13 => ?_) (fun c13 => ?_)
  · refine v_iconst (v := nI 1) dX8_aboard_20 k_iconst_1 ?_
    refine v_callVI (kc' := 0) (ks' := 0) (cM_barsOf hap σ bf hB hC s (gN σ 1) 1 1 hs hS4 (by decide) (by decide)) (lw_V q2328 q2330 qs83 q136 q2331) iX8_barsOf rfl KX8 MH_m rfl rfl (by decide) (by decide) (Nat.le_of_ble_eq_true rfl) (by decide) (by decide) dX8_aboard_21 (fun x_ η' h => ?_)
    obtain ⟨rfl, c', p', hc', rfl⟩ := h
    refine v_callVi (cM_keeps hap (sCP σ c' p') (bf (gN σ 1) 1 1 s) (Nat.lt_trans (hB.lt _ _ _ _) (by decide)) hw) (lw_V q2417 q2419 qs96 q136 q2420) iX8_keeps rfl KX8 MH_m rfl rfl (by decide) (by decide) (Nat.le_of_ble_eq_true rfl) dX8_aboard_24 ?_
    exact v_iret rfl dX8_aboard_27 ⟨_, rfl, by unfold ab; rw [if_neg c13]; rfl, c', p', hc', rfl⟩
  · refine v_iconst (v := nI 0) dX8_aboard_16 k_iconst_0 ?_
    refine v_goto (tgt := 21) dX8_aboard_17 rfl ?_
    refine v_callVI (kc' := 0) (ks' := 0) (cM_barsOf hap σ bf hB hC s (gN σ 1) 1 0 hs hS4 (by decide) (by decide)) (lw_V q2328 q2330 qs83 q136 q2331) iX8_barsOf rfl KX8 MH_m rfl rfl (by decide) (by decide) (Nat.le_of_ble_eq_true rfl) (by decide) (by decide) dX8_aboard_21 (fun x_ η' h => ?_)
    obtain ⟨rfl, c', p', hc', rfl⟩ := h
    refine v_callVi (cM_keeps hap (sCP σ c' p') (bf (gN σ 1) 1 0 s) (Nat.lt_trans (hB.lt _ _ _ _) (by decide)) hw) (lw_V q2417 q2419 qs96 q136 q2420) iX8_keeps rfl KX8 MH_m rfl rfl (by decide) (by decide) (Nat.le_of_ble_eq_true rfl) dX8_aboard_24 ?_
    exact v_iret rfl dX8_aboard_27 ⟨_, rfl, by unfold ab; rw [if_pos c13]; rfl, c', p', hc', rfl⟩
