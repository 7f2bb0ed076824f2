theorem RW.cf {σ σ2 : MS} {τ : Td} (h : RW σ τ) (hE : CF σ σ2) (hc : Cch (bfT τ) (gA σ2 50)) : RW σ2 τ := by
  obtain ⟨h1, h2, h3, h4, h5, h6⟩ := h
  refine ⟨hE.wx h1 hc, h2, h3, h4, fun b hb => ?_, h6⟩
  rw [hE.2.1 68 (by decide) (by decide), hE.2.1 69 (by decide) (by decide)]
  exact h5 b hb
theorem cX_goesRound {G : Gl} {m : Nat} {ad : Nat → Nat} {η0 : AH} (hap : Mp m ad) (σ : MS) (τ : Td) (hR : RW σ τ) (x d : Nat) (hx : VL τ x) (hd : d < 4000) (hra : ∀ j, j < 1024 → gA σ 83 j ≤ 4000) : Ct G yX8_goesRound cX8_goesRound 8 none 8 0 0 [.ref m, .int (nI x), .int (nI d)] (MH m ad σ η0) (rv fun η => ∃ σ2, η = MH m ad σ2 η0 ∧ CF σ σ2 ∧ Cch (bfT τ) (gA σ2 50) ∧ UpR τ (d + 1) (fun y => rdS τ x y) (gA σ 83) (gA σ2 83) ∧ ∀ y, rdS τ x y → gA σ2 83 (smT τ y) ≠ 0) := by
  refine Ct.start rfl rfl (Nat.le_of_ble_eq_true rfl) (fun Γ => ?_)
  have hR0 := hR
  obtain ⟨hW, hS2, hB2, hlm, hml, hst⟩ := hR
  have hl := hW.1.1
  have hT8 := hl.2.2.1
  have hx2 := hx.lt hT8
  have L46 : ∀ b, b < 2 → ¬ flT τ (bo x b) (1 - bo x b) = 0 → (∀ (i : Nat) (σ2 : MS) (z7 : Option Value), CF σ σ2 → Cch (bfT τ) (gA σ2 50) → UpR τ (d + 1) (fun y => rdS τ x y) (gA σ 83) (gA σ2 83) → (∀ s, s ∈ myL τ b → dnS τ x b s (gA σ2 83)) → (∀ b2, b2 < b → ∀ s, s ∈ myL τ b2 → dnS τ x b2 s (gA σ2 83)) → V G Γ yX8_goesRound cX8_goesRound 8 none [] 8 (rv fun η => ∃ σ2, η = MH m ad σ2 η0 ∧ CF σ σ2 ∧ Cch (bfT τ) (gA σ2 50) ∧ UpR τ (d + 1) (fun y => rdS τ x y) (gA σ 83) (gA σ2 83) ∧ ∀ y, rdS τ x y → gA σ2 83 (smT τ y) ≠ 0) 0 0 (MH m ad σ2 η0) 143 [some (.ref m), some (.int (nI x)), some (.int (nI d)), some (.int (nI b)), some (.int (nI (1 - bo x b))), some (.int (nI (setN x (bo x b) (tN τ 30)))), some (.int (nI i)), z7] []) → ∀ (l : List Nat) (i : Nat) (σ2 : MS) (z7 : Option Value), holdsL (gA σ 69) (256 * b + i) l → i + l.length = (myL τ b).length → (∀ q ∈ l, q ∈ myL τ b) → CF σ σ2 → Cch (bfT τ) (gA σ2 50) → UpR τ (d + 1) (fun y => rdS τ x y) (gA σ 83) (gA σ2 83) → (∀ s, s ∈ myL τ b → s ∈ l ∨ dnS τ x b s (gA σ2 83)) → (∀ b2, b2 < b → ∀ s, s ∈ myL τ b2 → dnS τ x b2 s (gA σ2 83)) → V G Γ yX8_goesRound cX8_goesRound 8 none [] 8 (rv fun η => ∃ σ2, η = MH m ad σ2 η0 ∧ CF σ σ2 ∧ Cch (bfT τ) (gA σ2 50) ∧ UpR τ (d + 1) (fun y => rdS τ x y) (gA σ 83) (gA σ2 83) ∧ ∀ y, rdS τ x y → gA σ2 83 (smT τ y) ≠ 0) 0 0 (MH m ad σ2 η0) 46 [some (.ref m), some (.int (nI x)), some (.int (nI d)), some (.int (nI b)), some (.int (nI (1 - bo x b))), some (.int (nI (setN x (bo x b) (tN τ 30)))), some (.int (nI i)), z7] [] := by
    intro b hb hwa K l
    have hbb := (hx.b2 b).1
    have hth := setN_256 x (bo x b) hT8
    have hmn : (myL τ b).length ≤ 255 := mayL_len hW.1 (tA τ 41) (tA τ 42) b
    have hm1 := hml b hb
    have hgb : 1 * 2 ^ b < 2147483648 := by have : 2 ^ b ≤ 2 ^ 1 := p2_le (by omega); omega
    induction l with
    | nil =>
      intro i σ2 z7 hl1 hi hls hE hC hU hD hlo
      have hi : i = (myL τ b).length := hi
      refine v_iload (i := 6) dX8_goesRound_46 rfl ?_
      refine v_aload_n (i := 0) dX8_goesRound_48 rfl rfl ?_
      refine mg_mayMany rfl dX8_goesRound_49 ?_
      refine v_iload_n (i := 3) dX8_goesRound_52 rfl rfl ?_
      refine ml_mayMany hap hb dX8_goesRound_53 ?_
      refine v_top (show _ = nI (myL τ b).length from congrArg nI (by rw [hE.2.1 68 (by decide) (by decide)]; exact hm1.1)) ?_
      refine vn_icmp_ge (tgt := 143) dX8_goesRound_54 rfl (by omega) (by omega) (fun c54 => ?_) (fun c54 => ?_)
      · exact K i σ2 z7 hE hC hU (fun s hs => (hD s hs).resolve_left (fun w => (by cases w))) hlo
      · omega
    | cons s l ih =>
      intro i σ2 z7 hl1 hi hls hE hC hU hD hlo
      simp only [List.length_cons] at hi
      have hsm := hls s List.mem_cons_self
      have hs8 := mayL_lt hW.1 hsm
      have hW2 := hE.wx hW hC
      have hab := abT_lt hW.1 0 s
      have hbs := bsT_lt hW.1 0 x s (1 * 2 ^ b) 1
      have hvb : VL τ (Y1 τ x b s) := hx.mv hlm hb (by omega)
      have hnx : ∀ (σ3 : MS), CF σ σ3 → Cch (bfT τ) (gA σ3 50) → UpR τ (d + 1) (fun y => rdS τ x y) (gA σ2 83) (gA σ3 83) → dnS τ x b s (gA σ3 83) → V G Γ yX8_goesRound cX8_goesRound 8 none [] 8 (rv fun η => ∃ σ2, η = MH m ad σ2 η0 ∧ CF σ σ2 ∧ Cch (bfT τ) (gA σ2 50) ∧ UpR τ (d + 1) (fun y => rdS τ x y) (gA σ 83) (gA σ2 83) ∧ ∀ y, rdS τ x y → gA σ2 83 (smT τ y) ≠ 0) 0 0 (MH m ad σ3 η0) 46 [some (.ref m), some (.int (nI x)), some (.int (nI d)), some (.int (nI b)), some (.int (nI (1 - bo x b))), some (.int (nI (setN x (bo x b) (tN τ 30)))), some (.int (nI (i + 1))), some (.int (nI s))] [] := fun σ3 hE3 hC3 hU3 hdn => ih (i + 1) σ3 _ hl1.2 (by omega) (fun q h => hls q (List.mem_cons_of_mem _ h)) hE3 hC3 (hU.trans (by omega) hU3) (fun q2 h => by
        rcases hD q2 h with w | w
        · rcases List.mem_cons.mp w with e | e
          · rw [e]; exact Or.inr hdn
          · exact Or.inl e
        · exact Or.inr (w.mono hU3)) (fun b2 hb2 s2 hs2 => (hlo b2 hb2 s2 hs2).mono hU3)
      refine v_iload (i := 6) dX8_goesRound_46 rfl ?_
      refine v_aload_n (i := 0) dX8_goesRound_48 rfl rfl ?_
      refine mg_mayMany rfl dX8_goesRound_49 ?_
      refine v_iload_n (i := 3) dX8_goesRound_52 rfl rfl ?_
      refine ml_mayMany hap hb dX8_goesRound_53 ?_
      refine v_top (show _ = nI (myL τ b).length from congrArg nI (by rw [hE.2.1 68 (by decide) (by decide)]; exact hm1.1)) ?_
      refine vn_icmp_ge (tgt := 143) dX8_goesRound_54 rfl (by omega) (by omega) (fun c54 => ?_) (fun c54 => ?_)
      · omega
      · refine v_aload_n (i := 0) dX8_goesRound_57 rfl rfl ?_
        refine mg_may rfl dX8_goesRound_58 ?_
        refine v_sipush (v := nI 256) dX8_goesRound_61 k_sipush_256 ?_
        refine v_iload_n (i := 3) dX8_goesRound_64 rfl rfl ?_
        refine vn_imul dX8_goesRound_65 ?_
        refine v_iload (i := 6) dX8_goesRound_66 rfl ?_
        refine vn_iadd dX8_goesRound_68 ?_
        refine ml_may hap (show 256 * b + i < 512 by omega) dX8_goesRound_69 ?_
        refine v_top (show _ = nI s from congrArg nI (by rw [hE.2.1 69 (by decide) (by decide)]; exact hl1.1)) ?_
        refine v_istore (i := 7) dX8_goesRound_70 (by decide) rfl ?_
        refine v_iload (i := 7) dX8_goesRound_72 rfl ?_
        refine v_iload (i := 5) dX8_goesRound_74 rfl ?_
        refine v_iconst (v := -1) dX8_goesRound_76 k_iconst_m1 ?_
        refine v_ixor dX8_goesRound_77 ?_
        refine vn_andc dX8_goesRound_78 ?_
        refine vn_if_ne (tgt := 137) dX8_goesRound_79 rfl (by have := ndf_le s (setN x (bo x b) (tN τ 30)); omega) (fun c79 => ?_) (fun c79 => ?_)
        · refine vn_iinc 1 dX8_goesRound_137 rfl k_iconst_1 (by decide) rfl ?_
          refine v_goto (tgt := 46) dX8_goesRound_140 rfl ?_
          exact hnx σ2 hE hC UpR.rf (fun r => absurd r.2.2.1 c79)
        · refine v_aload_n (i := 0) dX8_goesRound_82 rfl rfl ?_
          refine v_iload (i := 7) dX8_goesRound_83 rfl ?_
          refine v_callVI (kc' := 0) (ks' := 0) (cX_aboard hap σ2 τ _ _ 0 hW2 s hs8) (lw_V q2425 q2427 qs98 q136 q2428) iX8_aboard rfl KX8 MH_m rfl rfl (by decide) (by decide) (Nat.le_of_ble_eq_true rfl) (by decide) (by decide) dX8_goesRound_85 (fun x_ η' h => ?_)
          obtain ⟨rfl, c1, p1, hc1, rfl⟩ := h
          refine vn_if_eq (tgt := 94) dX8_goesRound_88 rfl (by omega) (fun c88 => ?_) (fun c88 => ?_)
          · refine v_aload_n (i := 0) dX8_goesRound_94 rfl rfl ?_
            refine v_iload_n (i := 1) dX8_goesRound_95 rfl rfl ?_
            refine v_iload (i := 7) dX8_goesRound_96 rfl ?_
            refine v_iconst (v := nI 1) dX8_goesRound_98 k_iconst_1 ?_
            refine v_iload_n (i := 3) dX8_goesRound_99 rfl rfl ?_
            refine vn_ishl (by omega) dX8_goesRound_100 ?_
            refine v_iconst (v := nI 1) dX8_goesRound_101 k_iconst_1 ?_
            refine v_callVI (kc' := 0) (ks' := 0) (cX_barsShores hap (sCP σ2 c1 p1) τ _ _ 0 (hW2.cp hc1) x s (1 * 2 ^ b) 1 (by omega) hgb (by decide)) (lw_V q2406 q2408 qs94 q136 q2409) iX8_barsShores rfl KX8 MH_m rfl rfl (by decide) (by decide) (Nat.le_of_ble_eq_true rfl) (by decide) (by decide) dX8_goesRound_102 (fun x_ η' h => ?_)
            obtain ⟨rfl, c2, p2, hc2, rfl⟩ := h
            rw [sCP_sCP]
            refine vn_if_ne (tgt := 123) dX8_goesRound_105 rfl (by omega) (fun c105 => ?_) (fun c105 => ?_)
            · refine v_iload_n (i := 3) dX8_goesRound_123 rfl rfl ?_
              refine vn_if_ne (tgt := 137) dX8_goesRound_124 rfl (by omega) (fun c124 => ?_) (fun c124 => ?_)
              · refine vn_iinc 1 dX8_goesRound_137 rfl k_iconst_1 (by decide) rfl ?_
                refine v_goto (tgt := 46) dX8_goesRound_140 rfl ?_
                exact hnx (sCP σ2 c2 p2) hE.cp hc2 UpR.rf (fun r => ⟨fun e => absurd e c105, fun e => absurd e c124⟩)
              · subst c124
                refine v_aload_n (i := 0) dX8_goesRound_127 rfl rfl ?_
                refine v_iload_n (i := 1) dX8_goesRound_128 rfl rfl ?_
                refine v_iload (i := 4) dX8_goesRound_129 rfl ?_
                refine v_iload (i := 7) dX8_goesRound_131 rfl ?_
                refine v_iload_n (i := 2) dX8_goesRound_133 rfl rfl ?_
                refine v_callVW (kc' := 0) (ks' := 0) (cX_goesBoth hap (sCP σ2 c2 p2) τ (hR0.cf hE.cp hc2) x s d hx ⟨hsm, hwa, c79, c88⟩ hd (hU.le (by omega) hra)) (lw_V q2534 q2536 qs115 q136 q2537) iX8_goesBoth rfl KX8 MH_m rfl rfl (by decide) (by decide) (Nat.le_of_ble_eq_true rfl) (by decide) (by decide) dX8_goesRound_134 (fun η' h => ?_)
                obtain ⟨σ4, rfl, k1, k2, k3, k4⟩ := h
                refine vn_iinc 1 dX8_goesRound_137 rfl k_iconst_1 (by decide) rfl ?_
                refine v_goto (tgt := 46) dX8_goesRound_140 rfl ?_
                exact hnx σ4 (hE.cp.trans k1) k2 k3 (fun r => ⟨fun e => absurd e c105, fun _ q => k4 q⟩)
            · refine v_aload_n (i := 0) dX8_goesRound_108 rfl rfl ?_
              refine v_aload_n (i := 0) dX8_goesRound_109 rfl rfl ?_
              refine v_iload_n (i := 1) dX8_goesRound_110 rfl rfl ?_
              refine v_iload_n (i := 3) dX8_goesRound_111 rfl rfl ?_
              refine v_iload (i := 4) dX8_goesRound_112 rfl ?_
              refine v_iload (i := 7) dX8_goesRound_114 rfl ?_
              refine v_callVi (cX_behind hap (sCP σ2 c2 p2) τ _ _ 0 (hW2.cp hc2) x b (1 - bo x b) s hb (by omega)) (lw_V q2429 q2431 qs99 q136 q2432) iX8_behind rfl KX8 MH_m rfl rfl (by decide) (by decide) (Nat.le_of_ble_eq_true rfl) dX8_goesRound_116 ?_
              refine v_iload_n (i := 2) dX8_goesRound_119 rfl rfl ?_
              refine v_callVW (kc' := 0) (ks' := 0) (cX_comes hap (sCP σ2 c2 p2) τ (hW2.cp hc2) (Y1 τ x b s) d hvb hd (hU.le (by omega) hra)) (lw_V q2530 q2532 qs114 q136 q2533) iX8_comes rfl KX8 MH_m rfl rfl (by decide) (by decide) (Nat.le_of_ble_eq_true rfl) (by decide) (by decide) dX8_goesRound_120 (fun η' h => ?_)
              obtain ⟨σ3, rfl, g1, g2, g3⟩ := h
              refine v_iload_n (i := 3) dX8_goesRound_123 rfl rfl ?_
              refine vn_if_ne (tgt := 137) dX8_goesRound_124 rfl (by omega) (fun c124 => ?_) (fun c124 => ?_)
              · refine vn_iinc 1 dX8_goesRound_137 rfl k_iconst_1 (by decide) rfl ?_
                refine v_goto (tgt := 46) dX8_goesRound_140 rfl ?_
                exact hnx σ3 (hE.cp.trans g1) g2 (g3.up (Q := (fun y => rdS τ x y)) (fun e => ⟨hst, e, Or.inl (R0.rd1 hb ⟨hsm, hwa, c79, c88⟩ c105)⟩) hvb) (fun r => ⟨fun _ e => g3.2 e, fun e => absurd e c124⟩)
              · subst c124
                refine v_aload_n (i := 0) dX8_goesRound_127 rfl rfl ?_
                refine v_iload_n (i := 1) dX8_goesRound_128 rfl rfl ?_
                refine v_iload (i := 4) dX8_goesRound_129 rfl ?_
                refine v_iload (i := 7) dX8_goesRound_131 rfl ?_
                refine v_iload_n (i := 2) dX8_goesRound_133 rfl rfl ?_
                refine v_callVW (kc' := 0) (ks' := 0) (cX_goesBoth hap σ3 τ (hR0.cf (hE.cp.trans g1) g2) x s d hx ⟨hsm, hwa, c79, c88⟩ hd ((hU.trans (by omega) (g3.up (Q := (fun y => rdS τ x y)) (fun e => ⟨hst, e, Or.inl (R0.rd1 (by decide) ⟨hsm, hwa, c79, c88⟩ c105)⟩) hvb)).le (by omega) hra)) (lw_V q2534 q2536 qs115 q136 q2537) iX8_goesBoth rfl KX8 MH_m rfl rfl (by decide) (by decide) (Nat.le_of_ble_eq_true rfl) (by decide) (by decide) dX8_goesRound_134 (fun η' h => ?_)
                obtain ⟨σ4, rfl, k1, k2, k3, k4⟩ := h
                refine vn_iinc 1 dX8_goesRound_137 rfl k_iconst_1 (by decide) rfl ?_
                refine v_goto (tgt := 46) dX8_goesRound_140 rfl ?_
                exact hnx σ4 ((hE.cp.trans g1).trans k1) k2 ((g3.up (Q := (fun y => rdS τ x y)) (fun e => ⟨hst, e, Or.inl (R0.rd1 (by decide) ⟨hsm, hwa, c79, c88⟩ c105)⟩) hvb).trans (by omega) k3) (fun r => ⟨fun _ e => k3.keep (g3.2 e), fun _ q => k4 q⟩)
          · refine v_goto (tgt := 137) dX8_goesRound_91 rfl ?_
            refine vn_iinc 1 dX8_goesRound_137 rfl k_iconst_1 (by decide) rfl ?_
            refine v_goto (tgt := 46) dX8_goesRound_140 rfl ?_
            exact hnx (sCP σ2 c1 p1) hE.cp hc1 UpR.rf (fun r => absurd r.2.2.2 c88)
  have L2 : ∀ (n b : Nat), b + n = 2 → ∀ (σ2 : MS) (z4 z5 z6 z7 : Option Value), CF σ σ2 → Cch (bfT τ) (gA σ2 50) → UpR τ (d + 1) (fun y => rdS τ x y) (gA σ 83) (gA σ2 83) → (∀ b2, b2 < b → ∀ s, s ∈ myL τ b2 → dnS τ x b2 s (gA σ2 83)) → V G Γ yX8_goesRound cX8_goesRound 8 none [] 8 (rv fun η => ∃ σ2, η = MH m ad σ2 η0 ∧ CF σ σ2 ∧ Cch (bfT τ) (gA σ2 50) ∧ UpR τ (d + 1) (fun y => rdS τ x y) (gA σ 83) (gA σ2 83) ∧ ∀ y, rdS τ x y → gA σ2 83 (smT τ y) ≠ 0) 0 0 (MH m ad σ2 η0) 2 [some (.ref m), some (.int (nI x)), some (.int (nI d)), some (.int (nI b)), z4, z5, z6, z7] [] := by
    intro n
    induction n with
    | zero =>
      intro b hb σ2 z4 z5 z6 z7 hE hC hU hlo
      have e : b = 2 := by omega
      subst e
      refine v_iload_n (i := 3) dX8_goesRound_2 rfl rfl ?_
      refine v_iconst (v := nI 2) dX8_goesRound_3 k_iconst_2 ?_
      refine vn_icmp_ge (tgt := 149) dX8_goesRound_4 rfl (by omega) (by omega) (fun c4 => ?_) (fun c4 => ?_)
      · exact v_vret rfl dX8_goesRound_149 ⟨rfl, σ2, rfl, hE, hC, hU, dn_all (fun b hb s hs => hlo b hb s hs)⟩
      · exact absurd c4 (by decide)
    | succ n ih =>
      intro b hb σ2 z4 z5 z6 z7 hE hC hU hlo
      have hbb := (hx.b2 b).1
      have hfl := flT_lt hW.1 (a := bo x b) (b := 1 - bo x b) (by omega) (by omega)
      have hm1 := hml b (by omega)
      have hW2 := hE.wx hW hC
      have K143 : ∀ (σ2 : MS) (z4 z5 z6 z7 : Option Value), CF σ σ2 → Cch (bfT τ) (gA σ2 50) → UpR τ (d + 1) (fun y => rdS τ x y) (gA σ 83) (gA σ2 83) → (∀ s, s ∈ myL τ b → dnS τ x b s (gA σ2 83)) → (∀ b2, b2 < b → ∀ s, s ∈ myL τ b2 → dnS τ x b2 s (gA σ2 83)) → V G Γ yX8_goesRound cX8_goesRound 8 none [] 8 (rv fun η => ∃ σ2, η = MH m ad σ2 η0 ∧ CF σ σ2 ∧ Cch (bfT τ) (gA σ2 50) ∧ UpR τ (d + 1) (fun y => rdS τ x y) (gA σ 83) (gA σ2 83) ∧ ∀ y, rdS τ x y → gA σ2 83 (smT τ y) ≠ 0) 0 0 (MH m ad σ2 η0) 143 [some (.ref m), some (.int (nI x)), some (.int (nI d)), some (.int (nI b)), z4, z5, z6, z7] [] := by
        intro σ2 z4 z5 z6 z7 hE hC hU hD hlo
        refine vn_iinc 1 dX8_goesRound_143 rfl k_iconst_1 (by decide) rfl ?_
        refine v_goto (tgt := 2) dX8_goesRound_146 rfl ?_
        exact ih (b + 1) (by omega) σ2 _ _ _ _ hE hC hU (fun b2 hb2 s hs => by by_cases e : b2 = b; (subst e; exact hD s hs); exact hlo b2 (by omega) s hs)
      refine v_iload_n (i := 3) dX8_goesRound_2 rfl rfl ?_
      refine v_iconst (v := nI 2) dX8_goesRound_3 k_iconst_2 ?_
      refine vn_icmp_ge (tgt := 149) dX8_goesRound_4 rfl (by omega) (by omega) (fun c4 => ?_) (fun c4 => ?_)
      · omega
      · refine v_iconst (v := nI 1) dX8_goesRound_7 k_iconst_1 ?_
        refine v_iload_n (i := 1) dX8_goesRound_8 rfl rfl ?_
        refine v_iload_n (i := 3) dX8_goesRound_9 rfl rfl ?_
        refine v_callSi (cM_boatIn x b (by omega) (by omega)) (lw_S q2410 q2411 q136 q2412) iX8_boatIn rfl rfl (by decide) (by decide) (Nat.le_of_ble_eq_true rfl) dX8_goesRound_10 ?_
        refine vn_isub (by omega) dX8_goesRound_13 ?_
        refine v_istore (i := 4) dX8_goesRound_14 (by decide) rfl ?_
        refine v_aload_n (i := 0) dX8_goesRound_16 rfl rfl ?_
        refine v_iconst (v := nI 1) dX8_goesRound_17 k_iconst_1 ?_
        refine v_iload (i := 4) dX8_goesRound_18 rfl ?_
        refine vn_isub (by omega) dX8_goesRound_20 ?_
        refine v_top (show _ = nI (bo x b) from congrArg nI (by omega)) ?_
        refine v_iload (i := 4) dX8_goesRound_21 rfl ?_
        refine v_callVi (cX_isWater hap σ2 τ _ _ 0 hW2 (bo x b) (1 - bo x b) (by omega) (by omega)) (lw_V q2382 q2384 qs89 q136 q2385) iX8_isWater rfl KX8 MH_m rfl rfl (by decide) (by decide) (Nat.le_of_ble_eq_true rfl) dX8_goesRound_23 ?_
        refine vn_if_ne (tgt := 32) dX8_goesRound_26 rfl (by omega) (fun c26 => ?_) (fun c26 => ?_)
        · refine v_aload_n (i := 0) dX8_goesRound_32 rfl rfl ?_
          refine v_iload_n (i := 1) dX8_goesRound_33 rfl rfl ?_
          refine v_iconst (v := nI 1) dX8_goesRound_34 k_iconst_1 ?_
          refine v_iload (i := 4) dX8_goesRound_35 rfl ?_
          refine vn_isub (by omega) dX8_goesRound_37 ?_
          refine v_top (show _ = nI (bo x b) from congrArg nI (by omega)) ?_
          refine v_callVi (cX_setAt hap σ2 τ _ _ 0 hW2 x (bo x b) (by omega) (by omega)) (lw_V q2413 q2415 qs95 q136 q2416) iX8_setAt rfl KX8 MH_m rfl rfl (by decide) (by decide) (Nat.le_of_ble_eq_true rfl) dX8_goesRound_38 ?_
          refine v_istore (i := 5) dX8_goesRound_41 (by decide) rfl ?_
          refine v_iconst (v := nI 0) dX8_goesRound_43 k_iconst_0 ?_
          refine v_istore (i := 6) dX8_goesRound_44 (by decide) rfl ?_
          exact L46 b (by omega) c26 (fun i σ2 z7 hE hC hU hD hlo => K143 σ2 _ _ _ z7 hE hC hU hD hlo) (myL τ b) 0 σ2 _ hm1.2 (by omega) (fun q h => h) hE hC hU (fun q h => Or.inl h) hlo
        · refine v_goto (tgt := 143) dX8_goesRound_29 rfl ?_
          exact K143 σ2 _ _ _ _ hE hC hU (fun s hs r => absurd c26 r.2.1) hlo
  refine v_iconst (v := nI 0) dX8_goesRound_0 k_iconst_0 ?_
  refine v_istore_n (i := 3) dX8_goesRound_1 rfl (by decide) rfl ?_
  exact L2 2 0 rfl σ _ _ _ _ (CF.rf σ) hW.2.2.2.2.2.2.1 UpR.rf (fun b2 hb2 => absurd hb2 (by omega))
