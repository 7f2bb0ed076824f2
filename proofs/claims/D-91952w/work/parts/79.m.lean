/-! ===== rounds from a state ===== -/
abbrev myL (τ : Td) (b : Nat) : List Nat := mayL τ (tA τ 41) (tA τ 42) b
def R0 (τ : Td) (x b s : Nat) : Prop := s ∈ myL τ b ∧ ¬ flT τ (bo x b) (1 - bo x b) = 0 ∧ ndf s (setN x (bo x b) (tN τ 30)) = 0 ∧ abT τ 0 s = 0
def RQ (τ : Td) (x s q : Nat) : Prop := R0 τ x 1 q ∧ q &&& s = 0 ∧ bsT τ 0 x (s ||| q) 3 1 = 0
def Y1 (τ : Td) (x b s : Nat) : Nat := bhT τ x b (1 - bo x b) s
def Y2 (τ : Td) (x s q : Nat) : Nat := bhT τ (bhT τ x 0 (1 - bo x 0) s) 1 (1 - bo x 1) q
theorem R0.rd1 {τ : Td} {x b s : Nat} (hb : b < 2) (h : R0 τ x b s) (h2 : bsT τ 0 x s (1 * 2 ^ b) 1 = 0) : rd1 τ x (Y1 τ x b s) := ⟨b, s, hb, h.1, h.2.1, h.2.2.1, h.2.2.2, h2, rfl⟩
theorem RQ.rd2 {τ : Td} {x s q : Nat} (h : R0 τ x 0 s) (h2 : RQ τ x s q) : rd2 τ x (Y2 τ x s q) := ⟨s, q, h.1, h.2.1, h.2.2.1, h.2.2.2, h2.1.1, h2.1.2.1, h2.1.2.2.1, h2.2.1, h2.1.2.2.2, h2.2.2, rfl⟩
def dnQ (τ : Td) (x s q : Nat) (ra : Nat → Nat) : Prop := RQ τ x s q → bsT τ 0 (Y2 τ x s q) 0 0 0 = 0 → ra (smT τ (Y2 τ x s q)) ≠ 0
def dnS (τ : Td) (x b s : Nat) (ra : Nat → Nat) : Prop := R0 τ x b s → (bsT τ 0 x s (1 * 2 ^ b) 1 = 0 → bsT τ 0 (Y1 τ x b s) 0 0 0 = 0 → ra (smT τ (Y1 τ x b s)) ≠ 0) ∧ (b = 0 → ∀ q, dnQ τ x s q ra)
theorem dnQ.mono {τ : Td} {x s q v : Nat} {Q : Nat → Prop} {ra rb : Nat → Nat} (h : dnQ τ x s q ra) (hU : UpR τ v Q ra rb) : dnQ τ x s q rb := fun a b => hU.keep (h a b)
theorem dnS.mono {τ : Td} {x b s v : Nat} {Q : Nat → Prop} {ra rb : Nat → Nat} (h : dnS τ x b s ra) (hU : UpR τ v Q ra rb) : dnS τ x b s rb := fun a => ⟨fun c e => hU.keep ((h a).1 c e), fun e q => ((h a).2 e q).mono hU⟩
theorem dn_all {τ : Td} {x : Nat} {ra : Nat → Nat} (h : ∀ b, b < 2 → ∀ s, s ∈ myL τ b → dnS τ x b s ra) : ∀ y, rdS τ x y → ra (smT τ y) ≠ 0 := by
  rintro y ⟨-, h2, ⟨b, s, hb, a1, a2, a3, a4, a5, rfl⟩ | ⟨s, q, a1, a2, a3, a4, b1, b2, b3, b4, b5, b6, rfl⟩⟩
  · exact (h b hb s a1 ⟨a1, a2, a3, a4⟩).1 a5 h2
  · exact (h 0 (by decide) s a1 ⟨a1, a2, a3, a4⟩).2 rfl q ⟨⟨b1, b2, b3, b5⟩, b4, b6⟩ h2
/-- what holds while rounds are gone -/
def RW (σ : MS) (τ : Td) : Prop := WX σ τ (tA τ 41) (tA τ 42) 0 ∧ tN τ 29 = 2 ∧ tN τ 31 = 2 ∧ tN τ 33 = 0 ∧ (∀ b, b < 2 → gA σ 68 b = (myL τ b).length ∧ holdsL (gA σ 69) (256 * b) (myL τ b)) ∧ bsT τ 0 (stT τ) 0 0 0 = 0
theorem cX_goesBoth {G : Gl} {m : Nat} {ad : Nat → Nat} {η0 : AH} (hap : Mp m ad) (σ : MS) (τ : Td) (hR : RW σ τ) (x s d : Nat) (hx : VL τ x) (hs : R0 τ x 0 s) (hd : d < 4000) (hra : ∀ j, j < 1024 → gA σ 83 j ≤ 4000) : Ct G yX8_goesBoth cX8_goesBoth 9 none 7 0 0 [.ref m, .int (nI x), .int (nI (1 - bo x 0)), .int (nI s), .int (nI d)] (MH m ad σ η0) (rv fun η => ∃ σ2, η = MH m ad σ2 η0 ∧ CF σ σ2 ∧ Cch (bfT τ) (gA σ2 50) ∧ UpR τ (d + 1) (fun y => rdS τ x y) (gA σ 83) (gA σ2 83) ∧ ∀ q, dnQ τ x s q (gA σ2 83)) := by
  refine Ct.start rfl rfl (Nat.le_of_ble_eq_true rfl) (fun Γ => ?_)
  obtain ⟨hW, hS2, hB2, hlm, hml, hst⟩ := hR
  have hl := hW.1.1
  have hT8 := hl.2.2.1
  have hx2 := hx.lt hT8
  have hb0 := (hx.b2 0).1
  have hb1 := (hx.b2 1).1
  have hs8 := mayL_lt hW.1 hs.1
  have hth := setN_256 x (bo x 1) hT8
  have hfl := flT_lt hW.1 (a := bo x 1) (b := 1 - bo x 1) (by omega) (by omega)
  have hmn : (myL τ 1).length ≤ 255 := mayL_len hW.1 (tA τ 41) (tA τ 42) 1
  have hm1 := hml 1 (by decide)
  have L37 : ¬ flT τ (bo x 1) (1 - bo x 1) = 0 → ∀ (l : List Nat) (i : Nat) (σ2 : MS) (z8 : Option Value), holdsL (gA σ 69) (256 + i) l → i + l.length = (myL τ 1).length → (∀ q ∈ l, q ∈ myL τ 1) → CF σ σ2 → Cch (bfT τ) (gA σ2 50) → UpR τ (d + 1) (fun y => rdS τ x y) (gA σ 83) (gA σ2 83) → (∀ q, q ∈ myL τ 1 → q ∈ l ∨ dnQ τ x s q (gA σ2 83)) → V G Γ yX8_goesBoth cX8_goesBoth 9 none [] 7 (rv fun η => ∃ σ2, η = MH m ad σ2 η0 ∧ CF σ σ2 ∧ Cch (bfT τ) (gA σ2 50) ∧ UpR τ (d + 1) (fun y => rdS τ x y) (gA σ 83) (gA σ2 83) ∧ ∀ q, dnQ τ x s q (gA σ2 83)) 0 0 (MH m ad σ2 η0) 37 [some (.ref m), some (.int (nI x)), some (.int (nI (1 - bo x 0))), some (.int (nI s)), some (.int (nI d)), some (.int (nI (1 - bo x 1))), some (.int (nI (setN x (bo x 1) (tN τ 30)))), some (.int (nI i)), z8] [] := by
    intro hwa l
    induction l with
    | nil =>
      intro i σ2 z8 hl1 hi hls hE hC hU hD
      have hi : i = (myL τ 1).length := hi
      refine v_iload (i := 7) dX8_goesBoth_37 rfl ?_
      refine v_aload_n (i := 0) dX8_goesBoth_39 rfl rfl ?_
      refine mg_mayMany rfl dX8_goesBoth_40 ?_
      refine v_iconst (v := nI 1) dX8_goesBoth_43 k_iconst_1 ?_
      refine ml_mayMany hap (by decide) dX8_goesBoth_44 ?_
      refine v_top (show _ = nI (myL τ 1).length from congrArg nI (by rw [hE.2.1 68 (by decide) (by decide)]; exact hm1.1)) ?_
      refine vn_icmp_ge (tgt := 133) dX8_goesBoth_45 rfl (by omega) (by omega) (fun c45 => ?_) (fun c45 => ?_)
      · exact v_vret rfl dX8_goesBoth_133 ⟨rfl, σ2, rfl, hE, hC, hU, fun q hq => ((hD q hq.1.1).resolve_left (fun w => (by cases w))) hq⟩
      · omega
    | cons q l ih =>
      intro i σ2 z8 hl1 hi hls hE hC hU hD
      simp only [List.length_cons] at hi
      have hqm := hls q List.mem_cons_self
      have hq8 := mayL_lt hW.1 hqm
      have hW2 := hE.wx hW hC
      have hab := abT_lt hW.1 0 q
      have hbs := bsT_lt hW.1 0 x (s ||| q) 3 1
      have hva : VL τ (bhT τ x 0 (1 - bo x 0) s) := hx.mv hlm (by decide) (by omega)
      have hvb : VL τ (Y2 τ x s q) := hva.mv hlm (by decide) (by omega)
      have hnx : dnQ τ x s q (gA σ2 83) → V G Γ yX8_goesBoth cX8_goesBoth 9 none [] 7 (rv fun η => ∃ σ2, η = MH m ad σ2 η0 ∧ CF σ σ2 ∧ Cch (bfT τ) (gA σ2 50) ∧ UpR τ (d + 1) (fun y => rdS τ x y) (gA σ 83) (gA σ2 83) ∧ ∀ q, dnQ τ x s q (gA σ2 83)) 0 0 (MH m ad σ2 η0) 37 [some (.ref m), some (.int (nI x)), some (.int (nI (1 - bo x 0))), some (.int (nI s)), some (.int (nI d)), some (.int (nI (1 - bo x 1))), some (.int (nI (setN x (bo x 1) (tN τ 30)))), some (.int (nI (i + 1))), some (.int (nI q))] [] := fun hdn => ih (i + 1) σ2 _ hl1.2 (by omega) (fun q h => hls q (List.mem_cons_of_mem _ h)) hE hC hU (fun q2 h => by
        rcases hD q2 h with w | w
        · rcases List.mem_cons.mp w with e | e
          · rw [e]; exact Or.inr hdn
          · exact Or.inl e
        · exact Or.inr w)
      have hnx2 : ∀ (σ3 : MS), CF σ σ3 → Cch (bfT τ) (gA σ3 50) → UpR τ (d + 1) (fun y => rdS τ x y) (gA σ2 83) (gA σ3 83) → dnQ τ x s q (gA σ3 83) → V G Γ yX8_goesBoth cX8_goesBoth 9 none [] 7 (rv fun η => ∃ σ2, η = MH m ad σ2 η0 ∧ CF σ σ2 ∧ Cch (bfT τ) (gA σ2 50) ∧ UpR τ (d + 1) (fun y => rdS τ x y) (gA σ 83) (gA σ2 83) ∧ ∀ q, dnQ τ x s q (gA σ2 83)) 0 0 (MH m ad σ3 η0) 37 [some (.ref m), some (.int (nI x)), some (.int (nI (1 - bo x 0))), some (.int (nI s)), some (.int (nI d)), some (.int (nI (1 - bo x 1))), some (.int (nI (setN x (bo x 1) (tN τ 30)))), some (.int (nI (i + 1))), some (.int (nI q))] [] := fun σ3 hE3 hC3 hU3 hdn => ih (i + 1) σ3 _ hl1.2 (by omega) (fun q h => hls q (List.mem_cons_of_mem _ h)) hE3 hC3 (hU.trans (by omega) hU3) (fun q2 h => by
        rcases hD q2 h with w | w
        · rcases List.mem_cons.mp w with e | e
          · rw [e]; exact Or.inr hdn
          · exact Or.inl e
        · exact Or.inr (w.mono hU3))
      refine v_iload (i := 7) dX8_goesBoth_37 rfl ?_
      refine v_aload_n (i := 0) dX8_goesBoth_39 rfl rfl ?_
      refine mg_mayMany rfl dX8_goesBoth_40 ?_
      refine v_iconst (v := nI 1) dX8_goesBoth_43 k_iconst_1 ?_
      refine ml_mayMany hap (by decide) dX8_goesBoth_44 ?_
      refine v_top (show _ = nI (myL τ 1).length from congrArg nI (by rw [hE.2.1 68 (by decide) (by decide)]; exact hm1.1)) ?_
      refine vn_icmp_ge (tgt := 133) dX8_goesBoth_45 rfl (by omega) (by omega) (fun c45 => ?_) (fun c45 => ?_)
      · omega
      · refine v_aload_n (i := 0) dX8_goesBoth_48 rfl rfl ?_
        refine mg_may rfl dX8_goesBoth_49 ?_
        refine v_sipush (v := nI 256) dX8_goesBoth_52 k_sipush_256 ?_
        refine v_iload (i := 7) dX8_goesBoth_55 rfl ?_
        refine vn_iadd dX8_goesBoth_57 ?_
        refine ml_may hap (show 256 + i < 512 by omega) dX8_goesBoth_58 ?_
        refine v_top (show _ = nI q from congrArg nI (by rw [hE.2.1 69 (by decide) (by decide)]; exact hl1.1)) ?_
        refine v_istore (i := 8) dX8_goesBoth_59 (by decide) rfl ?_
        refine v_iload (i := 8) dX8_goesBoth_61 rfl ?_
        refine v_iload (i := 6) dX8_goesBoth_63 rfl ?_
        refine v_iconst (v := -1) dX8_goesBoth_65 k_iconst_m1 ?_
        refine v_ixor dX8_goesBoth_66 ?_
        refine vn_andc dX8_goesBoth_67 ?_
        refine vn_if_ne (tgt := 127) dX8_goesBoth_68 rfl (by have := ndf_le q (setN x (bo x 1) (tN τ 30)); omega) (fun c68 => ?_) (fun c68 => ?_)
        · refine vn_iinc 1 dX8_goesBoth_127 rfl k_iconst_1 (by decide) rfl ?_
          refine v_goto (tgt := 37) dX8_goesBoth_130 rfl ?_
          exact hnx (fun r => absurd r.1.2.2.1 c68)
        · refine v_iload (i := 8) dX8_goesBoth_71 rfl ?_
          refine v_iload_n (i := 3) dX8_goesBoth_73 rfl rfl ?_
          refine vn_iand dX8_goesBoth_74 ?_
          refine vn_if_ne (tgt := 127) dX8_goesBoth_75 rfl (by have := Nat.and_le_left (n := q) (m := s); omega) (fun c75 => ?_) (fun c75 => ?_)
          · refine vn_iinc 1 dX8_goesBoth_127 rfl k_iconst_1 (by decide) rfl ?_
            refine v_goto (tgt := 37) dX8_goesBoth_130 rfl ?_
            exact hnx (fun r => absurd r.2.1 c75)
          · refine v_aload_n (i := 0) dX8_goesBoth_78 rfl rfl ?_
            refine v_iload (i := 8) dX8_goesBoth_79 rfl ?_
            refine v_callVI (kc' := 0) (ks' := 0) (cX_aboard hap σ2 τ _ _ 0 hW2 q hq8) (lw_V q2425 q2427 qs98 q136 q2428) iX8_aboard rfl KX8 MH_m rfl rfl (by decide) (by decide) (Nat.le_of_ble_eq_true rfl) (by decide) (by decide) dX8_goesBoth_81 (fun x_ η' h => ?_)
            obtain ⟨rfl, c1, p1, hc1, rfl⟩ := h
            refine vn_if_ne (tgt := 127) dX8_goesBoth_84 rfl (by omega) (fun c84 => ?_) (fun c84 => ?_)
            · refine vn_iinc 1 dX8_goesBoth_127 rfl k_iconst_1 (by decide) rfl ?_
              refine v_goto (tgt := 37) dX8_goesBoth_130 rfl ?_
              exact hnx2 (sCP σ2 c1 p1) hE.cp hc1 UpR.rf (fun r => absurd r.1.2.2.2 c84)
            · refine v_aload_n (i := 0) dX8_goesBoth_87 rfl rfl ?_
              refine v_iload_n (i := 1) dX8_goesBoth_88 rfl rfl ?_
              refine v_iload_n (i := 3) dX8_goesBoth_89 rfl rfl ?_
              refine v_iload (i := 8) dX8_goesBoth_90 rfl ?_
              refine vn_ior dX8_goesBoth_92 ?_
              refine v_iconst (v := nI 3) dX8_goesBoth_93 k_iconst_3 ?_
              refine v_iconst (v := nI 1) dX8_goesBoth_94 k_iconst_1 ?_
              refine v_callVI (kc' := 0) (ks' := 0) (cX_barsShores hap (sCP σ2 c1 p1) τ _ _ 0 (hW2.cp hc1) x (s ||| q) 3 1 (by omega) (by decide) (by decide)) (lw_V q2406 q2408 qs94 q136 q2409) iX8_barsShores rfl KX8 MH_m rfl rfl (by decide) (by decide) (Nat.le_of_ble_eq_true rfl) (by decide) (by decide) dX8_goesBoth_95 (fun x_ η' h => ?_)
              obtain ⟨rfl, c2, p2, hc2, rfl⟩ := h
              rw [sCP_sCP]
              refine vn_if_eq (tgt := 104) dX8_goesBoth_98 rfl (by omega) (fun c98 => ?_) (fun c98 => ?_)
              · refine v_aload_n (i := 0) dX8_goesBoth_104 rfl rfl ?_
                refine v_aload_n (i := 0) dX8_goesBoth_105 rfl rfl ?_
                refine v_aload_n (i := 0) dX8_goesBoth_106 rfl rfl ?_
                refine v_iload_n (i := 1) dX8_goesBoth_107 rfl rfl ?_
                refine v_iconst (v := nI 0) dX8_goesBoth_108 k_iconst_0 ?_
                refine v_iload_n (i := 2) dX8_goesBoth_109 rfl rfl ?_
                refine v_iload_n (i := 3) dX8_goesBoth_110 rfl rfl ?_
                refine v_callVi (cX_behind hap (sCP σ2 c2 p2) τ _ _ 0 (hW2.cp hc2) x 0 (1 - bo x 0) s (by decide) (by omega)) (lw_V q2429 q2431 qs99 q136 q2432) iX8_behind rfl KX8 MH_m rfl rfl (by decide) (by decide) (Nat.le_of_ble_eq_true rfl) dX8_goesBoth_111 ?_
                refine v_iconst (v := nI 1) dX8_goesBoth_114 k_iconst_1 ?_
                refine v_iload (i := 5) dX8_goesBoth_115 rfl ?_
                refine v_iload (i := 8) dX8_goesBoth_117 rfl ?_
                refine v_callVi (cX_behind hap (sCP σ2 c2 p2) τ _ _ 0 (hW2.cp hc2) (bhT τ x 0 (1 - bo x 0) s) 1 (1 - bo x 1) q (by decide) (by omega)) (lw_V q2429 q2431 qs99 q136 q2432) iX8_behind rfl KX8 MH_m rfl rfl (by decide) (by decide) (Nat.le_of_ble_eq_true rfl) dX8_goesBoth_119 ?_
                refine v_iload (i := 4) dX8_goesBoth_122 rfl ?_
                refine v_callVW (kc' := 0) (ks' := 0) (cX_comes hap (sCP σ2 c2 p2) τ (hW2.cp hc2) (Y2 τ x s q) d hvb hd (hU.le (by omega) hra)) (lw_V q2530 q2532 qs114 q136 q2533) iX8_comes rfl KX8 MH_m rfl rfl (by decide) (by decide) (Nat.le_of_ble_eq_true rfl) (by decide) (by decide) dX8_goesBoth_124 (fun η' h => ?_)
                obtain ⟨σ3, rfl, g1, g2, g3⟩ := h
                refine vn_iinc 1 dX8_goesBoth_127 rfl k_iconst_1 (by decide) rfl ?_
                refine v_goto (tgt := 37) dX8_goesBoth_130 rfl ?_
                exact hnx2 σ3 (hE.cp.trans g1) g2 (g3.up (Q := (fun y => rdS τ x y)) (fun e => ⟨hst, e, Or.inr (RQ.rd2 hs ⟨⟨hqm, hwa, c68, c84⟩, c75, c98⟩)⟩) hvb) (fun _ e => g3.2 e)
              · refine v_goto (tgt := 127) dX8_goesBoth_101 rfl ?_
                refine vn_iinc 1 dX8_goesBoth_127 rfl k_iconst_1 (by decide) rfl ?_
                refine v_goto (tgt := 37) dX8_goesBoth_130 rfl ?_
                exact hnx2 (sCP σ2 c2 p2) hE.cp hc2 UpR.rf (fun r => absurd r.2.2 c98)
  refine v_iconst (v := nI 1) dX8_goesBoth_0 k_iconst_1 ?_
  refine v_iload_n (i := 1) dX8_goesBoth_1 rfl rfl ?_
  refine v_iconst (v := nI 1) dX8_goesBoth_2 k_iconst_1 ?_
  refine v_callSi (cM_boatIn x 1 (by omega) (by decide)) (lw_S q2410 q2411 q136 q2412) iX8_boatIn rfl rfl (by decide) (by decide) (Nat.le_of_ble_eq_true rfl) dX8_goesBoth_3 ?_
  refine vn_isub (by omega) dX8_goesBoth_6 ?_
  refine v_istore (i := 5) dX8_goesBoth_7 (by decide) rfl ?_
  refine v_aload_n (i := 0) dX8_goesBoth_9 rfl rfl ?_
  refine v_iconst (v := nI 1) dX8_goesBoth_10 k_iconst_1 ?_
  refine v_iload (i := 5) dX8_goesBoth_11 rfl ?_
  refine vn_isub (by omega) dX8_goesBoth_13 ?_
  refine v_top (show _ = nI (bo x 1) from congrArg nI (by omega)) ?_
  refine v_iload (i := 5) dX8_goesBoth_14 rfl ?_
  refine v_callVi (cX_isWater hap σ τ _ _ 0 hW (bo x 1) (1 - bo x 1) (by omega) (by omega)) (lw_V q2382 q2384 qs89 q136 q2385) iX8_isWater rfl KX8 MH_m rfl rfl (by decide) (by decide) (Nat.le_of_ble_eq_true rfl) dX8_goesBoth_16 ?_
  refine vn_if_ne (tgt := 23) dX8_goesBoth_19 rfl (by omega) (fun c19 => ?_) (fun c19 => ?_)
  · refine v_aload_n (i := 0) dX8_goesBoth_23 rfl rfl ?_
    refine v_iload_n (i := 1) dX8_goesBoth_24 rfl rfl ?_
    refine v_iconst (v := nI 1) dX8_goesBoth_25 k_iconst_1 ?_
    refine v_iload (i := 5) dX8_goesBoth_26 rfl ?_
    refine vn_isub (by omega) dX8_goesBoth_28 ?_
    refine v_top (show _ = nI (bo x 1) from congrArg nI (by omega)) ?_
    refine v_callVi (cX_setAt hap σ τ _ _ 0 hW x (bo x 1) (by omega) (by omega)) (lw_V q2413 q2415 qs95 q136 q2416) iX8_setAt rfl KX8 MH_m rfl rfl (by decide) (by decide) (Nat.le_of_ble_eq_true rfl) dX8_goesBoth_29 ?_
    refine v_istore (i := 6) dX8_goesBoth_32 (by decide) rfl ?_
    refine v_iconst (v := nI 0) dX8_goesBoth_34 k_iconst_0 ?_
    refine v_istore (i := 7) dX8_goesBoth_35 (by decide) rfl ?_
    exact L37 c19 (myL τ 1) 0 σ _ hm1.2 (by omega) (fun q h => h) (CF.rf σ) hW.2.2.2.2.2.2.1 UpR.rf (fun q h => Or.inl h)
  · exact v_vret rfl dX8_goesBoth_22 ⟨rfl, σ, rfl, CF.rf σ, hW.2.2.2.2.2.2.1, UpR.rf, fun q hq => absurd c19 hq.1.2.1⟩
