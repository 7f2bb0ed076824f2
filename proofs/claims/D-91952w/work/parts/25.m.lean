theorem cM_judges {G : Gl} {m : Nat} {ad : Nat → Nat} {η0 : AH} (hap : Mp m ad) (σ : MS) (bf : Nat → Nat → Nat → Nat → Nat) (hB : BarO σ bf) (hC : Cch bf (gA σ 50)) (hS4 : gN σ 1 ≤ 4) (hT : gN σ 2 ≤ 8) (hB2 : gN σ 3 ≤ 2) (hl5 : gN σ 5 ≤ 4) (hw13 : gN σ 13 < 2) (hz12 : ∀ k, k < 16 → gA σ 12 k < 2) (hm : ∀ t, t < gN σ 2 → gA σ 7 t < 2147483648) (hwt : ∀ t, t < gN σ 2 → gA σ 6 t ≤ 99) (hhd : ∀ b, b < gN σ 3 → gA σ 9 b < 2147483648) (hld : ∀ b, b < gN σ 3 → gA σ 10 b < 2147483648) (hw : gN σ 52 ≤ 12) (hat : ∀ b, b < gN σ 3 → gA σ 11 b < 4) (x : Nat) (b to : Int32) (s : Nat) (hx : x < 4194304) (hs : s < 4294967296) : Ct G yX8_judges cX8_judges 6 (some .int) 6 0 0 [.ref m, .int (nI x), .int b, .int to, .int (nI s)] (MH m ad σ η0) (ri fun r η => (¬ (inr b (gN σ 3) ∧ inr to (gN σ 1)) → r = nI 1 ∧ η = MH m ad (sN σ 53 0) η0) ∧ ∀ bb tt, bb < gN σ 3 → tt < gN σ 1 → b = nI bb → to = nI tt → r = nI (jd bf (gN σ 1) (gN σ 2) (gN σ 3) (gN σ 5) (gN σ 52) (st0 (gA σ 11) (gN σ 3) (gN σ 5)) (brN (gN σ 1) (gN σ 2) (gN σ 5) (gA σ 6) (gA σ 7) (gA σ 9) (gA σ 10) (fun a b => if gN σ 13 = 0 then (if a = b then 0 else 1) else gA σ 12 (4 * a + b)) x bb tt s) x bb tt s).1 ∧ ∃ c p, Cch bf c ∧ η = MH m ad (sN (sCP σ c p) 53 (jd bf (gN σ 1) (gN σ 2) (gN σ 3) (gN σ 5) (gN σ 52) (st0 (gA σ 11) (gN σ 3) (gN σ 5)) (brN (gN σ 1) (gN σ 2) (gN σ 5) (gA σ 6) (gA σ 7) (gA σ 9) (gA σ 10) (fun a b => if gN σ 13 = 0 then (if a = b then 0 else 1) else gA σ 12 (4 * a + b)) x bb tt s) x bb tt s).2) η0) := by
  refine Ct.start rfl rfl (Nat.le_of_ble_eq_true rfl) (fun Γ => ?_)
  have hlt := hB.lt
  have hx0 := st0_lt hB2 hat hl5
  by_cases hin : inr b (gN σ 3) ∧ inr to (gN σ 1)
  case neg =>
    refine v_aload_n (i := 0) dX8_judges_0 rfl rfl ?_
    refine v_iconst (v := nI 0) dX8_judges_1 k_iconst_0 ?_
    refine mp_barring rfl dX8_judges_2 ?_
    refine v_aload_n (i := 0) dX8_judges_5 rfl rfl ?_
    refine v_iload_n (i := 1) dX8_judges_6 rfl rfl ?_
    refine v_iload_n (i := 2) dX8_judges_7 rfl rfl ?_
    refine v_iload_n (i := 3) dX8_judges_8 rfl rfl ?_
    refine v_iload (i := 4) dX8_judges_9 rfl ?_
    refine v_callVI (kc' := 0) (ks' := 0) (cM_bare hap (sN σ 53 0) x b to s (by omega) hs hS4 hT hB2 hl5 hw13 hz12 hm hwt hhd hld) (lw_V q2546 q2548 qs117 q136 q2549) iX8_bare rfl KX8 MH_m rfl rfl (by decide) (by decide) (Nat.le_of_ble_eq_true rfl) (by decide) (by decide) dX8_judges_11 (fun x_ η' h => ?_)
    obtain ⟨rfl, h1, h2⟩ := h
    obtain rfl := h1 hin
    refine v_istore (i := 5) dX8_judges_14 (by decide) rfl ?_
    refine v_iload (i := 5) dX8_judges_16 rfl ?_
    refine vn_if_eq (tgt := 24) dX8_judges_18 rfl (by omega) (fun c18 => ?_) (fun c18 => ?_)
    · exact absurd c18 (by decide)
    · refine v_iload (i := 5) dX8_judges_21 rfl ?_
      exact v_iret rfl dX8_judges_23 ⟨_, rfl, fun _ => ⟨rfl, rfl⟩, fun bb tt h1 h2 e1 e2 => absurd ⟨⟨bb, h1, e1⟩, ⟨tt, h2, e2⟩⟩ hin⟩
  obtain ⟨⟨bb, hbb, rfl⟩, ⟨tt, htt, rfl⟩⟩ := hin
  obtain ⟨z, hz⟩ : ∃ z, z = brN (gN σ 1) (gN σ 2) (gN σ 5) (gA σ 6) (gA σ 7) (gA σ 9) (gA σ 10) (fun a b => if gN σ 13 = 0 then (if a = b then 0 else 1) else gA σ 12 (4 * a + b)) x bb tt s := ⟨_, rfl⟩
  have hz6 : z ≤ 6 := by rw [hz]; exact brN_le
  have hfin : ∀ (r : Int32) (η : AH), (r = nI (jd bf (gN σ 1) (gN σ 2) (gN σ 3) (gN σ 5) (gN σ 52) (st0 (gA σ 11) (gN σ 3) (gN σ 5)) (brN (gN σ 1) (gN σ 2) (gN σ 5) (gA σ 6) (gA σ 7) (gA σ 9) (gA σ 10) (fun a b => if gN σ 13 = 0 then (if a = b then 0 else 1) else gA σ 12 (4 * a + b)) x bb tt s) x bb tt s).1 ∧ ∃ c p, Cch bf c ∧ η = MH m ad (sN (sCP σ c p) 53 (jd bf (gN σ 1) (gN σ 2) (gN σ 3) (gN σ 5) (gN σ 52) (st0 (gA σ 11) (gN σ 3) (gN σ 5)) (brN (gN σ 1) (gN σ 2) (gN σ 5) (gA σ 6) (gA σ 7) (gA σ 9) (gA σ 10) (fun a b => if gN σ 13 = 0 then (if a = b then 0 else 1) else gA σ 12 (4 * a + b)) x bb tt s) x bb tt s).2) η0) → (ri fun r η => (¬ (inr (nI bb) (gN σ 3) ∧ inr (nI tt) (gN σ 1)) → r = nI 1 ∧ η = MH m ad (sN σ 53 0) η0) ∧ ∀ b2 t2, b2 < gN σ 3 → t2 < gN σ 1 → nI bb = nI b2 → nI tt = nI t2 → r = nI (jd bf (gN σ 1) (gN σ 2) (gN σ 3) (gN σ 5) (gN σ 52) (st0 (gA σ 11) (gN σ 3) (gN σ 5)) (brN (gN σ 1) (gN σ 2) (gN σ 5) (gA σ 6) (gA σ 7) (gA σ 9) (gA σ 10) (fun a b => if gN σ 13 = 0 then (if a = b then 0 else 1) else gA σ 12 (4 * a + b)) x b2 t2 s) x b2 t2 s).1 ∧ ∃ c p, Cch bf c ∧ η = MH m ad (sN (sCP σ c p) 53 (jd bf (gN σ 1) (gN σ 2) (gN σ 3) (gN σ 5) (gN σ 52) (st0 (gA σ 11) (gN σ 3) (gN σ 5)) (brN (gN σ 1) (gN σ 2) (gN σ 5) (gA σ 6) (gA σ 7) (gA σ 9) (gA σ 10) (fun a b => if gN σ 13 = 0 then (if a = b then 0 else 1) else gA σ 12 (4 * a + b)) x b2 t2 s) x b2 t2 s).2) η0) (.inl (some (.int r))) η := by
    intro r η h
    refine ⟨r, rfl, fun q => absurd ⟨⟨bb, hbb, rfl⟩, ⟨tt, htt, rfl⟩⟩ q, fun b2 t2 h1 h2 e1 e2 => ?_⟩
    have e3 : bb = b2 := (nI_eq (by omega) (by omega)).mp e1
    have e4 : tt = t2 := (nI_eq (by omega) (by omega)).mp e2
    subst e3 e4
    exact h
  rw [← hz] at hfin
  refine v_aload_n (i := 0) dX8_judges_0 rfl rfl ?_
  refine v_iconst (v := nI 0) dX8_judges_1 k_iconst_0 ?_
  refine mp_barring rfl dX8_judges_2 ?_
  refine v_aload_n (i := 0) dX8_judges_5 rfl rfl ?_
  refine v_iload_n (i := 1) dX8_judges_6 rfl rfl ?_
  refine v_iload_n (i := 2) dX8_judges_7 rfl rfl ?_
  refine v_iload_n (i := 3) dX8_judges_8 rfl rfl ?_
  refine v_iload (i := 4) dX8_judges_9 rfl ?_
  refine v_callVI (kc' := 0) (ks' := 0) (cM_bare hap (sN σ 53 0) x (nI bb) (nI tt) s (by omega) hs hS4 hT hB2 hl5 hw13 hz12 hm hwt hhd hld) (lw_V q2546 q2548 qs117 q136 q2549) iX8_bare rfl KX8 MH_m rfl rfl (by decide) (by decide) (Nat.le_of_ble_eq_true rfl) (by decide) (by decide) dX8_judges_11 (fun x_ η' h => ?_)
  obtain ⟨rfl, h1, h2⟩ := h
  obtain rfl := h2 bb tt hbb htt rfl rfl
  refine v_top (show _ = nI z by rw [hz]; rfl) ?_
  refine v_istore (i := 5) dX8_judges_14 (by decide) rfl ?_
  refine v_iload (i := 5) dX8_judges_16 rfl ?_
  refine vn_if_eq (tgt := 24) dX8_judges_18 rfl (by omega) (fun c18 => ?_) (fun c18 => ?_)
  · refine v_aload_n (i := 0) dX8_judges_24 rfl rfl ?_
    refine v_aload_n (i := 0) dX8_judges_25 rfl rfl ?_
    refine v_aload_n (i := 0) dX8_judges_26 rfl rfl ?_
    refine v_callVi (cM_start hap (sN σ 53 0) hB2 hl5) (lw_V q1912 q1914 qs54 q136 q1915) iX8_start rfl KX8 MH_m rfl rfl (by decide) (by decide) (Nat.le_of_ble_eq_true rfl) dX8_judges_27 ?_
    refine v_iconst (v := nI 0) dX8_judges_30 k_iconst_0 ?_
    refine v_iconst (v := nI 0) dX8_judges_31 k_iconst_0 ?_
    refine v_iconst (v := nI 0) dX8_judges_32 k_iconst_0 ?_
    refine v_callVI (kc' := 0) (ks' := 0) (cM_barsShores hap (sN σ 53 0) bf hB hC hB2 hl5 hw (st0 (gA σ 11) (gN σ 3) (gN σ 5)) 0 0 0 (by omega) (by decide) (by decide)) (lw_V q2406 q2408 qs94 q136 q2409) iX8_barsShores rfl KX8 MH_m rfl rfl (by decide) (by decide) (Nat.le_of_ble_eq_true rfl) (by decide) (by decide) dX8_judges_33 (fun x_ η' h => ?_)
    obtain ⟨rfl, c1, p1, hc1, rfl⟩ := h
    have hv1 := bs_lt hlt (gN σ 1) (gN σ 2) (gN σ 3) (gN σ 5) (gN σ 52) (st0 (gA σ 11) (gN σ 3) (gN σ 5)) 0 0 0
    refine mp_barring rfl dX8_judges_36 ?_
    rw [sCP_sN, sN_sN]
    refine v_aload_n (i := 0) dX8_judges_39 rfl rfl ?_
    refine mg_barring rfl dX8_judges_40 ?_
    refine vn_if_eq (tgt := 49) dX8_judges_43 rfl (show bs bf (gN σ 1) (gN σ 2) (gN σ 3) (gN σ 5) (gN σ 52) (st0 (gA σ 11) (gN σ 3) (gN σ 5)) 0 0 0 < _ by omega) (fun c43 => ?_) (fun c43 => ?_)
    · have c43 : bs bf (gN σ 1) (gN σ 2) (gN σ 3) (gN σ 5) (gN σ 52) (st0 (gA σ 11) (gN σ 3) (gN σ 5)) 0 0 0 = 0 := c43
      have hs8 : s < 256 := ndf_0 (n := 8) (setN_256 x (bo x bb) hT) (brN_0 (hz.symm.trans c18)).2.1
      refine v_aload_n (i := 0) dX8_judges_49 rfl rfl ?_
      refine v_aload_n (i := 0) dX8_judges_50 rfl rfl ?_
      refine v_iload (i := 4) dX8_judges_51 rfl ?_
      refine v_callVI (kc' := 0) (ks' := 0) (cM_aboard hap (sN (sCP σ c1 p1) 53 (bs bf (gN σ 1) (gN σ 2) (gN σ 3) (gN σ 5) (gN σ 52) (st0 (gA σ 11) (gN σ 3) (gN σ 5)) 0 0 0)) bf hB hc1 hB2 hl5 hw s hs8) (lw_V q2425 q2427 qs98 q136 q2428) iX8_aboard rfl KX8 MH_m rfl rfl (by decide) (by decide) (Nat.le_of_ble_eq_true rfl) (by decide) (by decide) dX8_judges_53 (fun x_ η' h => ?_)
      obtain ⟨rfl, c2, p2, hc2, rfl⟩ := h
      rw [sCP_sN, sCP_sCP]
      refine v_aload_n (i := 0) dX8_judges_56 rfl rfl ?_
      refine v_iload_n (i := 1) dX8_judges_57 rfl rfl ?_
      refine v_iload (i := 4) dX8_judges_58 rfl ?_
      refine v_iconst (v := nI 1) dX8_judges_60 k_iconst_1 ?_
      refine v_iload_n (i := 2) dX8_judges_61 rfl rfl ?_
      refine vn_ishl (by omega) dX8_judges_62 ?_
      refine v_iconst (v := nI 1) dX8_judges_63 k_iconst_1 ?_
      refine v_callVI (kc' := 0) (ks' := 0) (cM_barsShores hap (sN (sCP σ c2 p2) 53 (bs bf (gN σ 1) (gN σ 2) (gN σ 3) (gN σ 5) (gN σ 52) (st0 (gA σ 11) (gN σ 3) (gN σ 5)) 0 0 0)) bf hB hc2 hB2 hl5 hw (x) s (1 * 2 ^ bb) 1 (by omega) (by rcases (show bb = 0 ∨ bb = 1 by omega) with rfl | rfl <;> decide) (by decide)) (lw_V q2406 q2408 qs94 q136 q2409) iX8_barsShores rfl KX8 MH_m rfl rfl (by decide) (by decide) (Nat.le_of_ble_eq_true rfl) (by decide) (by decide) dX8_judges_64 (fun x_ η' h => ?_)
      obtain ⟨rfl, c3, p3, hc3, rfl⟩ := h
      rw [sCP_sN, sCP_sCP]
      refine vn_ior dX8_judges_67 ?_
      refine mp_barring rfl dX8_judges_68 ?_
      rw [sN_sN]
      have hv2 : (ab bf (gN σ 1) (gN σ 5) (gN σ 52) s ||| bs bf (gN σ 1) (gN σ 2) (gN σ 3) (gN σ 5) (gN σ 52) x s (1 * 2 ^ bb) 1) < 4096 := or4096 (ab_lt hlt _ _ _ _) (bs_lt hlt _ _ _ _ _ _ _ _ _)
      refine v_aload_n (i := 0) dX8_judges_71 rfl rfl ?_
      refine mg_barring rfl dX8_judges_72 ?_
      refine vn_if_eq (tgt := 81) dX8_judges_75 rfl (show (ab bf (gN σ 1) (gN σ 5) (gN σ 52) s ||| bs bf (gN σ 1) (gN σ 2) (gN σ 3) (gN σ 5) (gN σ 52) x s (1 * 2 ^ bb) 1) < _ by omega) (fun c75 => ?_) (fun c75 => ?_)
      · have c75 : (ab bf (gN σ 1) (gN σ 5) (gN σ 52) s ||| bs bf (gN σ 1) (gN σ 2) (gN σ 3) (gN σ 5) (gN σ 52) x s (1 * 2 ^ bb) 1) = 0 := c75
        refine v_aload_n (i := 0) dX8_judges_81 rfl rfl ?_
        refine v_aload_n (i := 0) dX8_judges_82 rfl rfl ?_
        refine v_aload_n (i := 0) dX8_judges_83 rfl rfl ?_
        refine v_iload_n (i := 1) dX8_judges_84 rfl rfl ?_
        refine v_iload_n (i := 2) dX8_judges_85 rfl rfl ?_
        refine v_iload_n (i := 3) dX8_judges_86 rfl rfl ?_
        refine v_iload (i := 4) dX8_judges_87 rfl ?_
        refine v_callVi (cM_behind hap (sN (sCP σ c3 p3) 53 ((ab bf (gN σ 1) (gN σ 5) (gN σ 52) s ||| bs bf (gN σ 1) (gN σ 2) (gN σ 3) (gN σ 5) (gN σ 52) x s (1 * 2 ^ bb) 1))) x bb tt s (by omega) (by omega) hT hl5) (lw_V q2429 q2431 qs99 q136 q2432) iX8_behind rfl KX8 MH_m rfl rfl (by decide) (by decide) (Nat.le_of_ble_eq_true rfl) dX8_judges_89 ?_
        refine v_iconst (v := nI 0) dX8_judges_92 k_iconst_0 ?_
        refine v_iconst (v := nI 0) dX8_judges_93 k_iconst_0 ?_
        refine v_iconst (v := nI 0) dX8_judges_94 k_iconst_0 ?_
        refine v_callVI (kc' := 0) (ks' := 0) (cM_barsShores hap (sN (sCP σ c3 p3) 53 ((ab bf (gN σ 1) (gN σ 5) (gN σ 52) s ||| bs bf (gN σ 1) (gN σ 2) (gN σ 3) (gN σ 5) (gN σ 52) x s (1 * 2 ^ bb) 1))) bf hB hc3 hB2 hl5 hw (bh (gN σ 2) (gN σ 5) x bb tt s) 0 0 0 (Nat.lt_trans (bh_lt hx hT (by omega) (by omega)) (by decide)) (by decide) (by decide)) (lw_V q2406 q2408 qs94 q136 q2409) iX8_barsShores rfl KX8 MH_m rfl rfl (by decide) (by decide) (Nat.le_of_ble_eq_true rfl) (by decide) (by decide) dX8_judges_95 (fun x_ η' h => ?_)
        obtain ⟨rfl, c4, p4, hc4, rfl⟩ := h
        rw [sCP_sN, sCP_sCP]
        refine mp_barring rfl dX8_judges_98 ?_
        rw [sN_sN]
        have hv3 := bs_lt hlt (gN σ 1) (gN σ 2) (gN σ 3) (gN σ 5) (gN σ 52) (bh (gN σ 2) (gN σ 5) x bb tt s) 0 0 0
        refine v_aload_n (i := 0) dX8_judges_101 rfl rfl ?_
        refine mg_barring rfl dX8_judges_102 ?_
        refine vn_if_eq (tgt := 113) dX8_judges_105 rfl (show bs bf (gN σ 1) (gN σ 2) (gN σ 3) (gN σ 5) (gN σ 52) (bh (gN σ 2) (gN σ 5) x bb tt s) 0 0 0 < _ by omega) (fun c105 => ?_) (fun c105 => ?_)
        · have c105 : bs bf (gN σ 1) (gN σ 2) (gN σ 3) (gN σ 5) (gN σ 52) (bh (gN σ 2) (gN σ 5) x bb tt s) 0 0 0 = 0 := c105
          refine v_iconst (v := nI 0) dX8_judges_113 k_iconst_0 ?_
          exact v_iret rfl dX8_judges_114 (hfin _ _ ⟨by unfold jd; rw [if_neg (fun q => q c18), if_neg (fun q => q c43), if_neg (fun q => q c75), if_neg (fun q => q c105)], c4, p4, hc4, by unfold jd; rw [if_neg (fun q => q c18), if_neg (fun q => q c43), if_neg (fun q => q c75), if_neg (fun q => q c105)]; exact congrArg (fun v => MH m ad (sN (sCP σ c4 p4) 53 v) η0) c105⟩)
        · have c105 : ¬ bs bf (gN σ 1) (gN σ 2) (gN σ 3) (gN σ 5) (gN σ 52) (bh (gN σ 2) (gN σ 5) x bb tt s) 0 0 0 = 0 := c105
          refine v_bipush (v := nI 8) dX8_judges_108 k_bipush_8 ?_
          refine v_goto (tgt := 114) dX8_judges_110 rfl ?_
          exact v_iret rfl dX8_judges_114 (hfin _ _ ⟨by unfold jd; rw [if_neg (fun q => q c18), if_neg (fun q => q c43), if_neg (fun q => q c75), if_pos c105], c4, p4, hc4, by unfold jd; rw [if_neg (fun q => q c18), if_neg (fun q => q c43), if_neg (fun q => q c75), if_pos c105]; try rfl⟩)
      · have c75 : ¬ (ab bf (gN σ 1) (gN σ 5) (gN σ 52) s ||| bs bf (gN σ 1) (gN σ 2) (gN σ 3) (gN σ 5) (gN σ 52) x s (1 * 2 ^ bb) 1) = 0 := c75
        refine v_bipush (v := nI 7) dX8_judges_78 k_bipush_7 ?_
        exact v_iret rfl dX8_judges_80 (hfin _ _ ⟨by unfold jd; rw [if_neg (fun q => q c18), if_neg (fun q => q c43), if_pos c75], c3, p3, hc3, by unfold jd; rw [if_neg (fun q => q c18), if_neg (fun q => q c43), if_pos c75]; try rfl⟩)
    · have c43 : ¬ bs bf (gN σ 1) (gN σ 2) (gN σ 3) (gN σ 5) (gN σ 52) (st0 (gA σ 11) (gN σ 3) (gN σ 5)) 0 0 0 = 0 := c43
      refine v_bipush (v := nI 7) dX8_judges_46 k_bipush_7 ?_
      exact v_iret rfl dX8_judges_48 (hfin _ _ ⟨by unfold jd; rw [if_neg (fun q => q c18), if_pos c43], c1, p1, hc1, by unfold jd; rw [if_neg (fun q => q c18), if_pos c43]; try rfl⟩)
  · refine v_iload (i := 5) dX8_judges_21 rfl ?_
    exact v_iret rfl dX8_judges_23 (hfin _ _ ⟨by unfold jd; rw [if_pos c18], gA σ 50, gB σ 51, hC, by unfold jd; rw [if_pos c18, sCP_self]⟩)
