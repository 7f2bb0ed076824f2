set_option maxRecDepth 100000
def gQ (τ : Td) (hd ld : Nat → Nat) (wo x b to : Nat) : Nat → Bool := fun s => decide ((jgN τ hd ld wo x (nI b) (nI to) s).1 = 0)
def gP (τ : Td) (k x b to : Nat) : Nat → XT → Option XT := fun s X => xStep X k b to s (bhT τ x b to s)
/-- what the map does for one boat and shore, for one boat, for all -/
def gS (τ : Td) (hd ld : Nat → Nat) (wo k x b to : Nat) (X : XT) : Option XT := if flT τ (bo x b) to = 0 then some X else xF (gQ τ hd ld wo x b to) (gP τ k x b to) (sbL (setN x (bo x b) (tN τ 30))) X
def gTo (τ : Td) (hd ld : Nat → Nat) (wo k x b : Nat) : Nat → Nat → Option XT → Option XT
  | 0, _, o => o
  | n + 1, to, o => gTo τ hd ld wo k x b n (to + 1) (o.bind (gS τ hd ld wo k x b to))
def gBo (τ : Td) (hd ld : Nat → Nat) (wo k x : Nat) : Nat → Nat → Option XT → Option XT
  | 0, _, o => o
  | n + 1, b, o => gBo τ hd ld wo k x n (b + 1) (gTo τ hd ld wo k x b (tN τ 29) 0 o)
def KX (k x : Nat) (o : Option XT) : Prop := ∀ X, o = some X → k < xn X ∧ xst X k = x
theorem xStep_k {X Y : XT} {k j b to s y : Nat} (h : xStep X j b to s y = some Y) (hk : k < xn X) : k < xn Y ∧ xst Y k = xst X k := by
  unfold xStep at h
  split at h
  · cases h
  · split at h
    · cases h
    · cases h
      split
      · refine ⟨by show k < xn X + 1; omega, ?_⟩
        show va_up (xst X) (xn X) y k = xst X k
        rw [va_up_n (by omega)]
      · exact ⟨hk, rfl⟩
theorem KX.stp {k x j b to s y : Nat} {X : XT} {c : Prop} [Decidable c] (h : KX k x (some X)) : KX k x (if c then xStep X j b to s y else some X) := by
  intro Y hY
  split at hY
  · obtain ⟨h1, h2⟩ := h X rfl
    obtain ⟨h3, h4⟩ := xStep_k hY h1
    exact ⟨h3, h4.trans h2⟩
  · exact h Y hY
theorem bind_F {q : Nat → Bool} {stp : Nat → XT → Option XT} {s : Nat} {l : List Nat} {X : XT} {c : Prop} [Decidable c] (hq : q s = decide c) : (if c then stp s X else some X).bind (xF q stp l) = (some X).bind (xF q stp (s :: l)) := by
  show _ = xF q stp (s :: l) X
  by_cases h : c
  · rw [if_pos h, xF_y (by rw [hq]; exact decide_eq_true h)]
  · rw [if_neg h, xF_n (by rw [hq]; simp [h])]
    rfl
theorem cS_go {G : Gl} {η0 : AH} {w : Nat} {τ : Td} (hW : Wd G η0 w τ) {t m j q : Nat} {adm : Nat → Nat} {hd ld : Nat → Nat} {wo : Nat} {μ : MS} (hM : ME η0 t m w j q adm τ hd ld wo μ) {X : XT} (hX : MX τ μ X) (hsp : gN μ 11 = 0) {tp p x k : Nat} (hP : Pl η0 tp p w τ x) (htp : tp < t ∨ t + 3 ≤ tp) (hk0 : k < xn X) (hxk : xst X k = x) (hst : ¬ bsT τ wo (stT τ) 0 0 0 = 0 → x = stT τ) : Ct G yX3_go cX3_go 7 none 7 (0) (0) [.ref m, .int (nI k), .ref p] η0 (rv fun η => ∃ μ2, ME η t m w j q adm τ hd ld wo μ2 ∧ MK μ μ2 ∧ Kp t (t + 3) η0 η ∧ MR τ μ2 (gBo τ hd ld wo k x (tN τ 31) 0 (some X)) ∧ KX k x (gBo τ hd ld wo k x (tN τ 31) 0 (some X))) := by
  refine Ct.start rfl rfl (Nat.le_of_ble_eq_true rfl) (fun Γ => ?_)
  have hTB := hW.tb
  obtain ⟨⟨wb1, wb2, wb3, wb4, wb5, wb6, wb7⟩, -⟩ := id hTB
  have L75 : ∀ (b to : Nat), b < tN τ 31 → to < tN τ 29 → ∀ (l : List Nat) (a : Nat) (η : AH) (μ1 : MS) (o : Option XT), sbC (setN x (bo x b) (tN τ 30)) a l = true → (∀ s ∈ l, 0 < s ∧ s < 256) → Wd G η w τ → ME η t m w j q adm τ hd ld wo μ1 → Pl η tp p w τ x → Kp t (t + 3) η0 η → MK μ μ1 → KX k x o → MR τ μ1 o → (∀ (η : AH) (μ1 : MS) (z : Option Value), Wd G η w τ → ME η t m w j q adm τ hd ld wo μ1 → Pl η tp p w τ x → Kp t (t + 3) η0 η → MK μ μ1 → KX k x (o.bind (xF (gQ τ hd ld wo x b to) (gP τ k x b to) l)) → MR τ μ1 (o.bind (xF (gQ τ hd ld wo x b to) (gP τ k x b to) l)) → V G Γ yX3_go cX3_go 7 none [] 7 (rv fun η => ∃ μ2, ME η t m w j q adm τ hd ld wo μ2 ∧ MK μ μ2 ∧ Kp t (t + 3) η0 η ∧ MR τ μ2 (gBo τ hd ld wo k x (tN τ 31) 0 (some X)) ∧ KX k x (gBo τ hd ld wo k x (tN τ 31) 0 (some X))) (0) (0) (η) 111 [some (.ref m), some (.int (nI k)), some (.ref p), some (.int (nI b)), some (.int (nI (setN x (bo x b) (tN τ 30)))), some (.int (nI to)), z] []) → V G Γ yX3_go cX3_go 7 none [] 7 (rv fun η => ∃ μ2, ME η t m w j q adm τ hd ld wo μ2 ∧ MK μ μ2 ∧ Kp t (t + 3) η0 η ∧ MR τ μ2 (gBo τ hd ld wo k x (tN τ 31) 0 (some X)) ∧ KX k x (gBo τ hd ld wo k x (tN τ 31) 0 (some X))) (0) (0) (η) 75 [some (.ref m), some (.int (nI k)), some (.ref p), some (.int (nI b)), some (.int (nI (setN x (bo x b) (tN τ 30)))), some (.int (nI to)), some (.int (nI a))] [] := by
    intro b to hb hto l
    have hT8 := setN_256 x (bo x b) wb3
    induction l with
    | nil =>
      intro a η μ1 o hC hl hW hM hP h0 hMK hKX hR K
      have e : a = 0 := by simpa [sbC] using hC
      subst e
      have eo : o.bind (xF (gQ τ hd ld wo x b to) (gP τ k x b to) []) = o := by cases o <;> rfl
      rw [eo] at K
      refine v_iload (i := 6) dX3_go_75 rfl ?_
      refine vn_if_eq (tgt := 111) dX3_go_77 rfl (by decide) (fun c77 => ?_) (fun c77 => ?_)
      · exact K η μ1 _ hW hM hP h0 hMK hKX hR
      · exact absurd rfl c77
    | cons s l ih =>
      intro a η μ1 o hC hl hW hM hP h0 hMK hKX hR K
      obtain ⟨e, hC2⟩ : a = s ∧ sbC (setN x (bo x b) (tN τ 30)) (sbN (setN x (bo x b) (tN τ 30)) s) l = true := by simpa [sbC] using hC
      subst e
      obtain ⟨hs1, hs2⟩ := hl a List.mem_cons_self
      have hl2 : ∀ s ∈ l, 0 < s ∧ s < 256 := fun s h => hl s (List.mem_cons_of_mem _ h)
      have hMo := hM.1
      cases o with
      | none =>
        refine v_iload (i := 6) dX3_go_75 rfl ?_
        refine vn_if_eq (tgt := 111) dX3_go_77 rfl (by omega) (fun c77 => ?_) (fun c77 => ?_)
        · exact absurd c77 (by omega)
        · refine v_aload_n (i := 0) dX3_go_80 rfl rfl ?_
          refine go_get0 hMo KX3 11 (by decide) rfl (1) hR.1 q294 dX3_go_81 ?_
          refine vn_if_ne (tgt := 111) dX3_go_84 rfl (by decide) (fun c84 => ?_) (fun c84 => ?_)
          · exact K η μ1 _ hW hM hP h0 hMK hKX hR
          · exact absurd c84 (by decide)
      | some X1 =>
        refine v_iload (i := 6) dX3_go_75 rfl ?_
        refine vn_if_eq (tgt := 111) dX3_go_77 rfl (by omega) (fun c77 => ?_) (fun c77 => ?_)
        · exact absurd c77 (by omega)
        · refine v_aload_n (i := 0) dX3_go_80 rfl rfl ?_
          refine go_get0 hMo KX3 11 (by decide) rfl (0) hR.2 q294 dX3_go_81 ?_
          refine vn_if_ne (tgt := 111) dX3_go_84 rfl (by decide) (fun c84 => ?_) (fun c84 => ?_)
          · exact absurd rfl c84
          · refine v_aload_n (i := 0) dX3_go_87 rfl rfl ?_
            refine v_iload_n (i := 1) dX3_go_88 rfl rfl ?_
            refine v_aload_n (i := 2) dX3_go_89 rfl rfl ?_
            refine v_iload_n (i := 3) dX3_go_90 rfl rfl ?_
            refine v_iload (i := 5) dX3_go_91 rfl ?_
            refine v_iload (i := 6) dX3_go_93 rfl ?_
            refine v_callVe (cS_cross hW hM hR.1 hR.2 hP htp (hKX X1 rfl).1 (hKX X1 rfl).2 hb hto hs2 hst) (lw_V q719 q721 qs5 q124 q722) iX3_cross rfl KX3 hMo.rcv rfl rfl (by decide) (by decide) (Nat.le_of_ble_eq_true rfl) (Nat.le_refl _) (Nat.le_refl _) dX3_go_95 (kr_W (fun η h => ?_)) kx_W
            obtain ⟨μ2, hM, hMK2, hk, hR2⟩ := h
            have hMK := hMK.tr hMK2
            have h0 := h0.th hk (by omega) (by omega)
            have hW := hW.kp hk
            have hP := hP.kp hk (by omega)
            refine v_iload (i := 6) dX3_go_98 rfl ?_
            refine v_iload (i := 4) dX3_go_100 rfl ?_
            refine v_isub dX3_go_102 ?_
            refine v_iload (i := 4) dX3_go_103 rfl ?_
            refine v_iand dX3_go_105 ?_
            refine v_top (x' := nI (sbN (setN x (bo x b) (tN τ 30)) a)) (nI_sbN hT8 hs2) ?_
            refine v_istore (i := 6) dX3_go_106 (by decide) rfl ?_
            refine v_goto (tgt := 75) dX3_go_108 rfl ?_
            have eF := bind_F (q := (gQ τ hd ld wo x b to)) (stp := (gP τ k x b to)) (s := a) (l := l) (X := X1) (c := (jgN τ hd ld wo x (nI b) (nI to) a).1 = 0) rfl
            rw [← eF] at K
            exact ih (sbN (setN x (bo x b) (tN τ 30)) a) η μ2 _ hC2 hl2 hW hM hP h0 hMK (hKX.stp) hR2 K
  have L34 : ∀ (b : Nat), b < tN τ 31 → ∀ (n to : Nat), to + n = tN τ 29 → ∀ (η : AH) (μ1 : MS) (o : Option XT) (z : Option Value), Wd G η w τ → ME η t m w j q adm τ hd ld wo μ1 → Pl η tp p w τ x → Kp t (t + 3) η0 η → MK μ μ1 → KX k x o → MR τ μ1 o → (∀ (η : AH) (μ1 : MS) (z z2 : Option Value), Wd G η w τ → ME η t m w j q adm τ hd ld wo μ1 → Pl η tp p w τ x → Kp t (t + 3) η0 η → MK μ μ1 → KX k x (gTo τ hd ld wo k x b n to o) → MR τ μ1 (gTo τ hd ld wo k x b n to o) → V G Γ yX3_go cX3_go 7 none [] 7 (rv fun η => ∃ μ2, ME η t m w j q adm τ hd ld wo μ2 ∧ MK μ μ2 ∧ Kp t (t + 3) η0 η ∧ MR τ μ2 (gBo τ hd ld wo k x (tN τ 31) 0 (some X)) ∧ KX k x (gBo τ hd ld wo k x (tN τ 31) 0 (some X))) (0) (0) (η) 117 [some (.ref m), some (.int (nI k)), some (.ref p), some (.int (nI b)), some (.int (nI (setN x (bo x b) (tN τ 30)))), z, z2] []) → V G Γ yX3_go cX3_go 7 none [] 7 (rv fun η => ∃ μ2, ME η t m w j q adm τ hd ld wo μ2 ∧ MK μ μ2 ∧ Kp t (t + 3) η0 η ∧ MR τ μ2 (gBo τ hd ld wo k x (tN τ 31) 0 (some X)) ∧ KX k x (gBo τ hd ld wo k x (tN τ 31) 0 (some X))) (0) (0) (η) 34 [some (.ref m), some (.int (nI k)), some (.ref p), some (.int (nI b)), some (.int (nI (setN x (bo x b) (tN τ 30)))), some (.int (nI to)), z] [] := by
    intro b hb n
    have hT8 := setN_256 x (bo x b) wb3
    have hbl := bo_lt x b
    induction n with
    | zero =>
      intro to hn η μ1 o z hW hM hP h0 hMK hKX hR K
      have e : to = tN τ 29 := by omega
      subst e
      obtain ⟨adW, L, -, hWo, hWw, hWb, -, -⟩ := id hW
      obtain ⟨xb, cb, hBl, hBn, hBo⟩ := hWb
      obtain ⟨hMo, m0, m1, -, -⟩ := id hM
      obtain ⟨adp, π, hPo, p0, p3, p1, p2⟩ := id hP
      refine v_iload (i := 5) dX3_go_34 rfl ?_
      refine v_aload_n (i := 0) dX3_go_36 rfl rfl ?_
      refine go_get3 hMo KX3 0 (by decide) rfl (w) m0 q278 dX3_go_37 ?_
      refine go_get0N hWo KX2 0 (by decide) rfl (tN τ 29) rfl q211 dX3_go_40 ?_
      refine vn_icmp_ge (tgt := 117) dX3_go_43 rfl (by omega) (by omega) (fun c43 => ?_) (fun c43 => ?_)
      · exact K η μ1 _ _ hW hM hP h0 hMK hKX hR
      · exact absurd (show tN τ 29 < tN τ 29 from c43) (by omega)
    | succ n ih =>
      intro to hn η μ1 o z hW hM hP h0 hMK hKX hR K
      have hto : to < tN τ 29 := by omega
      have hfl := flT_lt hTB hbl (show to < 4 by omega)
      have K111 : ∀ (η : AH) (μ1 : MS) (z : Option Value), Wd G η w τ → ME η t m w j q adm τ hd ld wo μ1 → Pl η tp p w τ x → Kp t (t + 3) η0 η → MK μ μ1 → KX k x (o.bind (gS τ hd ld wo k x b to)) → MR τ μ1 (o.bind (gS τ hd ld wo k x b to)) → V G Γ yX3_go cX3_go 7 none [] 7 (rv fun η => ∃ μ2, ME η t m w j q adm τ hd ld wo μ2 ∧ MK μ μ2 ∧ Kp t (t + 3) η0 η ∧ MR τ μ2 (gBo τ hd ld wo k x (tN τ 31) 0 (some X)) ∧ KX k x (gBo τ hd ld wo k x (tN τ 31) 0 (some X))) (0) (0) (η) 111 [some (.ref m), some (.int (nI k)), some (.ref p), some (.int (nI b)), some (.int (nI (setN x (bo x b) (tN τ 30)))), some (.int (nI to)), z] [] := by
        intro η μ1 z hW hM hP h0 hMK hKX hR
        refine vn_iinc 1 dX3_go_111 rfl k_iconst_1 (by decide) rfl ?_
        refine v_goto (tgt := 34) dX3_go_114 rfl ?_
        exact ih (to + 1) (by omega) η μ1 _ z hW hM hP h0 hMK hKX hR K
      obtain ⟨adW, L, -, hWo, hWw, hWb, -, -⟩ := id hW
      obtain ⟨xb, cb, hBl, hBn, hBo⟩ := hWb
      obtain ⟨hMo, m0, m1, -, -⟩ := id hM
      obtain ⟨adp, π, hPo, p0, p3, p1, p2⟩ := id hP
      refine v_iload (i := 5) dX3_go_34 rfl ?_
      refine v_aload_n (i := 0) dX3_go_36 rfl rfl ?_
      refine go_get3 hMo KX3 0 (by decide) rfl (w) m0 q278 dX3_go_37 ?_
      refine go_get0N hWo KX2 0 (by decide) rfl (tN τ 29) rfl q211 dX3_go_40 ?_
      refine vn_icmp_ge (tgt := 117) dX3_go_43 rfl (by omega) (by omega) (fun c43 => ?_) (fun c43 => ?_)
      · exact absurd (show tN τ 29 ≤ to from c43) (by omega)
      · refine v_aload_n (i := 0) dX3_go_46 rfl rfl ?_
        refine go_get3 hMo KX3 0 (by decide) rfl (w) m0 q278 dX3_go_47 ?_
        refine v_aload_n (i := 2) dX3_go_50 rfl rfl ?_
        refine go_getAN hPo KX7 1 (by decide) (by decide) q512 dX3_go_51 ?_
        refine v_iload_n (i := 3) dX3_go_54 rfl rfl ?_
        refine go_ld10 hPo 1 (by decide) rfl (show _ < 2 from (by omega)) (by decide) _ (p1 _ (by omega)) dX3_go_55 ?_
        refine v_iload (i := 5) dX3_go_56 rfl ?_
        refine v_callVe (cW_flows hW (a := bo x b) (b := to) hbl (by omega)) (lw_V q715 q716 q717 q120 q718) iX2_flows rfl KX2 hW.rcv rfl rfl (by decide) (by decide) (Nat.le_of_ble_eq_true rfl) (Nat.le_refl _) (Nat.le_refl _) dX3_go_58 (kr_ei ?_) kx_e
        refine vn_if_ne (tgt := 67) dX3_go_61 rfl (by omega) (fun c61 => ?_) (fun c61 => ?_)
        · refine v_iload (i := 4) dX3_go_67 rfl ?_
          refine v_iload (i := 4) dX3_go_69 rfl ?_
          refine v_ineg dX3_go_71 ?_
          refine v_iand dX3_go_72 ?_
          refine v_top (x' := nI (sbF (setN x (bo x b) (tN τ 30)))) (nI_sbF hT8) ?_
          refine v_istore (i := 6) dX3_go_73 (by decide) rfl ?_
          refine L75 b to hb hto (sbL (setN x (bo x b) (tN τ 30))) _ η μ1 o (sb_ok _ hT8) (fun s h => ⟨(sbL_pos h).1, (sbL_pos h).2.1⟩) hW hM hP h0 hMK hKX hR (fun η μ1 z hW hM hP h0 hMK hKX hR => ?_)
          have eS : o.bind (xF (gQ τ hd ld wo x b to) (gP τ k x b to) (sbL (setN x (bo x b) (tN τ 30)))) = o.bind (gS τ hd ld wo k x b to) := by
            congr 1
            funext Y
            exact (if_neg c61).symm
          rw [eS] at hKX hR
          exact K111 η μ1 z hW hM hP h0 hMK hKX hR
        · have eS : o.bind (gS τ hd ld wo k x b to) = o := by
            cases o with
            | none => rfl
            | some X1 => exact if_pos c61
          rw [eS] at K111
          refine v_goto (tgt := 111) dX3_go_64 rfl ?_
          exact K111 η μ1 _ hW hM hP h0 hMK hKX hR
  have L2 : ∀ (n b : Nat), b + n = tN τ 31 → ∀ (η : AH) (μ1 : MS) (o : Option XT) (z4 z5 z6 : Option Value), Wd G η w τ → ME η t m w j q adm τ hd ld wo μ1 → Pl η tp p w τ x → Kp t (t + 3) η0 η → MK μ μ1 → KX k x o → MR τ μ1 o → gBo τ hd ld wo k x n b o = gBo τ hd ld wo k x (tN τ 31) 0 (some X) → V G Γ yX3_go cX3_go 7 none [] 7 (rv fun η => ∃ μ2, ME η t m w j q adm τ hd ld wo μ2 ∧ MK μ μ2 ∧ Kp t (t + 3) η0 η ∧ MR τ μ2 (gBo τ hd ld wo k x (tN τ 31) 0 (some X)) ∧ KX k x (gBo τ hd ld wo k x (tN τ 31) 0 (some X))) (0) (0) (η) 2 [some (.ref m), some (.int (nI k)), some (.ref p), some (.int (nI b)), z4, z5, z6] [] := by
    intro n
    induction n with
    | zero =>
      intro b hn η μ1 o z4 z5 z6 hW hM hP h0 hMK hKX hR hE
      have e : b = tN τ 31 := by omega
      subst e
      have hE : o = gBo τ hd ld wo k x (tN τ 31) 0 (some X) := hE
      obtain ⟨adW, L, -, hWo, hWw, hWb, -, -⟩ := id hW
      obtain ⟨xb, cb, hBl, hBn, hBo⟩ := hWb
      obtain ⟨hMo, m0, m1, -, -⟩ := id hM
      obtain ⟨adp, π, hPo, p0, p3, p1, p2⟩ := id hP
      refine v_iload_n (i := 3) dX3_go_2 rfl rfl ?_
      refine v_aload_n (i := 0) dX3_go_3 rfl rfl ?_
      refine go_get3 hMo KX3 0 (by decide) rfl (w) m0 q278 dX3_go_4 ?_
      refine go_get3N hWo KX2 8 (by decide) rfl (L 8) rfl q239 dX3_go_7 ?_
      refine v_Lsize hBl q714 (by decide) (Nat.le_of_ble_eq_true rfl) dX3_go_10 ?_
      refine v_top (x' := nI (tN τ 31)) (by rw [hBn]) ?_
      refine vn_icmp_ge (tgt := 123) dX3_go_15 rfl (by omega) (by omega) (fun c15 => ?_) (fun c15 => ?_)
      · exact v_vret rfl dX3_go_123 ⟨rfl, μ1, hM, hMK, h0, by rw [← hE]; exact ⟨hR, hKX⟩⟩
      · exact absurd (show tN τ 31 < tN τ 31 from c15) (by omega)
    | succ n ih =>
      intro b hn η μ1 o z4 z5 z6 hW hM hP h0 hMK hKX hR hE
      have hb : b < tN τ 31 := by omega
      have hbl := bo_lt x b
      obtain ⟨adW, L, -, hWo, hWw, hWb, -, -⟩ := id hW
      obtain ⟨xb, cb, hBl, hBn, hBo⟩ := hWb
      obtain ⟨hMo, m0, m1, -, -⟩ := id hM
      obtain ⟨adp, π, hPo, p0, p3, p1, p2⟩ := id hP
      refine v_iload_n (i := 3) dX3_go_2 rfl rfl ?_
      refine v_aload_n (i := 0) dX3_go_3 rfl rfl ?_
      refine go_get3 hMo KX3 0 (by decide) rfl (w) m0 q278 dX3_go_4 ?_
      refine go_get3N hWo KX2 8 (by decide) rfl (L 8) rfl q239 dX3_go_7 ?_
      refine v_Lsize hBl q714 (by decide) (Nat.le_of_ble_eq_true rfl) dX3_go_10 ?_
      refine v_top (x' := nI (tN τ 31)) (by rw [hBn]) ?_
      refine vn_icmp_ge (tgt := 123) dX3_go_15 rfl (by omega) (by omega) (fun c15 => ?_) (fun c15 => ?_)
      · exact absurd (show tN τ 31 ≤ b from c15) (by omega)
      · refine v_aload_n (i := 2) dX3_go_18 rfl rfl ?_
        refine go_getAN hPo KX7 2 (by decide) (by decide) q517 dX3_go_19 ?_
        refine v_aload_n (i := 2) dX3_go_22 rfl rfl ?_
        refine go_getAN hPo KX7 1 (by decide) (by decide) q512 dX3_go_23 ?_
        refine v_iload_n (i := 3) dX3_go_26 rfl rfl ?_
        refine go_ld10 hPo 1 (by decide) rfl (show _ < 2 from (by omega)) (by decide) _ (p1 _ (by omega)) dX3_go_27 ?_
        refine go_ld10 hPo 2 (by decide) rfl (show _ < 4 from (by omega)) (by decide) _ (p2 _ (by omega)) dX3_go_28 ?_
        refine v_istore (i := 4) dX3_go_29 (by decide) rfl ?_
        refine v_iconst (v := nI 0) dX3_go_31 k_iconst_0 ?_
        refine v_istore (i := 5) dX3_go_32 (by decide) rfl ?_
        refine L34 b hb (tN τ 29) 0 (Nat.zero_add _) η μ1 o _ hW hM hP h0 hMK hKX hR (fun η μ1 z z2 hW hM hP h0 hMK hKX hR => ?_)
        refine vn_iinc 1 dX3_go_117 rfl k_iconst_1 (by decide) rfl ?_
        refine v_goto (tgt := 2) dX3_go_120 rfl ?_
        exact ih (b + 1) (by omega) η μ1 _ _ z z2 hW hM hP h0 hMK hKX hR hE
  refine v_iconst (v := nI 0) dX3_go_0 k_iconst_0 ?_
  refine v_istore_n (i := 3) dX3_go_1 rfl (by decide) rfl ?_
  exact L2 (tN τ 31) 0 (Nat.zero_add _) η0 μ (some X) none none none hW hM hP Kp.rf (MK.rf μ) (fun Y hY => by cases hY; exact ⟨hk0, hxk⟩) ⟨hX, hsp⟩ rfl
