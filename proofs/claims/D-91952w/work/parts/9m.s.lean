set_option maxRecDepth 100000
/-! ===== a row of ints of the frame's own ===== -/
def AG (η : AH) (t a n : Nat) (g : Nat → Nat) : Prop := ∃ f, η a = some (some t, aI n f) ∧ ∀ i, f i = nI (g i)
theorem AG.kp {lo hi t a n : Nat} {g : Nat → Nat} {η η' : AH} (h : AG η t a n g) (hk : Kp lo hi η η') (ho : t < lo ∨ hi ≤ t) : AG η' t a n g := by
  obtain ⟨f, h1, h2⟩ := h
  exact ⟨f, hk _ _ _ h1 (fun w e => by cases e; exact ho), h2⟩
section VAG
variable {G : Gl} {Γ : Fx} {mt : MethodName} {cc : ByteArray} {nL : Nat} {ret : Option FieldType} {tb : List ExceptionTableEntry} {d : Nat} {P : Rs → AH → Prop} {kc ks : Nat} {η : AH} {pc : Nat} {lv : List (Option Value)} {rest : List Value} {t a n i v : Nat} {g : Nat → Nat}
theorem ag_ld (h : AG η t a n g) (hi : i < n) (hn : n < 2147483648) {r : Nat} (hr : g i = r) (hdg : decode cc pc = .ok (.iaload, 1)) (kk : V G Γ mt cc nL ret tb d P kc ks η (pc + 1) lv (.int (nI r) :: rest)) : V G Γ mt cc nL ret tb d P kc ks η pc lv (.int (nI i) :: .ref a :: rest) := by
  obtain ⟨f, h1, h2⟩ := h
  refine v_iald h1 (vp_in_nI hi (by omega)) hdg ?_
  rw [nI_clamp (by omega), h2 i, hr]
  exact kk
theorem ag_sto (h : AG η t a n g) (hi : i < n) (hn : n < 2147483648) (hdg : decode cc pc = .ok (.iastore, 1)) (kk : ∀ η', AG η' t a n (va_up g i v) → Kp t (t + 1) η η' → V G Γ mt cc nL ret tb d P kc ks η' (pc + 1) lv rest) : V G Γ mt cc nL ret tb d P kc ks η pc lv (.int (nI v) :: .int (nI i) :: .ref a :: rest) := by
  obtain ⟨f, h1, h2⟩ := h
  refine v_iast h1 (vp_in_nI hi (by omega)) hdg (kk _ ⟨_, up_s, fun j => ?_⟩ (Kp.pt h1 ⟨Nat.le_refl _, Nat.lt_succ_self _⟩))
  rw [nI_clamp (by omega)]
  unfold upd va_up
  by_cases c : j = i
  · rw [if_pos c, if_pos c]
  · rw [if_neg c, if_neg c]; exact h2 j
theorem ag_new (t n : Nat) {kc' ks' : Nat} (hn : n < 60000000) (h1 : kc' + 1 ≤ kc) (h2 : ks' + n ≤ ks) (hdg : decode cc pc = .ok (.newarray .int, 2)) (kk : ∀ q η', η q = none → AG η' t q n (fun _ => 0) → Kp t (t + 1) η η' → V G Γ mt cc nL ret tb d P kc' ks' η' (pc + 2) lv (.ref q :: rest)) : V G Γ mt cc nL ret tb d P kc ks η pc lv (.int (nI n) :: rest) :=
  v_newaT t 0 n rfl (by decide) rfl q202 (by show n * 4 ≤ _; omega) (by omega) h1 h2 hdg (fun q hq => kk q _ hq ⟨_, up_s, fun _ => rfl⟩ (Kp.nw hq))
end VAG
/-! ===== rounds: what the object holds ===== -/
def RB (η : AH) (t o : Nat) (adr : Nat → Nat) (w : Nat) (τ : Td) (jj qq pp tt ta tb na nb : Nat) (ρ : MS) (gn gx : Nat → Nat) : Prop :=
  GO scX18 η (some t) o adr ρ ∧ gN ρ 0 = jj + 1 ∧ gN ρ 1 = pp + 1 ∧ gN ρ 2 = tt + 1 ∧ gN ρ 4 = na + 1 ∧ gN ρ 5 = nb + 1 ∧ (∃ lw, Jd η (t + 1) jj qq w τ (tA τ 41) (tA τ 42) 0 lw) ∧ P0 η (t + 2) qq w ∧ AG η ta na 1024 gn ∧ AG η tb nb 1024 gx ∧ ((ta = t + 5 ∧ tb = t + 6) ∨ (ta = t + 6 ∧ tb = t + 5))
def RSt (η : AH) (t o : Nat) (adr : Nat → Nat) (w : Nat) (τ : Td) (jj qq pp tt ta tb na nb c v : Nat) (gn : Nat → Nat) (md : Nat) (ra : Nat → Nat) : Prop := ∃ ρ gx, RB η t o adr w τ jj qq pp tt ta tb na nb ρ gn gx ∧ gN ρ 6 = md ∧ RIv τ ra v c (gA ρ 3) (gN ρ 7) gx
theorem RSt.kp {η η' : AH} {lo hi t o : Nat} {adr : Nat → Nat} {w : Nat} {τ : Td} {jj qq pp tt ta tb na nb c v md : Nat} {gn ra : Nat → Nat} (h : RSt η t o adr w τ jj qq pp tt ta tb na nb c v gn md ra) (hk : Kp lo hi η η') (hh : (t + 2 < lo ∧ hi ≤ t + 5)) : RSt η' t o adr w τ jj qq pp tt ta tb na nb c v gn md ra := by
  obtain ⟨ρ, gx, ⟨h1, r0, r1, r2, r4, r5, ⟨lw, h2⟩, h3, h4, h5, h6⟩, h7⟩ := h
  exact ⟨ρ, gx, ⟨h1.kpS hk (by omega), r0, r1, r2, r4, r5, ⟨lw, h2.kp hk (by omega)⟩, h3.kp hk (by omega), h4.kp hk (by omega), h5.kp hk (by omega), h6⟩, h7⟩
theorem RSt.rcv {η : AH} {t o : Nat} {adr : Nat → Nat} {w : Nat} {τ : Td} {jj qq pp tt ta tb na nb c v md : Nat} {gn ra : Nat → Nat} (h : RSt η t o adr w τ jj qq pp tt ta tb na nb c v gn md ra) : ∃ z : Option Nat × (Nat → Value), η o = some (z.1, ob 22 z.2) := by
  obtain ⟨ρ, gx, ⟨h1, -⟩, -⟩ := h
  exact h1.rcv
/-- what coming to a state does -/
def CMr (τ : Td) (v y : Nat) (ra ra2 : Nat → Nat) : Prop := (ra2 = ra ∧ ra (smT τ y) ≠ 0) ∨ (ra (smT τ y) = 0 ∧ ra2 = va_up ra (smT τ y) v)
theorem CMr.up {τ : Td} {v y : Nat} {ra ra2 : Nat → Nat} (h : CMr τ v y ra ra2) {Q : Nat → Prop} (hQ : Q y) (hy : VL τ y) : UpR τ v Q ra ra2 := by
  rcases h with ⟨h1, h2⟩ | ⟨h1, h2⟩
  · rw [h1]; exact UpR.rf
  · rw [h2]; exact UpR.put hQ hy h1
theorem CMr.in_ {τ : Td} {v y : Nat} {ra ra2 : Nat → Nat} (h : CMr τ v y ra ra2) (hv : v ≠ 0) : ra2 (smT τ y) ≠ 0 := by
  rcases h with ⟨h1, h2⟩ | ⟨h1, h2⟩
  · rw [h1]; exact h2
  · rw [h2, va_up_e]; exact hv
theorem cR_come {G : Gl} {η0 : AH} {w : Nat} {τ : Td} (hW : Wd G η0 w τ) {t o : Nat} {adr : Nat → Nat} {jj qq pp tt ta tb na nb c v md : Nat} {gn ra : Nat → Nat} (hR : RSt η0 t o adr w τ jj qq pp tt ta tb na nb c v gn md ra) (hB2 : tN τ 31 = 2) {y : Nat} (hT : Pl η0 (t + 4) tt w τ y) (hy : VL τ y) (hv : v ≠ 0) : Ct G yX18_come cX18_come 2 none 2 (0) (0) [.ref o] η0 (rv fun η => ∃ ra2, RSt η t o adr w τ jj qq pp tt ta tb na nb c v gn md ra2 ∧ Kp t (t + 7) η0 η ∧ Pl η (t + 4) tt w τ y ∧ (∀ x, Pl η0 (t + 3) pp w τ x → Pl η (t + 3) pp w τ x) ∧ CMr τ v y ra ra2) := by
  refine Ct.start rfl rfl (Nat.le_of_ble_eq_true rfl) (fun Γ => ?_)
  have hTB := hW.tb
  obtain ⟨⟨wb1, wb2, wb3, wb4, wb5, wb6, wb7⟩, -⟩ := id hTB
  have h0 : Kp t (t + 7) η0 η0 := Kp.rf
  have hP : ∀ x, Pl η0 (t + 3) pp w τ x → Pl η0 (t + 3) pp w τ x := fun x h => h
  obtain ⟨ρ, gx, ⟨hRo, r0, r1, r2, r4, r5, hJ, hQ, hN, hX, hab⟩, rm, hI⟩ := hR
  obtain ⟨adt, πt, hTo, p0t, p3t, p1t, p2t⟩ := id hT
  have hix := ixT_lt wb3 hy
  have h2 := hI.2.1
  have hI1 := hI.1 y hy
  refine v_aload_n (i := 0) dX18_come_0 rfl rfl ?_
  refine go_get3 hRo KX18 2 (by decide) rfl (tt) r2 q933 dX18_come_1 ?_
  refine go_getAN hTo KX7 2 (by decide) (by decide) q515 dX18_come_4 ?_
  refine v_iconst (v := nI 1) dX18_come_7 k_iconst_1 ?_
  refine go_ld10 hTo 2 (by decide) rfl (show _ < 4 from (by decide)) (by decide) _ (p2t _ (by omega)) dX18_come_8 ?_
  refine v_iconst (v := nI 2) dX18_come_9 k_iconst_2 ?_
  refine vn_ishl (by decide) dX18_come_10 ?_
  refine v_aload_n (i := 0) dX18_come_11 rfl rfl ?_
  refine go_get3 hRo KX18 2 (by decide) rfl (tt) r2 q933 dX18_come_12 ?_
  refine go_getAN hTo KX7 1 (by decide) (by decide) q510 dX18_come_15 ?_
  refine v_iconst (v := nI 0) dX18_come_18 k_iconst_0 ?_
  refine go_ld10 hTo 1 (by decide) rfl (show _ < 2 from (by omega)) (by decide) _ (p1t _ (by omega)) dX18_come_19 ?_
  refine v_iconst (v := nI 1) dX18_come_20 k_iconst_1 ?_
  refine vn_ishl (by decide) dX18_come_21 ?_
  refine vn_ior dX18_come_22 ?_
  refine v_aload_n (i := 0) dX18_come_23 rfl rfl ?_
  refine go_get3 hRo KX18 2 (by decide) rfl (tt) r2 q933 dX18_come_24 ?_
  refine go_getAN hTo KX7 1 (by decide) (by decide) q510 dX18_come_27 ?_
  refine v_iconst (v := nI 1) dX18_come_30 k_iconst_1 ?_
  refine go_ld10 hTo 1 (by decide) rfl (show _ < 2 from (by omega)) (by decide) _ (p1t _ (by omega)) dX18_come_31 ?_
  refine vn_ior dX18_come_32 ?_
  refine v_istore_n (i := 1) dX18_come_33 rfl (by decide) rfl ?_
  show V G Γ yX18_come cX18_come 2 none [] 2 (rv fun η => ∃ ra2, RSt η t o adr w τ jj qq pp tt ta tb na nb c v gn md ra2 ∧ Kp t (t + 7) η0 η ∧ Pl η (t + 4) tt w τ y ∧ (∀ x, Pl η0 (t + 3) pp w τ x → Pl η (t + 3) pp w τ x) ∧ CMr τ v y ra ra2) (0) (0) (η0) 34 [some (.ref o), some (.int (nI (ixT τ y)))] []
  refine v_aload_n (i := 0) dX18_come_34 rfl rfl ?_
  refine go_getA hRo KX18 3 (by decide) (by decide) q934 dX18_come_35 ?_
  refine v_iload_n (i := 1) dX18_come_38 rfl rfl ?_
  refine go_ld12 hRo 3 (by decide) rfl (show _ < 1024 from hix) (by decide) _ rfl dX18_come_39 ?_
  refine vn_if_eq (tgt := 44) dX18_come_40 rfl (by have := h2 (ixT τ y); omega) (fun c40 => ?_) (fun c40 => ?_)
  · have hze : ra (smT τ y) = 0 := Decidable.byContradiction (fun z => absurd c40 (by rw [hI1, if_neg z]; decide))
    have hro := hI.room (smT_lt wb3 hy) hze
    refine v_aload_n (i := 0) dX18_come_44 rfl rfl ?_
    refine go_getA hRo KX18 3 (by decide) (by decide) q934 dX18_come_45 ?_
    refine v_iload_n (i := 1) dX18_come_48 rfl rfl ?_
    refine v_iconst (v := nI 1) dX18_come_49 k_iconst_1 ?_
    refine go_st12 hRo 3 (by decide) rfl (show _ < 1024 from hix) (by decide) (by decide) dX18_come_50 (fun η hRo hk => ?_)
    have h0 := h0.th hk (by omega) (by omega)
    have hW := hW.kp hk
    have hT := hT.kp hk (by omega)
    have hQ := hQ.kp hk (by omega)
    obtain ⟨lw, hJ⟩ := hJ
    have hJ := hJ.kp hk (by omega)
    have hJ : ∃ lw, Jd _ (t + 1) jj qq w τ (tA τ 41) (tA τ 42) 0 lw := ⟨lw, hJ⟩
    have hN := hN.kp hk (by omega)
    have hX := hX.kp hk (by omega)
    have hP : ∀ x, Pl η0 (t + 3) pp w τ x → Pl _ (t + 3) pp w τ x := fun x h => (hP x h).kp hk (by omega)
    refine v_aload_n (i := 0) dX18_come_51 rfl rfl ?_
    refine go_get3 hRo KX18 5 (by decide) rfl (nb) r5 q936 dX18_come_52 ?_
    refine v_aload_n (i := 0) dX18_come_55 rfl rfl ?_
    refine go_get0 hRo KX18 7 (by decide) rfl (gN ρ 7) rfl q938 dX18_come_56 ?_
    refine v_aload_n (i := 0) dX18_come_59 rfl rfl ?_
    refine go_get3 hRo KX18 2 (by decide) rfl (tt) r2 q933 dX18_come_60 ?_
    refine v_callVe (cP_code hW hT) (lw_V q964 q644 q645 q135 q646) iX7_code rfl KX7 hT.rcv rfl rfl (by decide) (by decide) (Nat.le_of_ble_eq_true rfl) (Nat.le_refl _) (Nat.le_refl _) dX18_come_63 (kr_ei ?_) kx_e
    refine ag_sto hX (by omega) (by decide) dX18_come_66 (fun η hX hk => ?_)
    have h0 := h0.th hk (by omega) (by omega)
    have hW := hW.kp hk
    have hT := hT.kp hk (by omega)
    have hQ := hQ.kp hk (by omega)
    obtain ⟨lw, hJ⟩ := hJ
    have hJ := hJ.kp hk (by omega)
    have hJ : ∃ lw, Jd _ (t + 1) jj qq w τ (tA τ 41) (tA τ 42) 0 lw := ⟨lw, hJ⟩
    have hN := hN.kp hk (by omega)
    have hP : ∀ x, Pl η0 (t + 3) pp w τ x → Pl _ (t + 3) pp w τ x := fun x h => (hP x h).kp hk (by omega)
    have hRo := hRo.kpS hk (by omega)
    refine v_aload_n (i := 0) dX18_come_67 rfl rfl ?_
    refine v_dup dX18_come_68 rfl ?_
    refine go_get0 hRo KX18 7 (by decide) rfl (gN ρ 7) rfl q938 dX18_come_69 ?_
    refine v_iconst (v := nI 1) dX18_come_72 k_iconst_1 ?_
    refine vn_iadd dX18_come_73 ?_
    refine go_put0 hRo KX18 7 (by decide) rfl q938 rfl rfl rfl dX18_come_74 (fun η hRo hk => ?_)
    have h0 := h0.th hk (by omega) (by omega)
    have hW := hW.kp hk
    have hT := hT.kp hk (by omega)
    have hQ := hQ.kp hk (by omega)
    obtain ⟨lw, hJ⟩ := hJ
    have hJ := hJ.kp hk (by omega)
    have hJ : ∃ lw, Jd _ (t + 1) jj qq w τ (tA τ 41) (tA τ 42) 0 lw := ⟨lw, hJ⟩
    have hN := hN.kp hk (by omega)
    have hX := hX.kp hk (by omega)
    have hP : ∀ x, Pl η0 (t + 3) pp w τ x → Pl _ (t + 3) pp w τ x := fun x h => (hP x h).kp hk (by omega)
    exact v_vret rfl dX18_come_77 ⟨rfl, va_up ra (smT τ y) v, ⟨_, _, ⟨hRo, r0, r1, r2, r4, r5, hJ, hQ, hN, hX, hab⟩, rm, hI.put wb3 hv hy hze⟩, h0, hT, hP, Or.inr ⟨hze, rfl⟩⟩
  · have hne : ra (smT τ y) ≠ 0 := fun z => c40 (by rw [hI1, if_pos z])
    exact v_vret rfl dX18_come_43 ⟨rfl, ra, ⟨ρ, gx, ⟨hRo, r0, r1, r2, r4, r5, hJ, hQ, hN, hX, hab⟩, rm, hI⟩, h0, hT, hP, Or.inl ⟨rfl, hne⟩⟩
theorem cR_single {G : Gl} {η0 : AH} {w : Nat} {τ : Td} (hW : Wd G η0 w τ) {t o : Nat} {adr : Nat → Nat} {jj qq pp tt ta tb na nb c v md : Nat} {gn ra : Nat → Nat} (hR : RSt η0 t o adr w τ jj qq pp tt ta tb na nb c v gn md ra) (hS2 : tN τ 29 = 2) (hB2 : tN τ 31 = 2) (hlm : tN τ 33 = 0) (hbs : bsT τ 0 (stT τ) 0 0 0 = 0) {x b : Nat} (hP : Pl η0 (t + 3) pp w τ x) (hT : P0 η0 (t + 4) tt w) (hx : VL τ x) (hv : v ≠ 0) (hb : b < 2) : Ct G yX18_single cX18_single 5 none 8 (0) (0) [.ref o, .int (nI (cdT τ x)), .int (nI b)] η0 (rv fun η => ∃ ra2, RSt η t o adr w τ jj qq pp tt ta tb na nb c v gn md ra2 ∧ Kp t (t + 7) η0 η ∧ Pl η (t + 3) pp w τ x ∧ P0 η (t + 4) tt w ∧ UpR τ v (fun y => rdS τ x y) ra ra2 ∧ ∀ s, (R0 τ x b s → bsT τ 0 x s (1 * 2 ^ b) 1 = 0 → bsT τ 0 (Y1 τ x b s) 0 0 0 = 0 → ra2 (smT τ (Y1 τ x b s)) ≠ 0)) := by
  refine Ct.start rfl rfl (Nat.le_of_ble_eq_true rfl) (fun Γ => ?_)
  have hTB := hW.tb
  obtain ⟨⟨wb1, wb2, wb3, wb4, wb5, wb6, wb7⟩, -⟩ := id hTB
  have hbl := (hx.b2 b).1
  have hT8 := setN_256 x (bo x b) wb3
  have L24 : ∀ (l : List Nat) (a : Nat) (η : AH) (rb : Nat → Nat), sbC (setN x (bo x b) (tN τ 30)) a l = true → (∀ s ∈ l, 0 < s ∧ s < 256) → Wd G η w τ → RSt η t o adr w τ jj qq pp tt ta tb na nb c v gn md rb → Kp t (t + 7) η0 η → Pl η (t + 3) pp w τ x → P0 η (t + 4) tt w → (∀ (η : AH) (rc : Nat → Nat) (z : Option Value), Wd G η w τ → RSt η t o adr w τ jj qq pp tt ta tb na nb c v gn md rc → Kp t (t + 7) η0 η → Pl η (t + 3) pp w τ x → P0 η (t + 4) tt w → UpR τ v (fun y => rdS τ x y) rb rc → (∀ s ∈ l, (R0 τ x b s → bsT τ 0 x s (1 * 2 ^ b) 1 = 0 → bsT τ 0 (Y1 τ x b s) 0 0 0 = 0 → rc (smT τ (Y1 τ x b s)) ≠ 0)) → V G Γ yX18_single cX18_single 5 none [] 8 (rv fun η => ∃ ra2, RSt η t o adr w τ jj qq pp tt ta tb na nb c v gn md ra2 ∧ Kp t (t + 7) η0 η ∧ Pl η (t + 3) pp w τ x ∧ P0 η (t + 4) tt w ∧ UpR τ v (fun y => rdS τ x y) ra ra2 ∧ ∀ s, (R0 τ x b s → bsT τ 0 x s (1 * 2 ^ b) 1 = 0 → bsT τ 0 (Y1 τ x b s) 0 0 0 = 0 → ra2 (smT τ (Y1 τ x b s)) ≠ 0)) (0) (0) (η) 105 [some (.ref o), some (.int (nI (cdT τ x))), some (.int (nI b)), some (.int (nI (setN x (bo x b) (tN τ 30)))), z] []) → V G Γ yX18_single cX18_single 5 none [] 8 (rv fun η => ∃ ra2, RSt η t o adr w τ jj qq pp tt ta tb na nb c v gn md ra2 ∧ Kp t (t + 7) η0 η ∧ Pl η (t + 3) pp w τ x ∧ P0 η (t + 4) tt w ∧ UpR τ v (fun y => rdS τ x y) ra ra2 ∧ ∀ s, (R0 τ x b s → bsT τ 0 x s (1 * 2 ^ b) 1 = 0 → bsT τ 0 (Y1 τ x b s) 0 0 0 = 0 → ra2 (smT τ (Y1 τ x b s)) ≠ 0)) (0) (0) (η) 24 [some (.ref o), some (.int (nI (cdT τ x))), some (.int (nI b)), some (.int (nI (setN x (bo x b) (tN τ 30)))), some (.int (nI a))] [] := by
    intro l
    induction l with
    | nil =>
      intro a η rb hC hl hW hR h0 hP hT K
      have e : a = 0 := by simpa [sbC] using hC
      subst e
      obtain ⟨adp, π, hPo, p0, p3, p1, p2⟩ := id hP
      refine v_iload (i := 4) dX18_single_24 rfl ?_
      refine vn_if_eq (tgt := 105) dX18_single_26 rfl (by decide) (fun c26 => ?_) (fun c26 => ?_)
      · exact K η rb _ hW hR h0 hP hT UpR.rf (fun s hs => absurd hs (List.not_mem_nil))
      · exact absurd rfl c26
    | cons s l ih =>
      intro a η rb hC hl hW hR h0 hP hT K
      obtain ⟨e, hC2⟩ : a = s ∧ sbC (setN x (bo x b) (tN τ 30)) (sbN (setN x (bo x b) (tN τ 30)) s) l = true := by simpa [sbC] using hC
      subst e
      obtain ⟨hs1, hs2⟩ := hl a List.mem_cons_self
      have hl2 : ∀ s ∈ l, 0 < s ∧ s < 256 := fun s h => hl s (List.mem_cons_of_mem _ h)
      have hwy := why_0 hTB hS2 hB2 hlm hx hb hs1 hbs
      have hjl := jgN_le τ (tA τ 41) (tA τ 42) 0 x (nI b) (nI (1 - bo x b)) a
      have e1 : (nI b).toInt.toNat = b := by rw [nI_toInt (by omega)]; rfl
      have e2 : (nI (1 - bo x b)).toInt.toNat = 1 - bo x b := by rw [nI_toInt (by omega)]; rfl
      obtain ⟨ρ, gx, ⟨hRo, r0, r1, r2, r4, r5, hJ, hQ, hN, hX, hab⟩, rm, hI⟩ := id hR
      obtain ⟨lw, hJd⟩ := id hJ
      obtain ⟨adp, π, hPo, p0, p3, p1, p2⟩ := id hP
      refine v_iload (i := 4) dX18_single_24 rfl ?_
      refine vn_if_eq (tgt := 105) dX18_single_26 rfl (by omega) (fun c26 => ?_) (fun c26 => ?_)
      · exact absurd c26 (by omega)
      · refine v_aload_n (i := 0) dX18_single_29 rfl rfl ?_
        refine go_get3 hRo KX18 0 (by decide) rfl (jj) r0 q931 dX18_single_30 ?_
        refine v_aload_n (i := 0) dX18_single_33 rfl rfl ?_
        refine go_get3 hRo KX18 1 (by decide) rfl (pp) r1 q932 dX18_single_34 ?_
        refine v_iload_n (i := 1) dX18_single_37 rfl rfl ?_
        refine v_iload_n (i := 2) dX18_single_38 rfl rfl ?_
        refine v_iconst (v := nI 1) dX18_single_39 k_iconst_1 ?_
        refine v_aload_n (i := 0) dX18_single_40 rfl rfl ?_
        refine go_get3 hRo KX18 1 (by decide) rfl (pp) r1 q932 dX18_single_41 ?_
        refine go_getAN hPo KX7 1 (by decide) (by decide) q510 dX18_single_44 ?_
        refine v_iload_n (i := 2) dX18_single_47 rfl rfl ?_
        refine go_ld10 hPo 1 (by decide) rfl (show _ < 2 from (by omega)) (by decide) _ (p1 _ (by omega)) dX18_single_48 ?_
        refine vn_isub (by omega) dX18_single_49 ?_
        refine v_iload (i := 4) dX18_single_50 rfl ?_
        refine v_callVe (cG_why hW hJd hQ hP (by omega) (nI b) (nI (1 - bo x b)) (show a < 4294967296 by omega) (fun z => absurd hbs z)) (lw_V q971 q724 q725 q157 q726) iX17_why rfl KX17 hJd.rcv rfl rfl (by decide) (by decide) (Nat.le_of_ble_eq_true rfl) (Nat.le_refl _) (Nat.le_refl _) dX18_single_52 (kr_I (fun x_ η h => ?_)) kx_I
        obtain ⟨rfl, hJd, hk, hQ, -⟩ := h
        have hJ : ∃ lw, Jd _ (t + 1) jj qq w τ (tA τ 41) (tA τ 42) 0 lw := ⟨_, hJd⟩
        have h0 := h0.th hk (by omega) (by omega)
        have hW := hW.kp hk
        have hP := hP.kp hk (by omega)
        have hT := hT.kp hk (by omega)
        have hN := hN.kp hk (by omega)
        have hX := hX.kp hk (by omega)
        have hRo := hRo.kpS hk (by omega)
        refine vn_if_eq (tgt := 61) dX18_single_55 rfl (by omega) (fun c55 => ?_) (fun c55 => ?_)
        · have hR : RSt _ t o adr w τ jj qq pp tt ta tb na nb c v gn md rb := ⟨ρ, gx, ⟨hRo, r0, r1, r2, r4, r5, hJ, hQ, hN, hX, hab⟩, rm, hI⟩
          obtain ⟨hR0, hb1, hb2⟩ := hwy.mp c55
          refine v_aload_n (i := 0) dX18_single_61 rfl rfl ?_
          refine go_get3 hRo KX18 2 (by decide) rfl (tt) r2 q933 dX18_single_62 ?_
          refine v_iload_n (i := 1) dX18_single_65 rfl rfl ?_
          refine v_callVe (cP_read hW hT x) (lw_V q965 q706 q707 q135 q708) iX7_read rfl KX7 hT.rcv rfl rfl (by decide) (by decide) (Nat.le_of_ble_eq_true rfl) (Nat.le_refl _) (Nat.le_refl _) dX18_single_66 (kr_W (fun η h => ?_)) kx_W
          obtain ⟨hTl, hk⟩ := h
          have h0 := h0.th hk (by omega) (by omega)
          have hW := hW.kp hk
          have hP := hP.kp hk (by omega)
          have hR := hR.kp hk (by omega)
          have hRo := hRo.kpS hk (by omega)
          obtain ⟨adp, π, hPo, p0, p3, p1, p2⟩ := id hP
          refine v_aload_n (i := 0) dX18_single_69 rfl rfl ?_
          refine go_get3 hRo KX18 2 (by decide) rfl (tt) r2 q933 dX18_single_70 ?_
          refine v_iload_n (i := 2) dX18_single_73 rfl rfl ?_
          refine v_iconst (v := nI 1) dX18_single_74 k_iconst_1 ?_
          refine v_aload_n (i := 0) dX18_single_75 rfl rfl ?_
          refine go_get3 hRo KX18 1 (by decide) rfl (pp) r1 q932 dX18_single_76 ?_
          refine go_getAN hPo KX7 1 (by decide) (by decide) q510 dX18_single_79 ?_
          refine v_iload_n (i := 2) dX18_single_82 rfl rfl ?_
          refine go_ld10 hPo 1 (by decide) rfl (show _ < 2 from (by omega)) (by decide) _ (p1 _ (by omega)) dX18_single_83 ?_
          refine vn_isub (by omega) dX18_single_84 ?_
          refine v_iload (i := 4) dX18_single_85 rfl ?_
          refine v_callVe (cP_move hW hTl (b := b) (to := 1 - bo x b) (s := a) (by omega) (by omega) hR0.2.2.1) (lw_V q972 q757 q758 q135 q759) iX7_move rfl KX7 hTl.rcv rfl rfl (by decide) (by decide) (Nat.le_of_ble_eq_true rfl) (Nat.le_refl _) (Nat.le_refl _) dX18_single_87 (kr_W (fun η h => ?_)) kx_W
          obtain ⟨hTl, hk⟩ := h
          have h0 := h0.th hk (by omega) (by omega)
          have hW := hW.kp hk
          have hP := hP.kp hk (by omega)
          have hR := hR.kp hk (by omega)
          have hRo := hRo.kpS hk (by omega)
          refine v_aload_n (i := 0) dX18_single_90 rfl rfl ?_
          refine v_callVe (cR_come hW hR hB2 hTl (hx.mv hlm hb (by omega)) hv) (lw_V q973 q975 qs16 q159 q976) iX18_come rfl KX18 hR.rcv rfl rfl (by decide) (by decide) (Nat.le_of_ble_eq_true rfl) (Nat.le_refl _) (Nat.le_refl _) dX18_single_91 (kr_W (fun η h => ?_)) kx_W
          obtain ⟨rc, hR, hk, hTl, hPk, hCM⟩ := h
          have hP := hPk x hP
          have hT := hTl.p0
          have hW := hW.kp hk
          have h0 := h0.tr hk
          refine v_iload (i := 4) dX18_single_94 rfl ?_
          refine v_iload_n (i := 3) dX18_single_96 rfl rfl ?_
          refine v_isub dX18_single_97 ?_
          refine v_iload_n (i := 3) dX18_single_98 rfl rfl ?_
          refine v_iand dX18_single_99 ?_
          refine v_top (x' := nI (sbN (setN x (bo x b) (tN τ 30)) a)) (nI_sbN hT8 hs2) ?_
          refine v_istore (i := 4) dX18_single_100 (by decide) rfl ?_
          refine v_goto (tgt := 24) dX18_single_102 rfl ?_
          have hU := hCM.up (Q := fun y => rdS τ x y) ⟨hbs, hb2, Or.inl (hR0.rd1 hb hb1)⟩ (hx.mv hlm hb (by omega))
          exact ih (sbN (setN x (bo x b) (tN τ 30)) a) η rc hC2 hl2 hW hR h0 hP hT (fun η rd z hW hR h0 hP hT hU2 hd => K η rd z hW hR h0 hP hT (hU.trans hv hU2) (fun s hs => by
            rcases List.mem_cons.mp hs with q | q
            · subst q
              exact fun _ _ _ => hU2.keep (hCM.in_ hv)
            · exact hd s q))
        · refine v_goto (tgt := 94) dX18_single_58 rfl ?_
          have hR : RSt _ t o adr w τ jj qq pp tt ta tb na nb c v gn md rb := ⟨ρ, gx, ⟨hRo, r0, r1, r2, r4, r5, hJ, hQ, hN, hX, hab⟩, rm, hI⟩
          refine v_iload (i := 4) dX18_single_94 rfl ?_
          refine v_iload_n (i := 3) dX18_single_96 rfl rfl ?_
          refine v_isub dX18_single_97 ?_
          refine v_iload_n (i := 3) dX18_single_98 rfl rfl ?_
          refine v_iand dX18_single_99 ?_
          refine v_top (x' := nI (sbN (setN x (bo x b) (tN τ 30)) a)) (nI_sbN hT8 hs2) ?_
          refine v_istore (i := 4) dX18_single_100 (by decide) rfl ?_
          refine v_goto (tgt := 24) dX18_single_102 rfl ?_
          exact ih (sbN (setN x (bo x b) (tN τ 30)) a) η rb hC2 hl2 hW hR h0 hP hT (fun η rd z hW hR h0 hP hT hU2 hd => K η rd z hW hR h0 hP hT hU2 (fun s hs => by
            rcases List.mem_cons.mp hs with q | q
            · subst q
              exact fun g1 g2 g3 => absurd (hwy.mpr ⟨g1, g2, g3⟩) c55
            · exact hd s q))
  have h0 : Kp t (t + 7) η0 η0 := Kp.rf
  obtain ⟨ρ, gx, ⟨hRo, r0, r1, r2, r4, r5, hJ, hQ, hN, hX, hab⟩, rm, hI⟩ := id hR
  obtain ⟨adp, π, hPo, p0, p3, p1, p2⟩ := id hP
  refine v_aload_n (i := 0) dX18_single_0 rfl rfl ?_
  refine go_get3 hRo KX18 1 (by decide) rfl (pp) r1 q932 dX18_single_1 ?_
  refine go_getAN hPo KX7 2 (by decide) (by decide) q515 dX18_single_4 ?_
  refine v_aload_n (i := 0) dX18_single_7 rfl rfl ?_
  refine go_get3 hRo KX18 1 (by decide) rfl (pp) r1 q932 dX18_single_8 ?_
  refine go_getAN hPo KX7 1 (by decide) (by decide) q510 dX18_single_11 ?_
  refine v_iload_n (i := 2) dX18_single_14 rfl rfl ?_
  refine go_ld10 hPo 1 (by decide) rfl (show _ < 2 from (by omega)) (by decide) _ (p1 _ (by omega)) dX18_single_15 ?_
  refine go_ld10 hPo 2 (by decide) rfl (show _ < 4 from (by omega)) (by decide) _ (p2 _ (by omega)) dX18_single_16 ?_
  refine v_istore_n (i := 3) dX18_single_17 rfl (by decide) rfl ?_
  refine v_iload_n (i := 3) dX18_single_18 rfl rfl ?_
  refine v_iload_n (i := 3) dX18_single_19 rfl rfl ?_
  refine v_ineg dX18_single_20 ?_
  refine v_iand dX18_single_21 ?_
  refine v_top (x' := nI (sbF (setN x (bo x b) (tN τ 30)))) (nI_sbF hT8) ?_
  refine v_istore (i := 4) dX18_single_22 (by decide) rfl ?_
  refine L24 (sbL (setN x (bo x b) (tN τ 30))) (sbF (setN x (bo x b) (tN τ 30))) η0 ra (sb_ok _ hT8) (fun s hs => ⟨(sbL_pos hs).1, (sbL_pos hs).2.1⟩) hW hR h0 hP hT (fun η rc z hW hR h0 hP hT hU hd => ?_)
  exact v_vret rfl dX18_single_105 ⟨rfl, rc, hR, h0, hP, hT, hU, fun s g1 g2 g3 => hd s (sbL_in wb3 g1) g1 g2 g3⟩
