set_option maxRecDepth 100000
/-- the tag t is frozen -/
def fz (t : Nat) : Nat → Option Nat := fun w => if w = t then none else some w
theorem fz_kp {t : Nat} {η : AH} : Kp t (t + 1) η (rtg (fz t) η) := fun a o e h w => by
  cases o with
  | none => exact rtg_n h
  | some u =>
    have hu := w u rfl
    rw [rtg_s h]
    unfold fz
    rw [if_neg (by omega)]
theorem fz_t {t : Nat} : fz t t = none := if_pos rfl
/-- a java.lang.Integer -/
def INt (η : AH) (q n : Nat) : Prop := ∃ ad σ, GO scJ6 η none q ad σ ∧ gI σ 0 = nI n
theorem INt.kp {lo hi : Nat} {η η' : AH} {q n : Nat} (h : INt η q n) (hk : Kp lo hi η η') : INt η' q n := by
  obtain ⟨ad, σ, h1, h2⟩ := h
  exact ⟨ad, σ, h1.kpN hk, h2⟩
theorem INt.rcv {η : AH} {q n : Nat} (h : INt η q n) : ∃ z : Option Nat × (Nat → Value), η q = some (z.1, ob 5 z.2) := by
  obtain ⟨ad, σ, h1, h2⟩ := h
  exact h1.rcv
theorem INt.el {η : AH} {q n : Nat} (h : INt η q n) : ElO η q := by
  obtain ⟨ad, σ, h1, h2⟩ := h
  obtain ⟨F, h3⟩ := h1.me
  exact ⟨5, _, _, _, _, _, F, KJ6, q2607, h3⟩
/-- the constants that the JDK's classes hold -/
def Kst (G : Gl) (η : AH) : Prop := η (G.2.2.2 503) = some (none, aR 9 0 (fun _ => none)) ∧ ∀ n, n < 128 → INt η (G.2.2.2 (728 + n)) n
theorem Kst.kp {G : Gl} {lo hi : Nat} {η η' : AH} (h : Kst G η) (hk : Kp lo hi η η') : Kst G η' := ⟨hk.celN h.1, fun n hn => (h.2 n hn).kp hk⟩
def kzJ6 : Nat → Nat := fun k => match k with
  | 0 => 2
  | _ => 0
theorem bornJ6 {η : AH} {t q : Nat} {ad : Nat → Nat} : GO (5, 1, kzJ6, lnJ6) (up η q (some t, ob 5 (fun k => defaultValue (tyJ6 k)))) (some t) q ad (zS kdJ6) := GO.born (fun k hk => match k, hk with
  | 0, _ => ⟨by decide, rfl⟩
  | k + 1, h => absurd h (by omega))
theorem cJ_NUinit {G : Gl} {η0 : AH} {l : Nat} : Ct G yJ5_init cJ5_init 1 none 1 0 0 [.ref l] η0 (re none η0) := by
  refine Ct.start rfl rfl (Nat.le_of_ble_eq_true rfl) (fun Γ => ?_)
  refine v_aload_n (i := 0) dJ5_init_0 rfl rfl ?_
  refine v_objI q814 (by decide) (Nat.le_of_ble_eq_true rfl) dJ5_init_1 ?_
  exact v_vret rfl dJ5_init_4 ⟨rfl, rfl⟩
theorem cJ_INinit {G : Gl} {η0 : AH} {t q : Nat} {z : Int32} {ad : Nat → Nat} {σ : MS} (h : GO scJ6 η0 (some t) q ad σ) : Ct G yJ6_init cJ6_init 2 none 2 0 0 [.ref q, .int z] η0 (rv fun η => GO scJ6 η (some t) q ad (sI σ 0 z) ∧ Kp t (t + 1) η0 η) := by
  refine Ct.start rfl rfl (Nat.le_of_ble_eq_true rfl) (fun Γ => ?_)
  refine v_aload_n (i := 0) dJ6_init_0 rfl rfl ?_
  refine v_callI (cJ_NUinit) (lw_meth q813) q128 q811 q812 rfl iJ5_init rfl rfl (by decide) (by decide) (Nat.le_of_ble_eq_true rfl) (Nat.le_refl _) (Nat.le_refl _) dJ6_init_1 (kr_ev ?_) kx_e
  refine v_aload_n (i := 0) dJ6_init_4 rfl rfl ?_
  refine v_iload_n (i := 1) dJ6_init_5 rfl rfl ?_
  refine go_put2F h KJ6 0 (by decide) rfl q815 rfl rfl rfl rfl rfl dJ6_init_6 (fun η h hk => ?_)
  exact v_vret rfl dJ6_init_9 ⟨rfl, h, hk⟩
theorem cJ_intV {G : Gl} {η0 : AH} {q n : Nat} (h : INt η0 q n) : Ct G yJ6_intValue cJ6_intValue 1 (some .int) 0 0 0 [.ref q] η0 (re (some (.int (nI n))) η0) := by
  refine Ct.start rfl rfl (Nat.le_of_ble_eq_true rfl) (fun Γ => ?_)
  obtain ⟨ad, σ, h, hv⟩ := h
  refine v_aload_n (i := 0) dJ6_intValue_0 rfl rfl ?_
  refine go_get2 h KJ6 0 (by decide) rfl (nI n) hv q815 dJ6_intValue_1 ?_
  exact v_iret rfl dJ6_intValue_4 ⟨rfl, rfl⟩
theorem cJ_valueOf {G : Gl} {η0 : AH} (t : Nat) {n : Nat} (hn : n < 2147483648) (hK : Kst G η0) : Ct G yJ6_valueOf cJ6_valueOf 1 (some (.object "java/lang/Integer")) 3 1 1 [.int (nI n)] η0 (rr fun q η => INt η q n ∧ Kp t (t + 1) η0 η) := by
  refine Ct.start rfl rfl (Nat.le_of_ble_eq_true rfl) (fun Γ => ?_)
  refine v_iload_n (i := 0) dJ6_valueOf_0 rfl rfl ?_
  refine v_bipush (v := -128) dJ6_valueOf_1 k_bipush_m128 ?_
  refine v_icmp_lt (tgt := 23) dJ6_valueOf_3 rfl (fun c3 => ?_) (fun c3 => ?_)
  · exact absurd c3 (by rw [i_lt, nI_toInt hn, show (-128 : Int32).toInt = -128 from rfl]; omega)
  · refine v_iload_n (i := 0) dJ6_valueOf_6 rfl rfl ?_
    refine v_gets 1 rfl q802 rfl dJ6_valueOf_7 ?_
    refine v_top (x' := nI 127) rfl ?_
    refine vn_icmp_gt (tgt := 23) dJ6_valueOf_10 rfl (by omega) (by decide) (fun c10 => ?_) (fun c10 => ?_)
    · refine v_nw (t) KJ6 q806 q807 q129 (by omega) (by omega) dJ6_valueOf_23 (fun qI η hqI hη hk => ?_)
      have hI : GO (5, 1, kzJ6, lnJ6) η (some (t)) qI (fun _ => 0) (zS kdJ6) := by rw [hη]; exact bornJ6
      refine v_dup dJ6_valueOf_26 rfl ?_
      refine v_iload_n (i := 0) dJ6_valueOf_27 rfl rfl ?_
      refine v_callI (kc' := 0) (ks' := 0) (cJ_INinit (hI.sc (kd2 := kdJ6) (by decide))) (lw_meth q810) q129 q808 q809 rfl iJ6_init rfl rfl (by decide) (by decide) (Nat.le_of_ble_eq_true rfl) (by decide) (by decide) dJ6_valueOf_28 (kr_W (fun η h => ?_)) kx_W
      obtain ⟨hI, hk2⟩ := h
      refine v_rtg (fz t) ?_
      exact v_aret rfl (Or.inl ⟨_, rfl⟩) dJ6_valueOf_31 ⟨_, rfl, ⟨_, _, (by have h2 := hI.rt (g := fz t); rw [fz_t] at h2; exact h2), rfl⟩, (hk.tr hk2).tr fz_kp⟩
    · refine v_gets 2 rfl q804 rfl dJ6_valueOf_13 ?_
      refine v_iload_n (i := 0) dJ6_valueOf_16 rfl rfl ?_
      refine v_sipush (v := nI 128) dJ6_valueOf_17 k_sipush_128 ?_
      refine vn_iadd dJ6_valueOf_20 ?_
      rw [show n + 128 = n + 128 from rfl]
      refine v_ldIc (j := n + 128) (by omega) dJ6_valueOf_21 ?_
      exact v_aret rfl (Or.inl ⟨_, rfl⟩) dJ6_valueOf_22 ⟨_, rfl, (by rw [show 600 + (n + 128) = 728 + n by omega]; exact hK.2 n (by omega)), Kp.rf⟩
theorem cJ_clear {G : Gl} {η0 : AH} {t l cap : Nat} {xs : List Nat} (hA : AL G η0 (some t) l xs cap) : Ct G yJ2_clear cJ2_clear 4 none 1 0 0 [.ref l] η0 (rv fun η => AL G η (some t) l [] cap ∧ Kp t (t + 1) η0 η) := by
  refine Ct.start rfl rfl (Nat.le_of_ble_eq_true rfl) (fun Γ => ?_)
  obtain ⟨ad, σ, e, f, h, s1, s2, hl, hc, he, hf⟩ := hA
  have h0 : Kp t (t + 1) η0 η0 := Kp.rf
  obtain ⟨o1, f1, hal⟩ := al_len he
  have hne := h.nea hal
  have L27 : ∀ (n i : Nat) (η : AH) (σ : MS) (f : Nat → Option Nat), i + n = xs.length → GO scJ2 η (some t) l ad σ → gN σ 1 = e + 1 → gN σ 2 = 0 → ((cap = 0 ∧ e = G.2.2.2 503 ∧ η e = some (none, aR 9 0 (fun _ => none))) ∨ (0 < cap ∧ η e = some (some t, aR 9 cap f))) → Kp t (t + 1) η0 η → V G Γ yJ2_clear cJ2_clear 4 none [] 1 (rv fun η => AL G η (some t) l [] cap ∧ Kp t (t + 1) η0 η) (0) (0) (η) 27 [some (.ref l), some (.ref e), some (.int (nI xs.length)), some (.int (nI i))] [] := by
    intro n
    induction n with
    | zero =>
      intro i η σ f hin h s1 s2 he h0
      refine v_iload_n (i := 3) dJ2_clear_27 rfl rfl ?_
      refine v_iload_n (i := 2) dJ2_clear_28 rfl rfl ?_
      refine vn_icmp_ge (tgt := 42) dJ2_clear_29 rfl (by omega) (by omega) (fun c29 => ?_) (fun c29 => ?_)
      · exact v_vret rfl dJ2_clear_42 ⟨rfl, ⟨ad, _, e, f, h, s1, s2, Nat.zero_le _, hc, he, fun i hi => absurd hi (Nat.not_lt_zero i)⟩, h0⟩
      · omega
    | succ n ih =>
      intro i η σ f hin h s1 s2 he h0
      have ha : η e = some (some t, aR 9 cap f) := he.elim (fun q => absurd q.1 (by omega)) (fun q => q.2)
      refine v_iload_n (i := 3) dJ2_clear_27 rfl rfl ?_
      refine v_iload_n (i := 2) dJ2_clear_28 rfl rfl ?_
      refine vn_icmp_ge (tgt := 42) dJ2_clear_29 rfl (by omega) (by omega) (fun c29 => ?_) (fun c29 => ?_)
      · omega
      · refine v_aload_n (i := 1) dJ2_clear_32 rfl rfl ?_
        refine v_iload_n (i := 3) dJ2_clear_33 rfl rfl ?_
        refine v_null dJ2_clear_34 ?_
        refine v_aastN ha (vp_in_nI (by omega) (by omega)) dJ2_clear_35 ?_
        rw [nI_clamp (by omega)]
        have h := h.ua (x := (some t, aR 9 cap (va_up f i none))) ha (by decide)
        have h0 := h0.tr (Kp.pt (x := (some t, aR 9 cap (va_up f i none))) ha ⟨Nat.le_refl _, Nat.lt_succ_self _⟩)
        refine vn_iinc 1 dJ2_clear_36 rfl k_iconst_1 (by decide) rfl ?_
        refine v_goto (tgt := 27) dJ2_clear_39 rfl ?_
        exact ih (i + 1) _ σ _ (by omega) h s1 s2 (Or.inr ⟨by omega, up_s⟩) h0
  refine v_aload_n (i := 0) dJ2_clear_0 rfl rfl ?_
  refine v_dup dJ2_clear_1 rfl ?_
  refine go_get2S h KJ2 0 (by decide) rfl (gI σ 0) rfl q193 q194 dJ2_clear_2 ?_
  refine v_iconst (v := nI 1) dJ2_clear_5 k_iconst_1 ?_
  refine v_iadd dJ2_clear_6 ?_
  refine go_put2Se h KJ2 0 (by decide) rfl q193 q194 rfl rfl rfl dJ2_clear_7 (fun η h hk hx => ?_)
  have h0 := h0.th hk (by omega) (by omega)
  have he : (cap = 0 ∧ e = G.2.2.2 503 ∧ η e = some (none, aR 9 0 (fun _ => none))) ∨ (0 < cap ∧ η e = some (some t, aR 9 cap f)) := he.imp (fun q => ⟨q.1, q.2.1, (hx e hne).trans q.2.2⟩) (fun q => ⟨q.1, (hx e hne).trans q.2⟩)
  refine v_aload_n (i := 0) dJ2_clear_10 rfl rfl ?_
  refine go_get3 h KJ2 1 (by decide) rfl (e) s1 q190 dJ2_clear_11 ?_
  refine v_astore_n (i := 1) dJ2_clear_14 rfl (by decide) rfl ?_
  refine v_aload_n (i := 0) dJ2_clear_15 rfl rfl ?_
  refine go_get0 h KJ2 2 (by decide) rfl (xs.length) s2 q191 dJ2_clear_16 ?_
  refine v_istore_n (i := 2) dJ2_clear_19 rfl (by decide) rfl ?_
  refine v_aload_n (i := 0) dJ2_clear_20 rfl rfl ?_
  refine v_iconst (v := nI 0) dJ2_clear_21 k_iconst_0 ?_
  refine v_dup_x1 dJ2_clear_22 rfl rfl ?_
  refine go_put0e h KJ2 2 (by decide) rfl q191 rfl rfl rfl dJ2_clear_23 (fun η h hk hx => ?_)
  have h0 := h0.th hk (by omega) (by omega)
  have he : (cap = 0 ∧ e = G.2.2.2 503 ∧ η e = some (none, aR 9 0 (fun _ => none))) ∨ (0 < cap ∧ η e = some (some t, aR 9 cap f)) := he.imp (fun q => ⟨q.1, q.2.1, (hx e hne).trans q.2.2⟩) (fun q => ⟨q.1, (hx e hne).trans q.2⟩)
  refine v_istore_n (i := 3) dJ2_clear_26 rfl (by decide) rfl ?_
  exact L27 xs.length 0 _ _ f (by omega) h s1 rfl he h0
theorem cJ_fastR {G : Gl} {η0 : AH} {t l e v cap : Nat} {xs : List Nat} {ad : Nat → Nat} {σ : MS} {f : Nat → Option Nat} (h : GO scJ2 η0 (some t) l ad σ) (s1 : gN σ 1 = e + 1) (s2 : gN σ 2 = xs.length + 1) (hl : xs.length + 1 ≤ cap) (hc : cap ≤ 20000) (ha : η0 e = some (some t, aR 9 cap f)) (hf : ∀ i, i < xs.length + 1 → f i = (xs ++ [v])[i]?) : Ct G yJ2_fastRemove cJ2_fastRemove 4 none 1 0 0 [.ref l, .ref e, .int (nI xs.length)] η0 (rv fun η => AL G η (some t) l xs cap ∧ Kp t (t + 1) η0 η) := by
  refine Ct.start rfl rfl (Nat.le_of_ble_eq_true rfl) (fun Γ => ?_)
  have h0 : Kp t (t + 1) η0 η0 := Kp.rf
  have hne := h.nea ha
  refine v_aload_n (i := 0) dJ2_fastRemove_0 rfl rfl ?_
  refine v_dup dJ2_fastRemove_1 rfl ?_
  refine go_get2S h KJ2 0 (by decide) rfl (gI σ 0) rfl q193 q194 dJ2_fastRemove_2 ?_
  refine v_iconst (v := nI 1) dJ2_fastRemove_5 k_iconst_1 ?_
  refine v_iadd dJ2_fastRemove_6 ?_
  refine go_put2Se h KJ2 0 (by decide) rfl q193 q194 rfl rfl rfl dJ2_fastRemove_7 (fun η h hk hx => ?_)
  have h0 := h0.th hk (by omega) (by omega)
  have ha := (hx e hne).trans ha
  refine v_aload_n (i := 0) dJ2_fastRemove_10 rfl rfl ?_
  refine go_get0 h KJ2 2 (by decide) rfl (xs.length + 1) s2 q191 dJ2_fastRemove_11 ?_
  refine v_iconst (v := nI 1) dJ2_fastRemove_14 k_iconst_1 ?_
  refine vn_isub (by omega) dJ2_fastRemove_15 ?_
  refine v_dup dJ2_fastRemove_16 rfl ?_
  refine v_istore_n (i := 3) dJ2_fastRemove_17 rfl (by decide) rfl ?_
  refine v_iload_n (i := 2) dJ2_fastRemove_18 rfl rfl ?_
  refine vn_icmp_le (tgt := 34) dJ2_fastRemove_19 rfl (by omega) (by omega) (fun c19 => ?_) (fun c19 => ?_)
  · refine v_aload_n (i := 1) dJ2_fastRemove_34 rfl rfl ?_
    refine v_aload_n (i := 0) dJ2_fastRemove_35 rfl rfl ?_
    refine v_iload_n (i := 3) dJ2_fastRemove_36 rfl rfl ?_
    refine v_dup_x1 dJ2_fastRemove_37 rfl rfl ?_
    refine go_put0e h KJ2 2 (by decide) rfl q191 rfl rfl rfl dJ2_fastRemove_38 (fun η h hk hx => ?_)
    have h0 := h0.th hk (by omega) (by omega)
    have ha := (hx e hne).trans ha
    refine v_null dJ2_fastRemove_41 ?_
    refine v_aastN ha (vp_in_nI (by omega) (by omega)) dJ2_fastRemove_42 ?_
    rw [nI_clamp (by omega)]
    have h := h.ua (x := (some t, aR 9 cap (va_up f (xs.length + 1 - 1) none))) ha (by decide)
    have h0 := h0.tr (Kp.pt (x := (some t, aR 9 cap (va_up f (xs.length + 1 - 1) none))) ha ⟨Nat.le_refl _, Nat.lt_succ_self _⟩)
    exact v_vret rfl dJ2_fastRemove_43 (by
      refine ⟨rfl, ⟨ad, _, e, _, h, s1, rfl, by omega, hc, Or.inr ⟨by omega, up_s⟩, fun i hi => ?_⟩, h0⟩
      unfold va_up
      rw [if_neg (by omega), hf i (by omega), List.getElem?_append_left hi])
  · exact absurd c19 (by omega)
theorem cJ_remL {G : Gl} {η0 : AH} {t l v cap : Nat} {xs : List Nat} (hA : AL G η0 (some t) l (xs ++ [v]) cap) : Ct G yJ2_remove cJ2_remove 4 (some (.object "java/lang/Object")) 3 0 0 [.ref l, .int (nI xs.length)] η0 (rr fun q η => q = v ∧ AL G η (some t) l xs cap ∧ Kp t (t + 1) η0 η) := by
  refine Ct.start rfl rfl (Nat.le_of_ble_eq_true rfl) (fun Γ => ?_)
  obtain ⟨ad, σ, e, f, h, s1, s2, hl, hc, he, hf⟩ := hA
  rw [List.length_append] at s2 hl hf
  have s2 : gN σ 2 = xs.length + 1 := s2
  have hl : xs.length + 1 ≤ cap := hl
  have hf : ∀ i, i < xs.length + 1 → f i = (xs ++ [v])[i]? := hf
  have ha : η0 e = some (some t, aR 9 cap f) := he.elim (fun q => absurd q.1 (by omega)) (fun q => q.2)
  have hfl : f xs.length = some v := by rw [hf _ (Nat.lt_succ_self _)]; simp
  refine v_iload_n (i := 1) dJ2_remove_0 rfl rfl ?_
  refine v_aload_n (i := 0) dJ2_remove_1 rfl rfl ?_
  refine go_get0 h KJ2 2 (by decide) rfl (xs.length + 1) s2 q191 dJ2_remove_2 ?_
  refine v_callS (cJ_chkO (i := xs.length) (n := xs.length + 1) (by omega) (by omega)) (lw_S q399 q400 q126 q401) iJ3_checkIndex rfl rfl (by decide) (by decide) (Nat.le_of_ble_eq_true rfl) (Nat.le_refl _) (Nat.le_refl _) dJ2_remove_5 (kr_ei ?_) kx_e
  refine v_pop dJ2_remove_8 rfl ?_
  refine v_aload_n (i := 0) dJ2_remove_9 rfl rfl ?_
  refine go_get3 h KJ2 1 (by decide) rfl (e) s1 q190 dJ2_remove_10 ?_
  refine v_astore_n (i := 2) dJ2_remove_13 rfl (by decide) rfl ?_
  refine v_aload_n (i := 2) dJ2_remove_14 rfl rfl ?_
  refine v_iload_n (i := 1) dJ2_remove_15 rfl rfl ?_
  refine v_aald (v := .ref v) ha ⟨by decide, by decide⟩ (vp_in_nI (by omega) (by omega)) (by rw [nI_clamp (by omega), hfl]; rfl) dJ2_remove_16 ?_
  refine v_astore_n (i := 3) dJ2_remove_17 rfl (by decide) rfl ?_
  refine v_aload_n (i := 0) dJ2_remove_18 rfl rfl ?_
  refine v_aload_n (i := 2) dJ2_remove_19 rfl rfl ?_
  refine v_iload_n (i := 1) dJ2_remove_20 rfl rfl ?_
  refine v_callVe (kc' := 0) (ks' := 0) (cJ_fastR (v := v) h s1 s2 hl hc ha hf) (lw_V q1028 q1030 qs19 q123 q1031) iJ2_fastRemove rfl KJ2 h.rcv rfl rfl (by decide) (by decide) (Nat.le_of_ble_eq_true rfl) (by decide) (by decide) dJ2_remove_21 (kr_W (fun η h_2 => ?_)) kx_W
  refine v_aload_n (i := 3) dJ2_remove_24 rfl rfl ?_
  exact v_aret rfl (Or.inl ⟨_, rfl⟩) dJ2_remove_25 ⟨_, rfl, rfl, h_2⟩
