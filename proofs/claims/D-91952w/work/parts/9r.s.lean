set_option maxRecDepth 100000
section VAN
variable {G : Gl} {Γ : Fx} {mt : MethodName} {cc : ByteArray} {nL : Nat} {ret : Option FieldType} {tb : List ExceptionTableEntry} {d : Nat} {P : Rs → AH → Prop} {kc ks : Nat} {η : AH} {pc : Nat} {lv : List (Option Value)} {rest : List Value} {index : Nat}
theorem v_anewT (t n : Nat) {kc' ks' : Nat} (hcl : Cond.classLink mt.cls index "java/lang/Object" ∈ lw_all) (hn : n ≤ 134217728) (h1 : kc' + 1 ≤ kc) (h2 : ks' + n ≤ ks) (hdg : decode cc pc = .ok (.anewarray index, 3))
    (kk : ∀ q η', η q = none → η' = up η q (some t, aR 9 n (fun _ => none)) → Kp t (t + 1) η η' → V G Γ mt cc nL ret tb d P kc' ks' η' (pc + 3) lv (.ref q :: rest)) : V G Γ mt cc nL ret tb d P kc ks η pc lv (.int (nI n) :: rest) :=
  v_anew hcl hn h1 h2 hdg (fun q hq => v_own (q := q) (o1 := q) (o2 := t) (c := aR 9 n (fun _ => none)) up_s (by rw [up_up]; exact kk q _ hq rfl (Kp.nw hq)))
end VAN
theorem ElO.nw {η : AH} {y q : Nat} {x : Option Nat × CE} (h : ElO η y) (hq : η q = none) : ElO (up η q x) y := by
  obtain ⟨c1, N, C, T, ty, o', F1, K, h1, h2⟩ := h
  refine ⟨c1, N, C, T, ty, o', F1, K, h1, ?_⟩
  rw [up_n (fun e => by rw [e, hq] at h2; cases h2)]
  exact h2
/-- a cell of the tag t is another array -/
theorem ElO.ar {η : AH} {y a : Nat} {o1 : Option Nat} {c1 : Nat × Nat × ((Nat → Int32) ⊕ (Nat → Int64) ⊕ (Nat → Option Nat))} {x : Option Nat × CE} (h : ElO η y) (ha : η a = some (o1, .inl c1)) : ElO (up η a x) y := by
  obtain ⟨c1, N, C, T, ty, o', F1, K, h1, h2⟩ := h
  refine ⟨c1, N, C, T, ty, o', F1, K, h1, ?_⟩
  rw [up_n (fun e => by rw [e, ha] at h2; cases h2)]
  exact h2
/-- all that was stands -/
def Xt (η η' : AH) : Prop := ∀ (b : Nat) (x : Option Nat × CE), η b = some x → η' b = some x
theorem Xt.k_ {lo hi : Nat} {η η' : AH} (h : Xt η η') : Kp lo hi η η' := fun b o e' q _ => h b _ q
theorem GO.xt {S : Sc} {η η' : AH} {o : Option Nat} {a : Nat} {ad : Nat → Nat} {σ : MS} (h : GO S η o a ad σ) (hx : Xt η η') : GO S η' o a ad σ := by
  obtain ⟨F, h1, h2, h3, h4⟩ := h
  exact ⟨F, hx _ _ h1, h2, fun k q1 q2 => hx _ _ (h3 k q1 q2), h4⟩
theorem ElO.xt {η η' : AH} {y : Nat} (h : ElO η y) (hx : Xt η η') : ElO η' y := by
  obtain ⟨c1, N, C, T, ty, o', F1, K, h1, h2⟩ := h
  exact ⟨c1, N, C, T, ty, o', F1, K, h1, hx _ _ h2⟩
/-- an object, another object of its class put in its place: still an element -/
theorem ElO.pt {η : AH} {y l ci : Nat} {o1 o2 : Option Nat} {F G : Nat → Value} (h : ElO η y) (hl : η l = some (o1, ob ci F)) : ElO (up η l (o2, ob ci G)) y := by
  obtain ⟨c1, N, C, T, ty, o', F1, K, h1, h2⟩ := h
  by_cases c : y = l
  · subst c
    rw [hl] at h2
    cases h2
    exact ⟨ci, N, C, T, ty, o2, G, K, h1, up_s⟩
  · exact ⟨c1, N, C, T, ty, o', F1, K, h1, by rw [up_n c]; exact h2⟩
def mxL (a b : Nat) : Nat := if a < b then b else a
theorem cJ_newLen {G : Gl} {η : AH} {a b c : Nat} (ha : a ≤ 100000) (hb : b ≤ 100000) (hc : c ≤ 100000) (hp : 0 < a + mxL b c) : Ct G yJ16_newLength cJ16_newLength 4 (some .int) 1 0 0 [.int (nI a), .int (nI b), .int (nI c)] η (re (some (.int (nI (a + mxL b c)))) η) := by
  refine Ct.start rfl rfl (Nat.le_of_ble_eq_true rfl) (fun Γ => ?_)
  have hm : mxL b c ≤ 100000 := by unfold mxL; split <;> omega
  refine v_iload_n (i := 0) dJ16_newLength_0 rfl rfl ?_
  refine v_iload_n (i := 1) dJ16_newLength_1 rfl rfl ?_
  refine v_iload_n (i := 2) dJ16_newLength_2 rfl rfl ?_
  refine v_mmax q843 (nI_max (by omega) (by omega)) (by decide) (Nat.le_of_ble_eq_true rfl) dJ16_newLength_3 ?_
  refine v_top (x' := nI (mxL b c)) rfl ?_
  refine vn_iadd dJ16_newLength_6 ?_
  refine v_istore_n (i := 3) dJ16_newLength_7 rfl (by decide) rfl ?_
  refine v_iconst (v := nI 0) dJ16_newLength_8 k_iconst_0 ?_
  refine v_iload_n (i := 3) dJ16_newLength_9 rfl rfl ?_
  refine vn_icmp_ge (tgt := 21) dJ16_newLength_10 rfl (by decide) (by omega) (fun c10 => ?_) (fun c10 => ?_)
  · exact absurd (show a + mxL b c ≤ 0 from c10) (by omega)
  · refine v_iload_n (i := 3) dJ16_newLength_13 rfl rfl ?_
    refine v_ldc (v := nI 2147483639) q844 dJ16_newLength_14 ?_
    refine vn_icmp_gt (tgt := 21) dJ16_newLength_16 rfl (by omega) (by decide) (fun c16 => ?_) (fun c16 => ?_)
    · omega
    · refine v_iload_n (i := 3) dJ16_newLength_19 rfl rfl ?_
      exact v_iret rfl dJ16_newLength_20 ⟨rfl, rfl⟩
theorem nI_minv {a b : Nat} (ha : a < 2147483648) (hb : b < 2147483648) : (if nI b < nI a then nI b else nI a) = nI (if b < a then b else a) := by
  have : nI b < nI a ↔ b < a := by rw [i_lt, nI_toInt ha, nI_toInt hb]; omega
  by_cases c : b < a
  · rw [if_pos c, if_pos (this.mpr c)]
  · rw [if_neg c, if_neg (fun q => c (this.mp q))]
theorem cJ_copyOf_2 {G : Gl} {η0 : AH} {t a n0 n : Nat} {f : Nat → Option Nat} {o0 : Option Nat} (ha : η0 a = some (o0, aR 9 n0 f)) (hn : n0 ≤ n) (hn2 : n ≤ 100000) (hel : ∀ i, i < n0 → ∀ y, f i = some y → ElO η0 y) : Ct G yJ17_copyOf_2 cJ17_copyOf_2 4 (some (.array (.object "java/lang/Object"))) 2 1 n [.ref a, .int (nI n), .ref (G.2.2.2 504)] η0 (rr fun q η => η0 q = none ∧ (∃ f2, η q = some (some t, aR 9 n f2) ∧ ∀ i, i < n0 → f2 i = f i) ∧ Xt η0 η) := by
  refine Ct.start rfl rfl (Nat.le_of_ble_eq_true rfl) (fun Γ => ?_)
  refine v_aload_n (i := 2) dJ17_copyOf_2_0 rfl rfl ?_
  refine v_ldcM q881 dJ17_copyOf_2_1 ?_
  refine v_acmp_ne (rx := some (G.2.2.2 504)) (ry := some (G.2.2.2 504)) (tgt := 13) dJ17_copyOf_2_3 rfl (fun c => absurd rfl c) (fun _ => ?_)
  refine v_iload_n (i := 1) dJ17_copyOf_2_6 rfl rfl ?_
  refine v_anewT (kc' := 0) (ks' := 0) t n q883 (by omega) (by omega) (by omega) dJ17_copyOf_2_7 (fun q η hq hη hk => ?_)
  have hqa : q ≠ a := fun e => by rw [e, ha] at hq; cases hq
  have ha1 : η a = some (o0, aR 9 n0 f) := by rw [hη, up_n (fun e => hqa e.symm)]; exact ha
  have hq1 : η q = some (some t, aR 9 n (fun _ => none)) := by rw [hη, up_s]
  refine v_goto (tgt := 24) dJ17_copyOf_2_10 rfl ?_
  refine v_astore_n (i := 3) dJ17_copyOf_2_24 rfl (by decide) rfl ?_
  refine v_aload_n (i := 0) dJ17_copyOf_2_25 rfl rfl ?_
  refine v_iconst (v := nI 0) dJ17_copyOf_2_26 k_iconst_0 ?_
  refine v_aload_n (i := 3) dJ17_copyOf_2_27 rfl rfl ?_
  refine v_iconst (v := nI 0) dJ17_copyOf_2_28 k_iconst_0 ?_
  refine v_aload_n (i := 0) dJ17_copyOf_2_29 rfl rfl ?_
  refine v_alen ha1 (by decide) dJ17_copyOf_2_30 ?_
  refine v_iload_n (i := 1) dJ17_copyOf_2_31 rfl rfl ?_
  refine v_mmin q884 (nI_minv (by omega) (by omega)) (by decide) (Nat.le_of_ble_eq_true rfl) dJ17_copyOf_2_32 ?_
  refine v_top (x' := nI n0) (by rw [if_neg (by omega)]) ?_
  refine v_acopR (sp := 0) (dp := 0) (n := n0) ha1 hq1 (by omega) (by omega) (by omega) (by omega) (fun i hi y hy => by rw [hη]; exact (hel i hi y (by rw [← hy, Nat.zero_add])).nw hq) q885 (by decide) (Nat.le_of_ble_eq_true rfl) dJ17_copyOf_2_35 ?_
  refine v_aload_n (i := 3) dJ17_copyOf_2_38 rfl rfl ?_
  exact v_aret rfl (Or.inr ⟨_, rfl⟩) dJ17_copyOf_2_39 (by
    refine ⟨_, rfl, hq, ⟨_, up_s, fun i hi => ?_⟩, fun b x hb => ?_⟩
    · unfold va_cpy
      rw [if_pos (by omega), Nat.zero_add, Nat.sub_zero]
    · have hbq : b ≠ q := fun e => by rw [e, hq] at hb; cases hb
      rw [up_n hbq, hη, up_n hbq]
      exact hb)
theorem cJ_copyOf {G : Gl} {η0 : AH} {t a n0 n : Nat} {f : Nat → Option Nat} {o0 : Option Nat} (ha : η0 a = some (o0, aR 9 n0 f)) (hn : n0 ≤ n) (hn2 : n ≤ 100000) (hel : ∀ i, i < n0 → ∀ y, f i = some y → ElO η0 y) : Ct G yJ17_copyOf cJ17_copyOf 2 (some (.array (.object "java/lang/Object"))) 3 1 n [.ref a, .int (nI n)] η0 (rr fun q η => η0 q = none ∧ (∃ f2, η q = some (some t, aR 9 n f2) ∧ ∀ i, i < n0 → f2 i = f i) ∧ Xt η0 η) := by
  refine Ct.start rfl rfl (Nat.le_of_ble_eq_true rfl) (fun Γ => ?_)
  refine v_aload_n (i := 0) dJ17_copyOf_0 rfl rfl ?_
  refine v_iload_n (i := 1) dJ17_copyOf_1 rfl rfl ?_
  refine v_aload_n (i := 0) dJ17_copyOf_2 rfl rfl ?_
  refine v_getC ha q851 q852 q877 (Nat.le_of_ble_eq_true rfl) (by decide) dJ17_copyOf_3 ?_
  refine v_callS (kc' := 0) (ks' := 0) (cJ_copyOf_2 (t := t) ha hn hn2 hel) (lw_S q878 q879 q147 q880) iJ17_copyOf_2 rfl rfl (by decide) (by decide) (Nat.le_of_ble_eq_true rfl) (Nat.le_refl _) (by omega) dJ17_copyOf_6 (kr_R (fun x_ η h => ?_)) kx_R
  exact v_aret rfl (Or.inr ⟨_, rfl⟩) dJ17_copyOf_9 ⟨_, rfl, h⟩
theorem cJ_ACinit {G : Gl} {η0 : AH} {t l : Nat} {ad : Nat → Nat} {σ : MS} (h : GO scJ2 η0 (some t) l ad σ) : Ct G yJ0_init cJ0_init 1 none 1 0 0 [.ref l] η0 (re none η0) := by
  refine Ct.start rfl rfl (Nat.le_of_ble_eq_true rfl) (fun Γ => ?_)
  refine v_aload_n (i := 0) dJ0_init_0 rfl rfl ?_
  refine v_objI q187 (by decide) (Nat.le_of_ble_eq_true rfl) dJ0_init_1 ?_
  exact v_vret rfl dJ0_init_4 ⟨rfl, rfl⟩
theorem cJ_ALinit {G : Gl} {η0 : AH} {t l : Nat} {ad : Nat → Nat} {σ : MS} (h : GO scJ2 η0 (some t) l ad σ) : Ct G yJ1_init cJ1_init 1 none 2 0 0 [.ref l] η0 (rv fun η => (∃ σ2, GO scJ2 η (some t) l ad σ2 ∧ gN σ2 2 = gN σ 2) ∧ Kp t (t + 1) η0 η) := by
  refine Ct.start rfl rfl (Nat.le_of_ble_eq_true rfl) (fun Γ => ?_)
  refine v_aload_n (i := 0) dJ1_init_0 rfl rfl ?_
  refine v_callI (cJ_ACinit h) (lw_meth q186) q121 q184 q185 rfl iJ0_init rfl rfl (by decide) (by decide) (Nat.le_of_ble_eq_true rfl) (Nat.le_refl _) (Nat.le_refl _) dJ1_init_1 (kr_ev ?_) kx_e
  refine v_aload_n (i := 0) dJ1_init_4 rfl rfl ?_
  refine v_iconst (v := nI 0) dJ1_init_5 k_iconst_0 ?_
  refine go_put2 h KJ2 0 (by decide) rfl q192 rfl rfl rfl dJ1_init_6 (fun η h hk => ?_)
  exact v_vret rfl dJ1_init_9 ⟨rfl, ⟨_, h, rfl⟩, hk⟩
theorem cJ_init {G : Gl} {η0 : AH} {t l : Nat} {ad : Nat → Nat} {σ : MS} (h : GO scJ2 η0 (some t) l ad σ) (hc : η0 (G.2.2.2 503) = some (none, aR 9 0 (fun _ => none))) (h2 : gN σ 2 = 0) : Ct G yJ2_init cJ2_init 1 none 3 0 0 [.ref l] η0 (rv fun η => AL G η (some t) l [] 0 ∧ Kp t (t + 1) η0 η) := by
  refine Ct.start rfl rfl (Nat.le_of_ble_eq_true rfl) (fun Γ => ?_)
  refine v_aload_n (i := 0) dJ2_init_0 rfl rfl ?_
  refine v_callI (cJ_ALinit h) (lw_meth q183) q122 q181 q182 rfl iJ1_init rfl rfl (by decide) (by decide) (Nat.le_of_ble_eq_true rfl) (Nat.le_refl _) (Nat.le_refl _) dJ2_init_1 (kr_W (fun η h => ?_)) kx_W
  obtain ⟨⟨σ2, h, h3⟩, h0⟩ := h
  refine v_aload_n (i := 0) dJ2_init_4 rfl rfl ?_
  refine v_gets 3 rfl q188 rfl dJ2_init_5 ?_
  refine go_put3 h KJ2 1 (by decide) rfl q190 rfl rfl rfl dJ2_init_8 (fun η h hk => ?_)
  have h0 := h0.th hk (by omega) (by omega)
  exact v_vret rfl dJ2_init_11 ⟨rfl, ⟨ad, _, _, fun _ => none, h, rfl, h3.trans h2, Nat.le_refl _, by decide, Or.inl ⟨rfl, rfl, h0.celN hc⟩, fun i hi => absurd hi (Nat.not_lt_zero i)⟩, h0⟩
