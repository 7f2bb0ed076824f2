set_option maxRecDepth 100000
section VPE
variable {G : Gl} {Γ : Fx} {mt : MethodName} {cc : ByteArray} {nL : Nat} {ret : Option FieldType} {tb : List ExceptionTableEntry} {d : Nat} {P : Rs → AH → Prop} {kc ks : Nat} {η : AH} {pc : Nat} {lv : List (Option Value)} {rest : List Value} {index : Nat}
variable {S : Sc} {t a : Nat} {ad : Nat → Nat} {σ : MS} {C : String} {T : u_T} {ty : Nat → FieldType}
theorem go_put0e {v : Nat} (h : GO S η (some t) a ad σ) (K : Cl S.1 C T S.2.1 ty) (k : Nat) (hk : k < S.2.1) (hkd : S.2.2.1 k = 0) (hlink : Cond.fieldLink mt.cls index (T k).1 (T k).2.1 (T k).2.2.1 ∈ lw_all) (hfin : (T k).2.2.2 = false) (hn : narrow (ty k) (.int (nI v)) = .int (nI v)) (hf : fits (ty k) (.int (nI v)) = true) (hdg : decode cc pc = .ok (.putfield index, 3)) (kk : ∀ η', GO S η' (some t) a ad (sN σ k v) → Kp t (t + 1) η η' → (∀ b, b ≠ a → η' b = η b) → V G Γ mt cc nL ret tb d P kc ks η' (pc + 3) lv rest) : V G Γ mt cc nL ret tb d P kc ks η pc lv (.int (nI v) :: .ref a :: rest) := by
  obtain ⟨F, h1, h2, h3, h4⟩ := h
  exact v_put h1 K k hk hlink hfin hn hf hdg (kk _ (GO.fld h1 h2 h3 h4 (by unfold gvl; rw [hkd]; show Value.int (nI (gN (sN σ k v) k)) = _; rw [gN_sN, if_pos rfl]) (fun j hj => gvl_sN hj) (fun j => gcl_sN)) (Kp.pt h1 ⟨Nat.le_refl _, Nat.lt_succ_self _⟩) (fun b hb => up_n hb))
theorem go_put2e {v : Int32} (h : GO S η (some t) a ad σ) (K : Cl S.1 C T S.2.1 ty) (k : Nat) (hk : k < S.2.1) (hkd : S.2.2.1 k = 2) (hlink : Cond.fieldLink mt.cls index (T k).1 (T k).2.1 (T k).2.2.1 ∈ lw_all) (hfin : (T k).2.2.2 = false) (hn : narrow (ty k) (.int v) = .int v) (hf : fits (ty k) (.int v) = true) (hdg : decode cc pc = .ok (.putfield index, 3)) (kk : ∀ η', GO S η' (some t) a ad (sI σ k v) → Kp t (t + 1) η η' → (∀ b, b ≠ a → η' b = η b) → V G Γ mt cc nL ret tb d P kc ks η' (pc + 3) lv rest) : V G Γ mt cc nL ret tb d P kc ks η pc lv (.int v :: .ref a :: rest) := by
  obtain ⟨F, h1, h2, h3, h4⟩ := h
  exact v_put h1 K k hk hlink hfin hn hf hdg (kk _ (GO.fld h1 h2 h3 h4 (by unfold gvl; rw [hkd]; show Value.int (gI (sI σ k v) k) = _; rw [gI_sI, if_pos rfl]) (fun j hj => gvl_sI hj) (fun j => gcl_sI)) (Kp.pt h1 ⟨Nat.le_refl _, Nat.lt_succ_self _⟩) (fun b hb => up_n hb))
theorem go_put3e {v : Nat} (h : GO S η (some t) a ad σ) (K : Cl S.1 C T S.2.1 ty) (k : Nat) (hk : k < S.2.1) (hkd : S.2.2.1 k = 3) (hlink : Cond.fieldLink mt.cls index (T k).1 (T k).2.1 (T k).2.2.1 ∈ lw_all) (hfin : (T k).2.2.2 = false) (hn : narrow (ty k) (.ref v) = .ref v) (hf : fits (ty k) (.ref v) = true) (hdg : decode cc pc = .ok (.putfield index, 3)) (kk : ∀ η', GO S η' (some t) a ad (sN σ k (v + 1)) → Kp t (t + 1) η η' → (∀ b, b ≠ a → η' b = η b) → V G Γ mt cc nL ret tb d P kc ks η' (pc + 3) lv rest) : V G Γ mt cc nL ret tb d P kc ks η pc lv (.ref v :: .ref a :: rest) := by
  obtain ⟨F, h1, h2, h3, h4⟩ := h
  exact v_put h1 K k hk hlink hfin hn hf hdg (kk _ (GO.fld h1 h2 h3 h4 (by unfold gvl; rw [hkd]; show rfN (gN (sN σ k (v + 1)) k) = _; rw [gN_sN, if_pos rfl]; rfl) (fun j hj => gvl_sN hj) (fun j => gcl_sN)) (Kp.pt h1 ⟨Nat.le_refl _, Nat.lt_succ_self _⟩) (fun b hb => up_n hb))
theorem go_put3ze (h : GO S η (some t) a ad σ) (K : Cl S.1 C T S.2.1 ty) (k : Nat) (hk : k < S.2.1) (hkd : S.2.2.1 k = 3) (hlink : Cond.fieldLink mt.cls index (T k).1 (T k).2.1 (T k).2.2.1 ∈ lw_all) (hfin : (T k).2.2.2 = false) (hn : narrow (ty k) (.null) = .null) (hf : fits (ty k) (.null) = true) (hdg : decode cc pc = .ok (.putfield index, 3)) (kk : ∀ η', GO S η' (some t) a ad (sN σ k 0) → Kp t (t + 1) η η' → (∀ b, b ≠ a → η' b = η b) → V G Γ mt cc nL ret tb d P kc ks η' (pc + 3) lv rest) : V G Γ mt cc nL ret tb d P kc ks η pc lv (.null :: .ref a :: rest) := by
  obtain ⟨F, h1, h2, h3, h4⟩ := h
  exact v_put h1 K k hk hlink hfin hn hf hdg (kk _ (GO.fld h1 h2 h3 h4 (by unfold gvl; rw [hkd]; show rfN (gN (sN σ k 0) k) = _; rw [gN_sN, if_pos rfl]; rfl) (fun j hj => gvl_sN hj) (fun j => gcl_sN)) (Kp.pt h1 ⟨Nat.le_refl _, Nat.lt_succ_self _⟩) (fun b hb => up_n hb))
variable {ci N ow : Nat} {o : Option Nat} {F : Nat → Value}
theorem v_getWS {ref : String} (hη : η a = some (o, ob ci F)) (K : Cl ci C T N ty) (k : Nat) (hk : k < N) (hlink : Cond.fieldLink mt.cls index ref (T k).2.1 (T k).2.2.1 ∈ lw_all) (hsf : Cond.sameField ref (T k).1 (T k).2.1 (T k).2.2.1 ∈ lw_all) {v : Value} (hv : F k = v) (hne : v.category = 1) (hdg : decode cc pc = .ok (.getfield index, 3))
    (kk : V G Γ mt cc nL ret tb d P kc ks η (pc + 3) lv (v :: rest)) : V G Γ mt cc nL ret tb d P kc ks η pc lv (.ref a :: rest) := fun Q H locs ls cells slots a1 a2 a3 a4 a5 => by
  obtain ⟨r, h1, cell, q1, q2, q3, q5, q4⟩ := (a1 a _ _ hη).2
  have hr : r = (C, T, N) := Option.some.inj (h1.symm.trans K.1)
  subst hr
  obtain ⟨hS, hfc, kC, hkC, hkind⟩ := Q.2.2.2.2.2.1.2.1.1 ci _ K.1
  obtain ⟨cf, kf, fi, f, hi, hsl⟩ := hS k hk
  refine W.getf Q.1 Q.2.1 Q.2.2.2.1 (Q.2.2.2.2.1 _ hlink) (u_same (Q.2.2.2.2.1 _ hsf) _ hi) (u_facts hfc hkC (u_lays Q.2.2.2.2.1 K.2.1 hk) hi).1 q1 q5 (v := v) ?_ rfl rfl hdg (kk Q H locs ls cells slots a1 a2 a3 a4 a5)
  rw [hsl, q4 k hk (by show F k ≠ _; rw [hv]; intro e; rw [e] at hne; cases hne)]
  exact congrArg some hv
theorem v_putS {ref : String} (hη : η a = some (some ow, ob ci F)) (K : Cl ci C T N ty) (k : Nat) (hk : k < N) (hlink : Cond.fieldLink mt.cls index ref (T k).2.1 (T k).2.2.1 ∈ lw_all) (hsf : Cond.sameField ref (T k).1 (T k).2.1 (T k).2.2.1 ∈ lw_all) (hfin : (T k).2.2.2 = false) {v : Value} (hn : narrow (ty k) v = v) (hf : fits (ty k) v = true) (hdg : decode cc pc = .ok (.putfield index, 3))
    (kk : V G Γ mt cc nL ret tb d P kc ks (up η a (some ow, ob ci (updV F k v))) (pc + 3) lv rest) : V G Γ mt cc nL ret tb d P kc ks η pc lv (v :: .ref a :: rest) := fun Q H locs ls cells slots a1 a2 a3 a4 a5 => by
  obtain ⟨hA, r, h1, cell, q1, q2, q3, q4⟩ := (a1 a _ _ hη).1 (by simp)
  have hr : r = (C, T, N) := Option.some.inj (h1.symm.trans K.1)
  subst hr
  have hap := K.apart Q.2.2.2.2.1 Q.2.2.2.2.2.1.2.1
  obtain ⟨hS, hfc, kC, hkC, hkind⟩ := Q.2.2.2.2.2.1.2.1.1 ci _ K.1
  obtain ⟨cf, kf, fi, f, hi, hsl⟩ := hS k hk
  have hlay := Q.2.2.2.2.1 _ (K.2.1 _ (u_in_lay hk))
  unfold u_lay at hlay
  rw [if_neg (by rw [hfin]; decide)] at hlay
  have hst := (u_facts hfc hkC (u_lays Q.2.2.2.2.1 K.2.1 hk) hi).1
  have h6 := u_store hfc hkC hkind hlay hi (K.2.2.1 k hk) hn hf
  refine W.putK Q.1 Q.2.1 (f := f) ⟨Q.2.2.2.1, Q.2.2.2.2.1 _ hlink, ⟨_, _, _, u_same (Q.2.2.2.2.1 _ hsf) _ hi⟩, hst⟩ (by rw [q2]; exact h6) q1 q3 (by rw [hsl]; exact k2_hasslot (q4 k hk)) rfl rfl hdg fun H' e1 e2 e3 => ?_
  rw [hsl] at e1 ⊢
  exact kk Q H' _ ls cells slots (a1.set (fun _ => hA) ⟨_, K.1, ⟨_, e1, q2, q3, t_set q4 hap hk v⟩⟩ e3) (a2.put e2 e3 hA) a3 a4 a5
theorem go_get2S {ref : String} (h : GO S η o a ad σ) (K : Cl S.1 C T S.2.1 ty) (k : Nat) (hk : k < S.2.1) (hkd : S.2.2.1 k = 2) (n : Int32) (hn : gI σ k = n) (hlink : Cond.fieldLink mt.cls index ref (T k).2.1 (T k).2.2.1 ∈ lw_all) (hsf : Cond.sameField ref (T k).1 (T k).2.1 (T k).2.2.1 ∈ lw_all) (hdg : decode cc pc = .ok (.getfield index, 3)) (kk : V G Γ mt cc nL ret tb d P kc ks η (pc + 3) lv (.int n :: rest)) : V G Γ mt cc nL ret tb d P kc ks η pc lv (.ref a :: rest) := by
  obtain ⟨F, h1, h2, -⟩ := h
  exact v_getWS (v := .int n) h1 K k hk hlink hsf ((h2 k hk).trans (by unfold gvl; rw [hkd]; show Value.int (gI σ k) = _; rw [hn])) rfl hdg kk
theorem go_put2Se {ref : String} {v : Int32} (h : GO S η (some t) a ad σ) (K : Cl S.1 C T S.2.1 ty) (k : Nat) (hk : k < S.2.1) (hkd : S.2.2.1 k = 2) (hlink : Cond.fieldLink mt.cls index ref (T k).2.1 (T k).2.2.1 ∈ lw_all) (hsf : Cond.sameField ref (T k).1 (T k).2.1 (T k).2.2.1 ∈ lw_all) (hfin : (T k).2.2.2 = false) (hn : narrow (ty k) (.int v) = .int v) (hf : fits (ty k) (.int v) = true) (hdg : decode cc pc = .ok (.putfield index, 3)) (kk : ∀ η', GO S η' (some t) a ad (sI σ k v) → Kp t (t + 1) η η' → (∀ b, b ≠ a → η' b = η b) → V G Γ mt cc nL ret tb d P kc ks η' (pc + 3) lv rest) : V G Γ mt cc nL ret tb d P kc ks η pc lv (.int v :: .ref a :: rest) := by
  obtain ⟨F, h1, h2, h3, h4⟩ := h
  exact v_putS h1 K k hk hlink hsf hfin hn hf hdg (kk _ (GO.fld h1 h2 h3 h4 (by unfold gvl; rw [hkd]; show Value.int (gI (sI σ k v) k) = _; rw [gI_sI, if_pos rfl]) (fun j hj => gvl_sI hj) (fun j => gcl_sI)) (Kp.pt h1 ⟨Nat.le_refl _, Nat.lt_succ_self _⟩) (fun b hb => up_n hb))
end VPE
theorem ElO.pe {S : Sc} {η η' : AH} {y a : Nat} {o o' : Option Nat} {ad ad' : Nat → Nat} {σ σ' : MS} (h : ElO η y) (h1 : GO S η o a ad σ) (h2 : GO S η' o' a ad' σ') (hx : ∀ b, b ≠ a → η' b = η b) : ElO η' y := by
  obtain ⟨c1, N, C, T, ty, o2, F1, K, g1, g2⟩ := h
  by_cases c : y = a
  · subst c
    obtain ⟨F, f1⟩ := h1.me
    obtain ⟨F2, f2⟩ := h2.me
    rw [f1] at g2
    cases g2
    exact ⟨_, N, C, T, ty, o', F2, K, g1, f2⟩
  · exact ⟨c1, N, C, T, ty, o2, F1, K, g1, by rw [hx y c]; exact g2⟩
/-- an object without arrays of its own stands when an array is written -/
theorem GO.ua {S : Sc} {η : AH} {o o1 : Option Nat} {a e : Nat} {ad : Nat → Nat} {σ : MS} {c1 : Nat × Nat × ((Nat → Int32) ⊕ (Nat → Int64) ⊕ (Nat → Option Nat))} {x : Option Nat × CE} (h : GO S η o a ad σ) (he : η e = some (o1, .inl c1)) (hS : ∀ k, k < S.2.1 → S.2.2.1 k < 10) : GO S (up η e x) o a ad σ := by
  obtain ⟨F, h1, h2, h3, h4⟩ := h
  refine ⟨F, ?_, h2, fun k q1 q2 => absurd (hS k q1) (by omega), h4⟩
  rw [up_n (fun c => by rw [c, he] at h1; cases h1)]
  exact h1
theorem GO.nea {S : Sc} {η : AH} {o o1 : Option Nat} {a e : Nat} {ad : Nat → Nat} {σ : MS} {c1 : Nat × Nat × ((Nat → Int32) ⊕ (Nat → Int64) ⊕ (Nat → Option Nat))} (h : GO S η o a ad σ) (he : η e = some (o1, .inl c1)) : e ≠ a := fun c => by
  obtain ⟨F, h1⟩ := h.me
  rw [c, h1] at he
  cases he
/-- the room behind the next growth -/
def nxC (cap : Nat) : Nat := if cap = 0 then 10 else cap + mxL 1 (cap / 2)
theorem cJ_grow2 {G : Gl} {η0 : AH} {t l e cap : Nat} {ad : Nat → Nat} {σ : MS} {f : Nat → Option Nat} (h : GO scJ2 η0 (some t) l ad σ) (h1 : gN σ 1 = e + 1) (hc : cap ≤ 20000) (he : (cap = 0 ∧ e = G.2.2.2 503 ∧ η0 e = some (none, aR 9 0 (fun _ => none))) ∨ (0 < cap ∧ η0 e = some (some t, aR 9 cap f))) (hel : ∀ i, i < cap → ∀ y, f i = some y → ElO η0 y) : Ct G yJ2_grow_2 cJ2_grow_2 4 (some (.array (.object "java/lang/Object"))) 4 1 (nxC cap) [.ref l, .int (nI (cap + 1))] η0 (rr fun q η => (∃ σ2, GO scJ2 η (some t) l ad σ2 ∧ gN σ2 1 = q + 1 ∧ gN σ2 2 = gN σ 2) ∧ (∃ f2, η q = some (some t, aR 9 (nxC cap) f2) ∧ ∀ i, i < cap → f2 i = f i) ∧ Kp t (t + 1) η0 η ∧ ∀ y, ElO η0 y → ElO η y) := by
  refine Ct.start rfl rfl (Nat.le_of_ble_eq_true rfl) (fun Γ => ?_)
  rcases he with ⟨c1, c2, c3⟩ | ⟨c1, c2⟩
  · refine v_aload_n (i := 0) dJ2_grow_2_0 rfl rfl ?_
    refine go_get3 h KJ2 1 (by decide) rfl (e) h1 q190 dJ2_grow_2_1 ?_
    refine v_alen c3 (by decide) dJ2_grow_2_4 ?_
    refine v_istore_n (i := 2) dJ2_grow_2_5 rfl (by decide) rfl ?_
    refine v_iload_n (i := 2) dJ2_grow_2_6 rfl rfl ?_
    refine vn_if_gt (tgt := 20) dJ2_grow_2_7 rfl (by decide) (fun c7 => ?_) (fun c7 => ?_)
    · exact absurd c7 (by omega)
    · refine v_aload_n (i := 0) dJ2_grow_2_10 rfl rfl ?_
      refine go_get3 h KJ2 1 (by decide) rfl (e) h1 q190 dJ2_grow_2_11 ?_
      refine v_gets 3 rfl q188 rfl dJ2_grow_2_14 ?_
      refine v_acmp_eq (rx := some e) (ry := some (G.2.2.2 503)) (tgt := 45) dJ2_grow_2_17 rfl (fun _ => ?_) (fun c => absurd (congrArg some c2) c)
      refine v_aload_n (i := 0) dJ2_grow_2_45 rfl rfl ?_
      refine v_bipush (v := nI 10) dJ2_grow_2_46 k_bipush_10 ?_
      refine v_iload_n (i := 1) dJ2_grow_2_48 rfl rfl ?_
      refine v_mmax q888 (nI_max (by decide) (by omega)) (by decide) (Nat.le_of_ble_eq_true rfl) dJ2_grow_2_49 ?_
      refine v_top (x' := nI 10) (by rw [if_neg (by omega)]) ?_
      refine v_anewT (kc' := 0) (ks' := 0) t 10 q889 (by decide) (by decide) (by rw [c1]; exact Nat.le_refl _) dJ2_grow_2_52 (fun q η hq hη hk => ?_)
      have hXt : Xt η0 η := fun b x hb => by
        rw [hη, up_n (fun e => by rw [e, hq] at hb; cases hb)]; exact hb
      have h := h.xt hXt
      have h_ := h
      have hq1 : η q = some (some t, aR 9 10 (fun _ => none)) := by rw [hη, up_s]
      have hlq := h.nea hq1
      refine v_dup_x1 dJ2_grow_2_55 rfl rfl ?_
      refine go_put3e h KJ2 1 (by decide) rfl q190 rfl rfl rfl dJ2_grow_2_56 (fun η h hk hx => ?_)
      exact v_aret rfl (Or.inr ⟨_, rfl⟩) dJ2_grow_2_59 (by
        have hqe := (hx q hlq).trans hq1
        rw [c1]
        exact ⟨_, rfl, ⟨_, h, rfl, rfl⟩, ⟨_, hqe, fun i hi => absurd hi (Nat.not_lt_zero i)⟩, (Xt.k_ hXt).tr hk, fun y hy => (hy.xt hXt).pe h_ h hx⟩)
  · have hmx : mxL (cap + 1 - cap) (cap / 2 ^ 1) ≤ 20000 := by unfold mxL; split <;> omega
    have hcn : cap + mxL (cap + 1 - cap) (cap / 2 ^ 1) ≤ 100000 := by omega
    have hnx : nxC cap = cap + mxL (cap + 1 - cap) (cap / 2 ^ 1) := by unfold nxC; rw [if_neg (by omega), Nat.add_sub_cancel_left]
    refine v_aload_n (i := 0) dJ2_grow_2_0 rfl rfl ?_
    refine go_get3 h KJ2 1 (by decide) rfl (e) h1 q190 dJ2_grow_2_1 ?_
    refine v_alen c2 (by decide) dJ2_grow_2_4 ?_
    refine v_istore_n (i := 2) dJ2_grow_2_5 rfl (by decide) rfl ?_
    refine v_iload_n (i := 2) dJ2_grow_2_6 rfl rfl ?_
    refine vn_if_gt (tgt := 20) dJ2_grow_2_7 rfl (by omega) (fun c7 => ?_) (fun c7 => ?_)
    · refine v_iload_n (i := 2) dJ2_grow_2_20 rfl rfl ?_
      refine v_iload_n (i := 1) dJ2_grow_2_21 rfl rfl ?_
      refine v_iload_n (i := 2) dJ2_grow_2_22 rfl rfl ?_
      refine vn_isub (by omega) dJ2_grow_2_23 ?_
      refine v_iload_n (i := 2) dJ2_grow_2_24 rfl rfl ?_
      refine v_iconst (v := nI 1) dJ2_grow_2_25 k_iconst_1 ?_
      refine vn_ishr (by omega) (by omega) dJ2_grow_2_26 ?_
      refine v_callS (cJ_newLen (a := cap) (b := cap + 1 - cap) (c := cap / 2 ^ 1) (by omega) (by omega) (by omega) (by omega)) (lw_S q840 q841 q146 q842) iJ16_newLength rfl rfl (by decide) (by decide) (Nat.le_of_ble_eq_true rfl) (Nat.le_refl _) (Nat.le_refl _) dJ2_grow_2_27 (kr_ei ?_) kx_e
      refine v_istore_n (i := 3) dJ2_grow_2_30 rfl (by decide) rfl ?_
      refine v_aload_n (i := 0) dJ2_grow_2_31 rfl rfl ?_
      refine v_aload_n (i := 0) dJ2_grow_2_32 rfl rfl ?_
      refine go_get3 h KJ2 1 (by decide) rfl (e) h1 q190 dJ2_grow_2_33 ?_
      refine v_iload_n (i := 3) dJ2_grow_2_36 rfl rfl ?_
      refine v_callS (kc' := 0) (ks' := 0) (cJ_copyOf (t := t) c2 (n := cap + mxL (cap + 1 - cap) (cap / 2 ^ 1)) (by omega) hcn hel) (lw_S q848 q849 q147 q850) iJ17_copyOf rfl rfl (by decide) (by decide) (Nat.le_of_ble_eq_true rfl) (Nat.le_refl _) (by show 0 + _ ≤ nxC cap; omega) dJ2_grow_2_37 (kr_R (fun q η h_ => ?_)) kx_R
      obtain ⟨hq, ⟨f2, hq1, hf2⟩, hXt⟩ := h_
      have h := h.xt hXt
      have h_ := h
      have hlq := h.nea hq1
      refine v_dup_x1 dJ2_grow_2_40 rfl rfl ?_
      refine go_put3e h KJ2 1 (by decide) rfl q190 rfl rfl rfl dJ2_grow_2_41 (fun η h hk hx => ?_)
      exact v_aret rfl (Or.inr ⟨_, rfl⟩) dJ2_grow_2_44 (by
        have hqe := (hx q hlq).trans hq1
        rw [hnx]
        exact ⟨_, rfl, ⟨_, h, rfl, rfl⟩, ⟨_, hqe, hf2⟩, (Xt.k_ hXt).tr hk, fun y hy => (hy.xt hXt).pe h_ h hx⟩)
    · exact absurd c7 (by omega)
theorem cJ_grow {G : Gl} {η0 : AH} {t l e cap : Nat} {ad : Nat → Nat} {σ : MS} {f : Nat → Option Nat} (h : GO scJ2 η0 (some t) l ad σ) (h1 : gN σ 1 = e + 1) (hc : cap ≤ 20000) (he : (cap = 0 ∧ e = G.2.2.2 503 ∧ η0 e = some (none, aR 9 0 (fun _ => none))) ∨ (0 < cap ∧ η0 e = some (some t, aR 9 cap f))) (hel : ∀ i, i < cap → ∀ y, f i = some y → ElO η0 y) (h2 : gN σ 2 = cap) : Ct G yJ2_grow cJ2_grow 1 (some (.array (.object "java/lang/Object"))) 5 1 (nxC cap) [.ref l] η0 (rr fun q η => (∃ σ2, GO scJ2 η (some t) l ad σ2 ∧ gN σ2 1 = q + 1 ∧ gN σ2 2 = gN σ 2) ∧ (∃ f2, η q = some (some t, aR 9 (nxC cap) f2) ∧ ∀ i, i < cap → f2 i = f i) ∧ Kp t (t + 1) η0 η ∧ ∀ y, ElO η0 y → ElO η y) := by
  refine Ct.start rfl rfl (Nat.le_of_ble_eq_true rfl) (fun Γ => ?_)
  refine v_aload_n (i := 0) dJ2_grow_0 rfl rfl ?_
  refine v_aload_n (i := 0) dJ2_grow_1 rfl rfl ?_
  refine go_get0 h KJ2 2 (by decide) rfl (cap) h2 q191 dJ2_grow_2 ?_
  refine v_iconst (v := nI 1) dJ2_grow_5 k_iconst_1 ?_
  refine vn_iadd dJ2_grow_6 ?_
  refine v_callVe (kc' := 0) (ks' := 0) (cJ_grow2 h h1 hc he hel) (lw_V q836 q838 qs14 q123 q839) iJ2_grow_2 rfl KJ2 h.rcv rfl rfl (by decide) (by decide) (Nat.le_of_ble_eq_true rfl) (by decide) (by omega) dJ2_grow_7 (kr_R (fun x_ η h => ?_)) kx_R
  exact v_aret rfl (Or.inr ⟨_, rfl⟩) dJ2_grow_10 ⟨_, rfl, h⟩
