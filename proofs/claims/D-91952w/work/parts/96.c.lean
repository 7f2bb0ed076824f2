set_option maxRecDepth 100000
section VNT
variable {G : Gl} {Γ : Fx} {mt : MethodName} {cc : ByteArray} {nL : Nat} {ret : Option FieldType} {tb : List ExceptionTableEntry} {d : Nat} {P : Rs → AH → Prop} {kc ks : Nat} {η : AH} {pc : Nat} {lv : List (Option Value)} {rest : List Value} {index : Nat}
theorem up_up {η : AH} {q : Nat} {x y : Option Nat × CE} : up (up η q x) q y = up η q y := by
  funext p
  unfold up
  by_cases c : p = q
  · rw [if_pos c, if_pos c]
  · rw [if_neg c, if_neg c, if_neg c]
/-- a new array, a new object of the tag t -/
theorem v_newaT (t k n : Nat) {x : Int32} {kc' ks' : Nat} {atype : ArrayType} (hx : x = nI n) (hk : k < 10) (hty : newarray.typeOf atype = ak k) (harr : Cond.arrayClass (ak k) ∈ lw_all) (hb : n * componentBytes (ak k) ≤ 536870912) (hn : n < 2147483648) (h1 : kc' + 1 ≤ kc) (h2 : ks' + n ≤ ks) (hdg : decode cc pc = .ok (.newarray atype, 2))
    (kk : ∀ q : Nat, η q = none → V G Γ mt cc nL ret tb d P kc' ks' (up η q (some t, .inl (k, n, a0 k))) (pc + 2) lv (.ref q :: rest)) : V G Γ mt cc nL ret tb d P kc ks η pc lv (.int x :: rest) :=
  v_newa k n hx hk hty harr hb hn h1 h2 hdg (fun q hq => v_own (q := q) (o1 := q) (o2 := t) (c := .inl (k, n, a0 k)) up_s (by rw [up_up]; exact kk q hq))
theorem v_newT (t : Nat) {ci N : Nat} {C : String} {T : u_T} {ty : Nat → FieldType} (K : Cl ci C T N ty) {n kc' ks' : Nat} (hcl : Cond.classLink mt.cls index C ∈ lw_all) (hinst : Cond.instantiable C n ∈ lw_all) (hini : Cond.initialized C ∈ lw_all) (h1 : kc' + 1 ≤ kc) (h2 : ks' + n ≤ ks) (hdg : decode cc pc = .ok (.new index, 3))
    (kk : ∀ q : Nat, η q = none → V G Γ mt cc nL ret tb d P kc' ks' (up η q (some t, ob ci (fun k => defaultValue (ty k)))) (pc + 3) lv (.ref q :: rest)) : V G Γ mt cc nL ret tb d P kc ks η pc lv rest :=
  v_new K hcl hinst hini h1 h2 hdg (fun q hq => v_own (q := q) (o1 := q) (o2 := t) (c := ob ci (fun k => defaultValue (ty k))) up_s (by rw [up_up]; exact kk q hq))
/-- what a new object's fields hold -/
def zS (kd : Nat → Nat) : MS := (fun k => if kd k = 1 then 1 else 0, fun _ => 0, 0, fun k _ => if kd k = 11 then 1 else 0, fun _ _ => 0, fun _ => 0)
theorem GO.born {ci N : Nat} {kd ln : Nat → Nat} {ty : Nat → FieldType} {η : AH} {t q : Nat} {ad : Nat → Nat} {σ : MS} (h : ∀ k, k < N → kd k < 10 ∧ defaultValue (ty k) = gvl (ci, N, kd, ln) ad σ k) : GO (ci, N, kd, ln) (up η q (some t, ob ci (fun k => defaultValue (ty k)))) (some t) q ad σ :=
  ⟨_, up_s, fun k hk => (h k hk).2, fun k hk q => absurd (h k hk).1 (Nat.not_lt.mpr q), fun j k hj _ q _ _ => absurd (h j hj).1 (Nat.not_lt.mpr q)⟩
theorem GO.sc {ci N : Nat} {kd kd2 ln : Nat → Nat} {η : AH} {o : Option Nat} {a : Nat} {ad : Nat → Nat} {σ : MS} (h : GO (ci, N, kd, ln) η o a ad σ) (e : ∀ k, k < N → kd2 k = kd k) : GO (ci, N, kd2, ln) η o a ad σ := by
  obtain ⟨F, h1, h2, h3, h4⟩ := h
  have ev : ∀ k, k < N → gvl (ci, N, kd2, ln) ad σ k = gvl (ci, N, kd, ln) ad σ k := fun k hk => by
    unfold gvl
    dsimp only
    rw [e k hk]
  have ec : ∀ k, k < N → gcl (ci, N, kd2, ln) σ k = gcl (ci, N, kd, ln) σ k := fun k hk => by
    unfold gcl
    dsimp only
    rw [e k hk]
  refine ⟨F, h1, fun k hk => (h2 k hk).trans (ev k hk).symm, fun k hk q => ?_, fun j k hj hk q1 q2 => ?_⟩
  · rw [ec k hk]
    exact h3 k hk (by show 10 ≤ kd k; rw [← e k hk]; exact q)
  · exact h4 j k hj hk (by show 10 ≤ kd j; rw [← e j hj]; exact q1) (by show 10 ≤ kd k; rw [← e k hk]; exact q2)
/-- a field of arrays that is null gets a new array -/
theorem GO.addA {ci N : Nat} {kd ln : Nat → Nat} {η : AH} {t a q k kn : Nat} {ad : Nat → Nat} {σ : MS} {e : CE} {F : Nat → Value} (h1 : η a = some (some t, ob ci F)) (h2 : ∀ k, k < N → F k = gvl (ci, N, kd, ln) ad σ k) (h3 : ∀ k, k < N → 10 ≤ kd k → η (ad k) = some (some t, gcl (ci, N, kd, ln) σ k)) (h4 : ∀ j k, j < N → k < N → 10 ≤ kd j → 10 ≤ kd k → ad j = ad k → j = k) (hk : k < N) (hkd : kd k = 3) (hkn : 10 ≤ kn) (hq : η q = none)
    (he : gcl (ci, N, fun j => if j = k then kn else kd j, ln) σ k = e) : GO (ci, N, fun j => if j = k then kn else kd j, ln) (up (up η q (some t, e)) a (some t, ob ci (updV F k (.ref q)))) (some t) a (va_up ad k q) σ := by
  have hqa : a ≠ q := fun c => by rw [c, hq] at h1; cases h1
  have had : ∀ j, j < N → 10 ≤ kd j → ad j ≠ q := fun j hj hd c => by have := h3 j hj hd; rw [c, hq] at this; cases this
  have hne : ∀ j, j < N → 10 ≤ kd j → ad j ≠ a := fun j hj hd c => by
    have := h3 j hj hd
    rw [c, h1] at this
    exact gcl_ne (congrArg Prod.snd (Option.some.inj this)).symm
  have hjk : ∀ j, 10 ≤ kd j → j ≠ k := fun j hd c => by rw [c, hkd] at hd; exact absurd hd (by decide)
  refine ⟨_, up_s, fun j hj => ?_, fun j hj hd => ?_, fun i j hi hj c1 c2 c3 => ?_⟩
  · unfold updV
    by_cases c : j = k
    · rw [if_pos c]
      unfold gvl
      dsimp only
      rw [if_pos c, c]
      have e1 : ∀ z, 10 ≤ z → (match z with
        | 0 => Value.int (nI (gN σ k))
        | 1 => .int (oI (gN σ k))
        | 2 => .int (gI σ k)
        | 3 => rfN (gN σ k)
        | _ => .ref (va_up ad k q k)) = .ref (va_up ad k q k) := fun z hz => by
          split <;> first | rfl | (exact absurd hz (by decide))
      exact ((e1 kn hkn).trans (by rw [show va_up ad k q k = q from if_pos rfl])).symm
    · rw [if_neg c, h2 j hj]
      unfold gvl
      dsimp only
      rw [if_neg c, show va_up ad k q j = ad j from if_neg c]
  · dsimp only at hd
    by_cases c : j = k
    · subst c
      rw [show va_up ad j q j = q from if_pos rfl, up_n (fun w => hqa w.symm), up_s, he]
    · rw [if_neg c] at hd
      rw [show va_up ad k q j = ad j from if_neg c, up_n (hne j hj hd), up_n (had j hj hd), h3 j hj hd]
      unfold gcl
      dsimp only
      rw [if_neg c]
  · dsimp only at c1 c2
    by_cases d1 : i = k
    · by_cases d2 : j = k
      · rw [d1, d2]
      · rw [if_neg d2] at c2
        rw [show va_up ad k q i = q from if_pos d1, show va_up ad k q j = ad j from if_neg d2] at c3
        exact absurd c3.symm (had j hj c2)
    · rw [if_neg d1] at c1
      by_cases d2 : j = k
      · rw [show va_up ad k q i = ad i from if_neg d1, show va_up ad k q j = q from if_pos d2] at c3
        exact absurd c3 (had i hi c1)
      · rw [if_neg d2] at c2
        rw [show va_up ad k q i = ad i from if_neg d1, show va_up ad k q j = ad j from if_neg d2] at c3
        exact h4 i j hi hj c1 c2 c3
theorem go_newarr {ci N t a : Nat} {kd ln : Nat → Nat} {ad : Nat → Nat} {σ : MS} {C : String} {T : u_T} {ty : Nat → FieldType} {atype : ArrayType} (h : GO (ci, N, kd, ln) η (some t) a ad σ) (K : Cl ci C T N ty) (k : Nat) (hk : k < N) (hkd : kd k = 3) (kn kk n : Nat) (he : gcl (ci, N, fun j => if j = k then kn else kd j, ln) σ k = .inl (kk, n, a0 kk)) (hkn : 10 ≤ kn ∧ kk < 10) (hty : newarray.typeOf atype = ak kk) (harr : Cond.arrayClass (ak kk) ∈ lw_all) (hb : n * componentBytes (ak kk) ≤ 536870912) (hn : n < 2147483648) (h1 : 1 ≤ kc) (h2 : n ≤ ks) (hlink : Cond.fieldLink mt.cls index (T k).1 (T k).2.1 (T k).2.2.1 ∈ lw_all) (hfin : (T k).2.2.2 = false) (hnf : ∀ q : Nat, narrow (ty k) (.ref q) = .ref q ∧ fits (ty k) (.ref q) = true) (hdg : decode cc pc = .ok (.newarray atype, 2)) (hdg2 : decode cc (pc + 2) = .ok (.putfield index, 3))
    (kn2 : ∀ η' ad', GO (ci, N, fun j => if j = k then kn else kd j, ln) η' (some t) a ad' σ → Kp t (t + 1) η η' → V G Γ mt cc nL ret tb d P (kc - 1) (ks - n) η' (pc + 2 + 3) lv rest) : V G Γ mt cc nL ret tb d P kc ks η pc lv (.int (nI n) :: .ref a :: rest) := by
  obtain ⟨F, g1, g2, g3, g4⟩ := h
  refine v_newaT t kk n rfl hkn.2 hty harr hb hn (kc' := kc - 1) (ks' := ks - n) (by omega) (by omega) hdg (fun q hq => ?_)
  have hqa : a ≠ q := fun c => by rw [c, hq] at g1; cases g1
  have g1' : up η q (some t, .inl (kk, n, a0 kk)) a = some (some t, ob ci F) := by rw [up_n hqa]; exact g1
  refine v_put g1' K k hk hlink hfin (hnf q).1 (hnf q).2 hdg2 (kn2 _ _ (GO.addA g1 g2 g3 g4 hk hkd hkn.1 hq he) ?_)
  exact (Kp.nw hq).tr (Kp.pt g1' ⟨Nat.le_refl _, Nat.lt_succ_self _⟩)
theorem go_newarrF {ci N t a : Nat} {kd ln : Nat → Nat} {ad : Nat → Nat} {σ : MS} {C : String} {T : u_T} {ty : Nat → FieldType} {atype : ArrayType} (h : GO (ci, N, kd, ln) η (some t) a ad σ) (K : Cl ci C T N ty) (k : Nat) (hk : k < N) (hkd : kd k = 3) (kn kk n : Nat) (he : gcl (ci, N, fun j => if j = k then kn else kd j, ln) σ k = .inl (kk, n, a0 kk)) (hkn : 10 ≤ kn ∧ kk < 10) (hty : newarray.typeOf atype = ak kk) (harr : Cond.arrayClass (ak kk) ∈ lw_all) (hb : n * componentBytes (ak kk) ≤ 536870912) (hn : n < 2147483648) (h1 : 1 ≤ kc) (h2 : n ≤ ks) (hlink : Cond.fieldLink mt.cls index (T k).1 (T k).2.1 (T k).2.2.1 ∈ lw_all) (hfin : (T k).2.2.2 = true) (hin : mt.name = "<init>") (hd : (T k).1 = mt.cls) (hnf : ∀ q : Nat, narrow (ty k) (.ref q) = .ref q ∧ fits (ty k) (.ref q) = true) (hdg : decode cc pc = .ok (.newarray atype, 2)) (hdg2 : decode cc (pc + 2) = .ok (.putfield index, 3))
    (kn2 : ∀ η' ad', GO (ci, N, fun j => if j = k then kn else kd j, ln) η' (some t) a ad' σ → Kp t (t + 1) η η' → V G Γ mt cc nL ret tb d P (kc - 1) (ks - n) η' (pc + 2 + 3) lv rest) : V G Γ mt cc nL ret tb d P kc ks η pc lv (.int (nI n) :: .ref a :: rest) := by
  obtain ⟨F, g1, g2, g3, g4⟩ := h
  refine v_newaT t kk n rfl hkn.2 hty harr hb hn (kc' := kc - 1) (ks' := ks - n) (by omega) (by omega) hdg (fun q hq => ?_)
  have hqa : a ≠ q := fun c => by rw [c, hq] at g1; cases g1
  have g1' : up η q (some t, .inl (kk, n, a0 kk)) a = some (some t, ob ci F) := by rw [up_n hqa]; exact g1
  refine v_putF g1' K k hk hlink hfin hin hd (hnf q).1 (hnf q).2 hdg2 (kn2 _ _ (GO.addA g1 g2 g3 g4 hk hkd hkn.1 hq he) ?_)
  exact (Kp.nw hq).tr (Kp.pt g1' ⟨Nat.le_refl _, Nat.lt_succ_self _⟩)
theorem v_objI {a : Nat} (hlink : Cond.methodLink mt.cls index ⟨"java/lang/Object", "<init>", "()V"⟩ ∈ lw_all) (hd : 0 < d) (hW : (rest.map fun v => v.category).sum ≤ 8) (hdg : decode cc pc = .ok (.invokespecial index, 3)) (kk : V G Γ mt cc nL ret tb d P kc ks η (pc + 3) lv rest) : V G Γ mt cc nL ret tb d P kc ks η pc lv (.ref a :: rest) := fun Q H locs ls cells slots a1 a2 a3 a4 a5 => by
  have h1 := Q.2.2.2.2.2.2.2.1
  have h2 := Q.2.2.2.2.2.2.2.2.1
  exact W.objInit Q.1 Q.2.1 Q.2.2.2.1 (Q.2.2.2.2.1 _ hlink) (Q.2.2.2.2.1 _ q166) (Q.2.2.2.2.1 _ q167) rfl (a3.1.trans Q.2.2.1.symm) rfl hdg (by omega) (by show 2 * 0 + _ + 12 ≤ _; omega) (kk Q H locs ls cells slots a1 a2 a3 a4 a5)
end VNT
def kzX7 : Nat → Nat := fun k => match k with
  | 0 => 3
  | 1 => 3
  | 2 => 3
  | 3 => 1
  | _ => 0
theorem bornX7 {η : AH} {t q : Nat} {ad : Nat → Nat} : GO (8, 4, kzX7, lnX7) (up η q (some t, ob 8 (fun k => defaultValue (tyX7 k)))) (some t) q ad (zS kdX7) := GO.born (fun k hk => match k, hk with
  | 0, _ => ⟨by decide, rfl⟩
  | 1, _ => ⟨by decide, rfl⟩
  | 2, _ => ⟨by decide, rfl⟩
  | 3, _ => ⟨by decide, rfl⟩
  | k + 4, h => absurd h (by omega))
def kzX17 : Nat → Nat := fun k => match k with
  | 0 => 3
  | 1 => 1
  | 2 => 1
  | 3 => 0
  | 4 => 0
  | 5 => 0
  | 6 => 0
  | 7 => 3
  | 8 => 0
  | _ => 0
theorem bornX17 {η : AH} {t q : Nat} {ad : Nat → Nat} : GO (21, 9, kzX17, lnX17) (up η q (some t, ob 21 (fun k => defaultValue (tyX17 k)))) (some t) q ad (zS kdX17) := GO.born (fun k hk => match k, hk with
  | 0, _ => ⟨by decide, rfl⟩
  | 1, _ => ⟨by decide, rfl⟩
  | 2, _ => ⟨by decide, rfl⟩
  | 3, _ => ⟨by decide, rfl⟩
  | 4, _ => ⟨by decide, rfl⟩
  | 5, _ => ⟨by decide, rfl⟩
  | 6, _ => ⟨by decide, rfl⟩
  | 7, _ => ⟨by decide, rfl⟩
  | 8, _ => ⟨by decide, rfl⟩
  | k + 9, h => absurd h (by omega))
def kzX3 : Nat → Nat := fun k => match k with
  | 0 => 3
  | 1 => 3
  | 2 => 3
  | 3 => 3
  | 4 => 3
  | 5 => 3
  | 6 => 3
  | 7 => 3
  | 8 => 3
  | 9 => 0
  | 10 => 0
  | 11 => 0
  | 12 => 3
  | 13 => 3
  | 14 => 0
  | 15 => 0
  | 16 => 3
  | 17 => 3
  | 18 => 3
  | 19 => 3
  | _ => 0
theorem bornX3 {η : AH} {t q : Nat} {ad : Nat → Nat} : GO (3, 20, kzX3, lnX3) (up η q (some t, ob 3 (fun k => defaultValue (tyX3 k)))) (some t) q ad (zS kdX3) := GO.born (fun k hk => match k, hk with
  | 0, _ => ⟨by decide, rfl⟩
  | 1, _ => ⟨by decide, rfl⟩
  | 2, _ => ⟨by decide, rfl⟩
  | 3, _ => ⟨by decide, rfl⟩
  | 4, _ => ⟨by decide, rfl⟩
  | 5, _ => ⟨by decide, rfl⟩
  | 6, _ => ⟨by decide, rfl⟩
  | 7, _ => ⟨by decide, rfl⟩
  | 8, _ => ⟨by decide, rfl⟩
  | 9, _ => ⟨by decide, rfl⟩
  | 10, _ => ⟨by decide, rfl⟩
  | 11, _ => ⟨by decide, rfl⟩
  | 12, _ => ⟨by decide, rfl⟩
  | 13, _ => ⟨by decide, rfl⟩
  | 14, _ => ⟨by decide, rfl⟩
  | 15, _ => ⟨by decide, rfl⟩
  | 16, _ => ⟨by decide, rfl⟩
  | 17, _ => ⟨by decide, rfl⟩
  | 18, _ => ⟨by decide, rfl⟩
  | 19, _ => ⟨by decide, rfl⟩
  | k + 20, h => absurd h (by omega))
def kzX18 : Nat → Nat := fun k => match k with
  | 0 => 3
  | 1 => 3
  | 2 => 3
  | 3 => 3
  | 4 => 3
  | 5 => 3
  | 6 => 0
  | 7 => 0
  | 8 => 3
  | _ => 0
theorem bornX18 {η : AH} {t q : Nat} {ad : Nat → Nat} : GO (22, 9, kzX18, lnX18) (up η q (some t, ob 22 (fun k => defaultValue (tyX18 k)))) (some t) q ad (zS kdX18) := GO.born (fun k hk => match k, hk with
  | 0, _ => ⟨by decide, rfl⟩
  | 1, _ => ⟨by decide, rfl⟩
  | 2, _ => ⟨by decide, rfl⟩
  | 3, _ => ⟨by decide, rfl⟩
  | 4, _ => ⟨by decide, rfl⟩
  | 5, _ => ⟨by decide, rfl⟩
  | 6, _ => ⟨by decide, rfl⟩
  | 7, _ => ⟨by decide, rfl⟩
  | 8, _ => ⟨by decide, rfl⟩
  | k + 9, h => absurd h (by omega))
theorem cP_init {G : Gl} {η0 : AH} {t p w : Nat} {ad : Nat → Nat} (hPo : GO (8, 4, kzX7, lnX7) η0 (some t) p ad (zS kdX7)) : Ct G yX7_init cX7_init 2 none 1 (2) (6) [.ref p, .ref w] η0 (rv fun η => P0 η t p w ∧ Kp t (t + 1) η0 η) := by
  refine Ct.start rfl rfl (Nat.le_of_ble_eq_true rfl) (fun Γ => ?_)
  have h0 : Kp t (t + 1) η0 η0 := Kp.rf
  refine v_aload_n (i := 0) dX7_init_0 rfl rfl ?_
  refine v_objI q507 (by decide) (Nat.le_of_ble_eq_true rfl) dX7_init_1 ?_
  refine v_aload_n (i := 0) dX7_init_4 rfl rfl ?_
  refine v_iconst (v := nI 2) dX7_init_5 k_iconst_2 ?_
  refine go_newarrF hPo KX7 1 (by decide) rfl 10 0 2 rfl (by decide) rfl q202 (by decide) (by decide) (by omega) (by omega) q509 rfl rfl rfl (fun _ => ⟨rfl, rfl⟩) dX7_init_6 dX7_init_8 (fun η ad hPo hk => ?_)
  have h0 := h0.th hk (by omega) (by omega)
  refine v_aload_n (i := 0) dX7_init_11 rfl rfl ?_
  refine v_iconst (v := nI 4) dX7_init_12 k_iconst_4 ?_
  refine go_newarrF hPo KX7 2 (by decide) rfl 10 0 4 rfl (by decide) rfl q202 (by decide) (by decide) (by omega) (by omega) q514 rfl rfl rfl (fun _ => ⟨rfl, rfl⟩) dX7_init_13 dX7_init_15 (fun η ad hPo hk => ?_)
  have h0 := h0.th hk (by omega) (by omega)
  refine v_aload_n (i := 0) dX7_init_18 rfl rfl ?_
  refine v_aload_n (i := 1) dX7_init_19 rfl rfl ?_
  refine go_put3F hPo KX7 0 (by decide) rfl q508 rfl rfl rfl rfl rfl dX7_init_20 (fun η hPo hk => ?_)
  have h0 := h0.th hk (by omega) (by omega)
  exact v_vret rfl dX7_init_23 ⟨rfl, ⟨_, _, hPo.sc (by decide), rfl⟩, h0⟩
theorem cP_move {G : Gl} {η0 : AH} {w : Nat} {τ : Td} (hW : Wd G η0 w τ) {t p x : Nat} (hP : Pl η0 t p w τ x) {b to s : Nat} (hb : b < tN τ 31) (hto : to < 4) (hs : ndf s (setN x (bo x b) (tN τ 30)) = 0) : Ct G yX7_move cX7_move 4 none 0 (0) (0) [.ref p, .int (nI b), .int (nI to), .int (nI s)] η0 (rv fun η => Pl η t p w τ (bhT τ x b to s) ∧ Kp t (t + 1) η0 η) := by
  refine Ct.start rfl rfl (Nat.le_of_ble_eq_true rfl) (fun Γ => ?_)
  obtain ⟨ad, L, hTB, hWo, hWw, hWb, ⟨xl, cl, hWl, hWln⟩, hWr⟩ := hW
  obtain ⟨⟨wb1, wb2, wb3, wb4, wb5, wb6, wb7⟩, wb8, wb9, wb10, wb11, wb12⟩ := id hTB
  obtain ⟨adp, π, hPo, p0, p3, p1, p2⟩ := hP
  have hbl := bo_lt x b
  have h0 : Kp t (t + 1) η0 η0 := Kp.rf
  refine v_aload_n (i := 0) dX7_move_0 rfl rfl ?_
  refine go_getA hPo KX7 2 (by decide) (by decide) q514 dX7_move_1 ?_
  refine v_aload_n (i := 0) dX7_move_4 rfl rfl ?_
  refine go_getA hPo KX7 1 (by decide) (by decide) q509 dX7_move_5 ?_
  refine v_iload_n (i := 1) dX7_move_8 rfl rfl ?_
  refine go_ld10 hPo 1 (by decide) rfl (show _ < 2 from (by omega)) (by decide) _ (p1 _ (by omega)) dX7_move_9 ?_
  refine v_dup2_11 dX7_move_10 rfl rfl ?_
  refine go_ld10 hPo 2 (by decide) rfl (show _ < 4 from (by omega)) (by decide) _ rfl dX7_move_11 ?_
  refine v_iload_n (i := 3) dX7_move_12 rfl rfl ?_
  refine v_iconst (v := -1) dX7_move_13 k_iconst_m1 ?_
  refine v_ixor dX7_move_14 ?_
  refine vn_andc dX7_move_15 ?_
  refine go_st10 hPo 2 (by decide) rfl (show _ < 4 from (by omega)) (by decide) dX7_move_16 (fun η hPo hk => ?_)
  have hWo := hWo.kpN hk
  have h0 := h0.th hk (by omega) (by omega)
  refine v_aload_n (i := 0) dX7_move_17 rfl rfl ?_
  refine go_getA hPo KX7 2 (by decide) (by decide) q514 dX7_move_18 ?_
  refine v_iload_n (i := 2) dX7_move_21 rfl rfl ?_
  refine v_dup2_11 dX7_move_22 rfl rfl ?_
  refine go_ld10 hPo 2 (by decide) rfl (show _ < 4 from (by omega)) (by decide) _ rfl dX7_move_23 ?_
  refine v_iload_n (i := 3) dX7_move_24 rfl rfl ?_
  refine vn_ior dX7_move_25 ?_
  refine go_st10 hPo 2 (by decide) rfl (show _ < 4 from (by omega)) (by decide) dX7_move_26 (fun η hPo hk => ?_)
  have hWo := hWo.kpN hk
  have h0 := h0.th hk (by omega) (by omega)
  refine v_aload_n (i := 0) dX7_move_27 rfl rfl ?_
  refine go_getA hPo KX7 1 (by decide) (by decide) q509 dX7_move_28 ?_
  refine v_iload_n (i := 1) dX7_move_31 rfl rfl ?_
  refine v_iload_n (i := 2) dX7_move_32 rfl rfl ?_
  refine go_st10 hPo 1 (by decide) rfl (show _ < 2 from (by omega)) (by decide) dX7_move_33 (fun η hPo hk => ?_)
  have hWo := hWo.kpN hk
  have h0 := h0.th hk (by omega) (by omega)
  refine v_aload_n (i := 0) dX7_move_34 rfl rfl ?_
  refine go_get3 hPo KX7 0 (by decide) rfl (w) p0 q508 dX7_move_35 ?_
  refine go_get1N hWo KX2 2 (by decide) rfl (tN τ 33) rfl q219 dX7_move_38 ?_
  refine v_iconst (v := -1) dX7_move_41 k_iconst_m1 ?_
  refine vo_icmp_eq (tgt := 50) dX7_move_42 rfl (by omega) (fun c42 => ?_) (fun c42 => ?_)
  · exact v_vret rfl dX7_move_50 (by
      refine ⟨rfl, ⟨_, _, hPo, p0, p3.trans (by show lcT τ x = _; unfold lcT; rw [if_pos c42, if_pos c42]), fun c hc => ?_, fun sh hsh => mv_setT hTB p2 (by omega) hto hs hsh⟩, h0⟩
      show va_up (gA π 1) b to c = bo (bh _ _ _ _ _ _) c
      rw [bo_bh hto (by omega) (by omega) wb3]
      by_cases k : c = b
      · rw [if_pos k, k, va_up_e]
      · rw [if_neg k, va_up_n k, p1 c hc])
  · refine v_aload_n (i := 0) dX7_move_45 rfl rfl ?_
    refine v_iload_n (i := 2) dX7_move_46 rfl rfl ?_
    refine go_put1n hPo KX7 3 (by decide) rfl q519 rfl rfl rfl dX7_move_47 (fun η hPo hk => ?_)
    have hWo := hWo.kpN hk
    have h0 := h0.th hk (by omega) (by omega)
    exact v_vret rfl dX7_move_50 (by
      refine ⟨rfl, ⟨_, _, hPo, p0, (by show to + 1 = _; unfold lcT; rw [if_neg c42]; show _ = la (bh _ _ _ _ _ _) + 1; rw [la_bh hto (by omega) wb3, if_neg c42]), fun c hc => ?_, fun sh hsh => mv_setT hTB p2 (by omega) hto hs hsh⟩, h0⟩
      show va_up (gA π 1) b to c = bo (bh _ _ _ _ _ _) c
      rw [bo_bh hto (by omega) (by omega) wb3]
      by_cases k : c = b
      · rw [if_pos k, k, va_up_e]
      · rw [if_neg k, va_up_n k, p1 c hc])
