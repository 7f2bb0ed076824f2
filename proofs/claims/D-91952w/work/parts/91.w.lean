/-! ===== the layer V: arrays of references, casts, statics, texts, class objects, arraycopy ===== -/
set_option maxRecDepth 100000
section VQ
variable {G : Gl} {Γ : Fx} {mt : MethodName} {cc : ByteArray} {nL : Nat} {ret : Option FieldType} {tb : List ExceptionTableEntry} {d : Nat} {P : Rs → AH → Prop} {kc ks : Nat} {η : AH} {pc : Nat} {lv : List (Option Value)} {rest : List Value}
variable {ci N : Nat} {C : String} {T : u_T} {ty : Nat → FieldType} {a : Nat} {o o' : Option Nat} {ow : Nat} {F : Nat → Value} {index : Nat}
/-- goes on behind a call that returns an int, .. -/
theorem kr_I {Q : Int32 → AH → Prop} {kc' ks' : Nat} {pc' : Nat} (kk : ∀ x η', Q x η' → V G Γ mt cc nL ret tb d P kc' ks' η' pc' lv (.int x :: rest)) : ∀ v η', ri Q (.inl v) η' → V G Γ mt cc nL ret tb d P kc' ks' η' pc' lv (v.toList ++ rest) := fun v η' h => by obtain ⟨x, e, h⟩ := h; cases e; exact kk x η' h
theorem kr_L {Q : Int64 → AH → Prop} {kc' ks' : Nat} {pc' : Nat} (kk : ∀ x η', Q x η' → V G Γ mt cc nL ret tb d P kc' ks' η' pc' lv (.long x :: rest)) : ∀ v η', rl Q (.inl v) η' → V G Γ mt cc nL ret tb d P kc' ks' η' pc' lv (v.toList ++ rest) := fun v η' h => by obtain ⟨x, e, h⟩ := h; cases e; exact kk x η' h
theorem kr_R {Q : Nat → AH → Prop} {kc' ks' : Nat} {pc' : Nat} (kk : ∀ x η', Q x η' → V G Γ mt cc nL ret tb d P kc' ks' η' pc' lv (.ref x :: rest)) : ∀ v η', rr Q (.inl v) η' → V G Γ mt cc nL ret tb d P kc' ks' η' pc' lv (v.toList ++ rest) := fun v η' h => by obtain ⟨x, e, h⟩ := h; cases e; exact kk x η' h
theorem kr_W {Q : AH → Prop} {kc' ks' : Nat} {pc' : Nat} (kk : ∀ η', Q η' → V G Γ mt cc nL ret tb d P kc' ks' η' pc' lv rest) : ∀ v η', rv Q (.inl v) η' → V G Γ mt cc nL ret tb d P kc' ks' η' pc' lv (v.toList ++ rest) := fun v η' h => by obtain ⟨e, h⟩ := h; cases e; exact kk η' h
theorem kx_I {Q : Int32 → AH → Prop} {kc' ks' : Nat} : ∀ E q η', ri Q (.inr (E, q)) η' → VX G Γ mt cc nL ret tb d P kc' ks' η' pc lv rest E q := fun E q η' h => by obtain ⟨x, e, h⟩ := h; cases e
theorem kx_L {Q : Int64 → AH → Prop} {kc' ks' : Nat} : ∀ E q η', rl Q (.inr (E, q)) η' → VX G Γ mt cc nL ret tb d P kc' ks' η' pc lv rest E q := fun E q η' h => by obtain ⟨x, e, h⟩ := h; cases e
theorem kx_R {Q : Nat → AH → Prop} {kc' ks' : Nat} : ∀ E q η', rr Q (.inr (E, q)) η' → VX G Γ mt cc nL ret tb d P kc' ks' η' pc lv rest E q := fun E q η' h => by obtain ⟨x, e, h⟩ := h; cases e
theorem kx_W {Q : AH → Prop} {kc' ks' : Nat} : ∀ E q η', rv Q (.inr (E, q)) η' → VX G Γ mt cc nL ret tb d P kc' ks' η' pc lv rest E q := fun E q η' h => by obtain ⟨e, h⟩ := h; cases e
theorem upd_rf {D : Nat} {n i : Nat} {f : Nat → Option Nat} {x : Option Nat} : (arrV D n (avf (.inr (.inr f)))).setSlot i (va_rf x) = arrV D n (avf (.inr (.inr (va_up f i x)))) := by
  rw [arrV_store]
  congr 2
  funext q
  by_cases hq : q = i
  · subst hq
    simp [updV, va_up, avf]
  · simp [updV, va_up, avf, hq]
theorem v_aast {n v : Nat} {f : Nat → Option Nat} {i : Int32} (hη : η a = some (some ow, aR 9 n f)) (hv : η v = some (o', ob ci F)) (K : Cl ci C T N ty) (hca : Cond.castable C "java/lang/Object" ∈ lw_tbl) (hin : vp_in i n) (hdg : decode cc pc = .ok (.aastore, 1))
    (kk : V G Γ mt cc nL ret tb d P kc ks (up η a (some ow, aR 9 n (va_up f i.toNatClampNeg (some v)))) (pc + 1) lv rest) : V G Γ mt cc nL ret tb d P kc ks η pc lv (.ref v :: .int i :: .ref a :: rest) := fun Q H locs ls cells slots a1 a2 a3 a4 a5 => by
  have hA := ((a1 a _ _ hη).1 (by simp)).1
  have hc := ((a1 a _ _ hη).1 (by simp)).2
  have hlt : i.toNatClampNeg < n := Nat.not_le.mp fun q => hin (Or.inr q)
  obtain ⟨cellV, g1, g2, g3⟩ := a1.recv Q.2.2.2.2.2.1.2.1 K hv
  obtain ⟨comp, cA, kA, b1, -, b3, b4, b5⟩ := Cond.arrayOver_spec (Q.2.2.2.2.2.1.1.use q882 rfl (A := #[]))
  have e1 : cA = G.2.1.1 109 := Option.some.inj (b5.symm.trans (Q.2.2.2.2.2.1.2.1.2 9 (by decide)).2)
  subst e1
  obtain ⟨c0, t1, f1, f2, f3⟩ := Cond.castable_spec (Q.2.2.2.2.2.1.1.use hca rfl (A := #[]))
  cases g3.symm.trans f1
  cases b1.symm.trans f2
  obtain ⟨kE, hkE, -⟩ := Vm.findClass_spec b1
  obtain ⟨kC, hkC, -⟩ := Vm.findClass_spec f1
  refine W.aast Q.1 Q.2.1 hc (fun q h => nomatch h) (fun h => nomatch h) b3 b4 rfl hkE ⟨fun q => hin (Or.inl q), by show _ < (arrV _ _ _).slots.size; rw [arrV_size]; exact hlt⟩ g1 (fun q h => by rw [h] at g2; cases g2) hkC f3 rfl rfl hdg fun H1 e z oq => ?_
  refine kk Q H1 _ ls cells slots (a1.set (fun _ => hA) ?_ oq) (a2.put z oq hA) a3 a4 a5
  show H1[a]? = some (arrV _ _ _)
  rw [e]
  exact congrArg some (upd_rf (x := some v))
theorem v_aastN {n : Nat} {f : Nat → Option Nat} {i : Int32} (hη : η a = some (some ow, aR 9 n f)) (hin : vp_in i n) (hdg : decode cc pc = .ok (.aastore, 1))
    (kk : V G Γ mt cc nL ret tb d P kc ks (up η a (some ow, aR 9 n (va_up f i.toNatClampNeg none))) (pc + 1) lv rest) : V G Γ mt cc nL ret tb d P kc ks η pc lv (.null :: .int i :: .ref a :: rest) := fun Q H locs ls cells slots a1 a2 a3 a4 a5 => by
  have hA := ((a1 a _ _ hη).1 (by simp)).1
  have hc := ((a1 a _ _ hη).1 (by simp)).2
  refine va_WaastN (C := "java/lang/Object") Q.1 Q.2.1 hc ((Q.2.2.2.2.2.1.2.1.2 9 (by decide)).1 n (fun j => va_rf (f j))) (fun h => nomatch h) (by show ¬ (i < 0 ∨ (arrV _ _ _).slots.size ≤ _); rw [arrV_size]; exact hin) rfl rfl hdg fun H1 e z oq => ?_
  refine kk Q H1 _ ls cells slots (a1.set (fun _ => hA) ?_ oq) (a2.put z oq hA) a3 a4 a5
  show H1[a]? = some (arrV _ _ _)
  rw [e]
  exact congrArg some (upd_rf (x := none))
/-- an array stored into an array of arrays -/
theorem v_aastA {k k2 n n2 v : Nat} {t : FieldType} {x : (Nat → Int32) ⊕ (Nat → Int64) ⊕ (Nat → Option Nat)} {f : Nat → Option Nat} {i : Int32} (hη : η a = some (some ow, aR k n f)) (hv : η v = some (o', .inl (k2, n2, x))) (hk : k < 10) (hk2 : k2 < 10) (hr : (ak k).isReference = true) (hover : Cond.arrayOver (.array t) ∈ lw_tbl) (ho : okw (.arrayOver (.array t)) = true) (ht : ak k = .array t) (ht2 : "[" ++ (ak k2).toString = (FieldType.array t).toString) (hin : vp_in i n) (hdg : decode cc pc = .ok (.aastore, 1))
    (kk : V G Γ mt cc nL ret tb d P kc ks (up η a (some ow, aR k n (va_up f i.toNatClampNeg (some v)))) (pc + 1) lv rest) : V G Γ mt cc nL ret tb d P kc ks η pc lv (.ref v :: .int i :: .ref a :: rest) := fun Q H locs ls cells slots a1 a2 a3 a4 a5 => by
  have hA := ((a1 a _ _ hη).1 (by simp)).1
  have hc := ((a1 a _ _ hη).1 (by simp)).2
  have hlt : i.toNatClampNeg < n := Nat.not_le.mp fun q => hin (Or.inr q)
  obtain ⟨cellV, g1, g2, g3, -⟩ := (a1 v _ _ hv).2
  obtain ⟨comp, cA, kA, b1, -, b3, b4, b5⟩ := arrayOverA_spec (Q.2.2.2.2.2.1.1.use hover ho (A := #[]))
  have e1 : cA = G.2.1.1 (100 + k) := Option.some.inj (b5.symm.trans (by rw [← ht]; exact (Q.2.2.2.2.2.1.2.1.2 k hk).2))
  subst e1
  have e2 : comp = G.2.1.1 (100 + k2) := Option.some.inj (b1.symm.trans (by rw [← ht2]; exact (Q.2.2.2.2.2.1.2.1.2 k2 hk2).2))
  subst e2
  obtain ⟨kE, hkE, -⟩ := Vm.findClass_spec b1
  refine W.aast Q.1 Q.2.1 hc (fun q h => nomatch h) (fun h => nomatch h) b3 b4 rfl hkE ⟨fun q => hin (Or.inl q), by show _ < (arrV _ _ _).slots.size; rw [arrV_size]; exact hlt⟩ g1 g3 (by rw [g2]; exact hkE) (by rw [g2]; exact va_asg _ _) rfl rfl hdg fun H1 e z oq => ?_
  refine kk Q H1 _ ls cells slots (a1.set (fun _ => hA) ?_ oq) (a2.put z oq hA) a3 a4 a5
  show H1[a]? = some (arrV _ _ _)
  rw [e]
  exact congrArg some (upd_rf (x := some v))
theorem v_anew {n kc' ks' : Nat} (hcl : Cond.classLink mt.cls index "java/lang/Object" ∈ lw_all) (hn : n ≤ 134217728) (h1 : kc' + 1 ≤ kc) (h2 : ks' + n ≤ ks) (hdg : decode cc pc = .ok (.anewarray index, 3))
    (kk : ∀ q : Nat, η q = none → V G Γ mt cc nL ret tb d P kc' ks' (up η q (some q, aR 9 n (fun _ => none))) (pc + 3) lv (.ref q :: rest)) : V G Γ mt cc nL ret tb d P kc ks η pc lv (.int (nI n) :: rest) := fun Q H locs ls cells slots a1 a2 a3 a4 a5 => by
  have hN : (nI n).toNatClampNeg = n := nI_clamp (by omega)
  refine W.anew Q.1 Q.2.1 Q.2.2.2.1 (Q.2.2.2.2.1 _ hcl) (Q.2.2.2.2.2.1.1.use q882 rfl) rfl hdg rfl (nI_pos (by omega)) (by rw [hN]; omega) (by omega) (by rw [hN]; omega) fun cA kA comp f1 f2 f3 f4 => ?_
  have hcA : cA = G.2.1.1 109 := Option.some.inj (f1.symm.trans (Q.2.2.2.2.2.1.2.1.2 9 (by decide)).2)
  subst hcA
  rw [hN]
  generalize hH1 : H.push ({ cls := G.2.1.1 109, slots := Array.replicate n .null, vm := .none } : Cell) = H1
  have z1 : H1.size = H.size + 1 := by rw [← hH1, Array.size_push]
  have e1 : H1[H.size]? = some (arrV (G.2.1.1 109) n (fun _ => .null)) := by rw [← hH1, Array.getElem?_push_size, ← arrV_new]
  have o1 : ∀ q : Nat, q < H.size → H1[q]? = H[q]? := fun q hq => by rw [← hH1, Array.getElem?_push, if_neg (Nat.ne_of_lt hq)]
  have hz : G.2.2.1 ≤ H.size := Nat.le_trans Q.2.2.2.2.2.1.2.2.1 a2.1
  refine kk H.size (a1.fresh (Nat.le_refl _)) Q H1 locs ls _ _ ?_ ⟨Nat.le_trans a2.1 (by omega), fun x h1 h2 => (o1 x (Nat.lt_of_lt_of_le h1 a2.1)).trans (a2.2.1 x h1 h2), a2.2.2⟩ a3 (by omega) (by omega)
  intro b ob' e' hb
  by_cases hq : b = H.size
  · subst hq
    rw [up_s] at hb
    cases hb
    have hca : ca G.2.1 H.size (aR 9 n (fun _ => none)) H1 := e1
    exact ⟨fun _ => ⟨hz, hca⟩, hca.weak⟩
  · rw [up_n hq] at hb
    exact a1.kep hb (o1 b (a1 b _ _ hb).2.lt)
/-- a cast to the object's own class, to another one -/
theorem v_castS (hη : η a = some (o, ob ci F)) (K : Cl ci C T N ty) (hcl : Cond.classLink mt.cls index C ∈ lw_all) (hdg : decode cc pc = .ok (.checkcast index, 3)) (kk : V G Γ mt cc nL ret tb d P kc ks η (pc + 3) lv (.ref a :: rest)) : V G Γ mt cc nL ret tb d P kc ks η pc lv (.ref a :: rest) := fun Q H locs ls cells slots a1 a2 a3 a4 a5 =>
  va_castE Q.1 Q.2.1 Q.2.2.2.1 (Q.2.2.2.2.1 _ hcl) (a1.recv Q.2.2.2.2.2.1.2.1 K hη) hdg (kk Q H locs ls cells slots a1 a2 a3 a4 a5)
theorem v_castY {nm : String} (hη : η a = some (o, ob ci F)) (K : Cl ci C T N ty) (hcl : Cond.classLink mt.cls index nm ∈ lw_all) (hca : Cond.castable C nm ∈ lw_tbl) (hdg : decode cc pc = .ok (.checkcast index, 3)) (kk : V G Γ mt cc nL ret tb d P kc ks η (pc + 3) lv (.ref a :: rest)) : V G Γ mt cc nL ret tb d P kc ks η pc lv (.ref a :: rest) := fun Q H locs ls cells slots a1 a2 a3 a4 a5 =>
  va_castY Q.1 Q.2.1 Q.2.2.2.1 (Q.2.2.2.2.1 _ hcl) (va_Nw.of rfl (Q.2.2.2.2.2.1.1.use hca rfl (A := #[]))) (a1.recv Q.2.2.2.2.2.1.2.1 K hη) hdg (kk Q H locs ls cells slots a1 a2 a3 a4 a5)
/-- statics that hold a known value -/
theorem v_gets {Cn n dd ref : String} {g : Nat → Value} (i : Nat) (hi : cstZ[i]? = some (Cn, n, dd, g)) (hlink : Cond.fieldLink mt.cls index ref n dd ∈ lw_all) (hsame : ref = Cn) (hdg : decode cc pc = .ok (.getstatic index, 3)) (kk : V G Γ mt cc nL ret tb d P kc ks η (pc + 3) lv (g (G.2.2.2 (500 + i)) :: rest)) : V G Γ mt cc nL ret tb d P kc ks η pc lv rest := fun Q H locs ls cells slots a1 a2 a3 a4 a5 =>
  va_gets Q.1 Q.2.1 (Q.2.2.2.2.2.1.2.2.2.2.1 i _ hi) a2 Q.2.2.2.1 (Q.2.2.2.2.1 _ hlink) (fun x hx => by rw [hsame]; exact hx) hdg (kk Q H locs ls cells slots a1 a2 a3 a4 a5)
theorem v_getsN {Cn n dd ref host : String} {g : Nat → Value} (i : Nat) (hi : cstZ[i]? = some (Cn, n, dd, g)) (hlink : Cond.fieldLinkNest mt.cls index ref n dd host ∈ lw_tbl) (hsame : ref = Cn) (hdg : decode cc pc = .ok (.getstatic index, 3)) (kk : V G Γ mt cc nL ret tb d P kc ks η (pc + 3) lv (g (G.2.2.2 (500 + i)) :: rest)) : V G Γ mt cc nL ret tb d P kc ks η pc lv rest := fun Q H locs ls cells slots a1 a2 a3 a4 a5 =>
  va_getsN Q.1 Q.2.1 (Q.2.2.2.2.2.1.2.2.2.2.1 i _ hi) a2 Q.2.2.2.1 (Q.2.2.2.2.2.1.1.use hlink rfl) (fun x hx => by rw [hsame]; exact hx) hdg (kk Q H locs ls cells slots a1 a2 a3 a4 a5)
/-- a text of the list -/
theorem v_ldcT {tx : String} (i : Nat) (hi : cstS[i]? = some (mt.cls, index, tx)) (hdg : decode cc pc = .ok (.ldc index, 2)) (kk : V G Γ mt cc nL ret tb d P kc ks η (pc + 2) lv (.ref (G.2.2.2 i) :: rest)) : V G Γ mt cc nL ret tb d P kc ks η pc lv rest := fun Q H locs ls cells slots a1 a2 a3 a4 a5 =>
  va_ldcS Q.1 Q.2.1 Q.2.2.2.1 (Q.2.2.2.2.2.1.2.2.2.2.2.2.1 i _ hi) hdg (kk Q H locs ls cells slots a1 a2 a3 a4 a5)
/-- the class object of Object[] -/
theorem v_ldcM (hcl : Cond.classLink mt.cls index "[Ljava/lang/Object;" ∈ lw_all) (hdg : decode cc pc = .ok (.ldc index, 2)) (kk : V G Γ mt cc nL ret tb d P kc ks η (pc + 2) lv (.ref (G.2.2.2 504) :: rest)) : V G Γ mt cc nL ret tb d P kc ks η pc lv rest := fun Q H locs ls cells slots a1 a2 a3 a4 a5 =>
  va_ldcM Q.1 Q.2.1 Q.2.2.2.1 (Q.2.2.2.2.1 _ hcl) Q.2.2.2.2.2.1.2.2.2.2.2.2.2.2 hdg (kk Q H locs ls cells slots a1 a2 a3 a4 a5)
theorem v_getC {n : Nat} {f : Nat → Option Nat} (hη : η a = some (o, aR 9 n f)) (hlink : Cond.methodLink mt.cls index ⟨"java/lang/Object", "getClass", "()Ljava/lang/Class;"⟩ ∈ lw_all) (hinst : Cond.instanceMethod ⟨"java/lang/Object", "getClass", "()Ljava/lang/Class;"⟩ ∈ lw_all) (hnat : Cond.native ⟨"java/lang/Object", "getClass", "()Ljava/lang/Class;"⟩ ∈ lw_all) (hW : (rest.map fun v => v.category).sum ≤ 8) (hd : 0 < d) (hdg : decode cc pc = .ok (.invokevirtual index, 3)) (kk : V G Γ mt cc nL ret tb d P kc ks η (pc + 3) lv (.ref (G.2.2.2 504) :: rest)) : V G Γ mt cc nL ret tb d P kc ks η pc lv (.ref a :: rest) := fun Q H locs ls cells slots a1 a2 a3 a4 a5 => by
  obtain ⟨cell, g1, g2, g3, -⟩ := (a1 a _ _ hη).2
  have h1 := Q.2.2.2.2.2.2.2.1
  have h2 := Q.2.2.2.2.2.2.2.2.1
  refine va_getC Q.1 Q.2.1 (Q.2.2.1.trans a3.1.symm) Q.2.2.2.1 (Q.2.2.2.2.1 _ hlink) (Q.2.2.2.2.2.1.1.use q2612 rfl) (Q.2.2.2.2.1 _ q2611) (Q.2.2.2.2.1 _ hinst) (Q.2.2.2.2.1 _ hnat) Q.2.2.2.2.2.1.2.2.2.2.2.2.2.2 ⟨cell, g1, ?_, ?_⟩ (by omega) (by omega) hdg (kk Q H locs ls cells slots a1 a2 a3 a4 a5)
  · cases hv : cell.vm with
    | statics k => exact absurd hv (g3 k)
    | _ => rfl
  · rw [g2]
    exact (Q.2.2.2.2.2.1.2.1.2 9 (by decide)).2
/-- a place of the cache of small Integers -/
theorem v_ldIc {j : Nat} (hj : j < 256) (hdg : decode cc pc = .ok (.aaload, 1)) (kk : V G Γ mt cc nL ret tb d P kc ks η (pc + 1) lv (.ref (G.2.2.2 (600 + j)) :: rest)) : V G Γ mt cc nL ret tb d P kc ks η pc lv (.int (nI j) :: .ref (G.2.2.2 502) :: rest) := fun Q H locs ls cells slots a1 a2 a3 a4 a5 =>
  vb_tq Q.1 Q.2.1 Q.2.2.2.2.2.1.2.2.2.2.2.2.2.1 a2 (vp_in_nI hj (by decide)) (by rw [nI_clamp (by omega)]) hdg (kk Q H locs ls cells slots a1 a2 a3 a4 a5)
end VQ
