/-! ===== the layer V: a private method of a class above ===== -/
set_option maxRecDepth 100000
theorem sel_priv {C : String} {y : MethodName} {s : State} {args a2 a3 a4 : Array Value} {c : ClassId} (hc : s.vm.findClass C = some c) (hsame : (Cond.sameMethod y.cls y.cls y.name y.desc).before a2 s = true) (hpriv : (Cond.privateMethod y).before a3 s = true) (hinst : (Cond.instanceMethod y).before a4 s = true) : (Cond.selects C y y).before args s = true := by
  obtain ⟨cn, ck, r1, hcn, hck, hni, hf, hn1⟩ := Cond.sameMethod_found hsame
  obtain ⟨mk, methM, hnamed, hmethM, -, -⟩ := Cond.instanceMethod_spec hinst
  have hn2 : s.methodNamed? y = some r1 := hn1
  cases hnamed.symm.trans hn2
  have hcls : r1.cls = cn := Option.some.inj ((findClass_of_methodNamed hnamed).symm.trans hcn)
  have hsel : selectMethod {} s.vm c r1 = .method r1 := selectMethod_private hmethM (Cond.privateMethod_at hpriv r1 methM hnamed hmethM)
  simp only [Cond.before, Cond.holds, Cond.value, hc, hf, hnamed, hsel, hcls, hck]
  simp; exact hni
section VPP
variable {G : Gl} {Γ : Fx} {mt : MethodName} {cc : ByteArray} {nL : Nat} {ret : Option FieldType} {tb : List ExceptionTableEntry} {d : Nat} {P : Rs → AH → Prop} {kc ks : Nat} {η : AH} {pc : Nat} {lv : List (Option Value)} {rest : List Value}
variable {ci N : Nat} {C : String} {T : u_T} {ty : Nat → FieldType} {a : Nat} {index : Nat}
variable {y : MethodName} {cy : ByteArray} {nY dy mc ms n kc' ks' : Nat} {rY : Option FieldType} {As st0 : List Value} {P' : Rs → AH → Prop}
theorem v_callP (hM : Ct G y cy nY rY dy mc ms (.ref a :: As) η P') (hG : GoodIn lw_all (ws_ y cy nY rY)) (hlink : Cond.methodLink mt.cls index y ∈ lw_all) (hsame : Cond.sameMethod y.cls y.cls y.name y.desc ∈ lw_all) (hpriv : Cond.privateMethod y ∈ lw_tbl) (hinst : Cond.instanceMethod y ∈ lw_all) (hini : Cond.initialized y.cls ∈ lw_all) (hI : y.cls ≠ "java/lang/invoke/MethodHandle" ∧ y.cls ≠ "java/lang/invoke/VarHandle" ∧ (parseMethodDescriptor y.desc).map (fun d => d.parameters.length) = some n) (K : Cl ci C T N ty) (hr : ∃ z : Option Nat × (Nat → Value), η a = some (z.1, ob ci z.2)) (hst : st0 = As.reverse ++ .ref a :: rest) (hl : As.length = n) (hdy : dy < d) (hm : nY ≤ 41) (hW : (rest.map fun v => v.category).sum ≤ 8) (hb1 : kc' + mc ≤ kc) (hb2 : ks' + ms ≤ ks) (hdg : decode cc pc = .ok (.invokevirtual index, 3)) (kr : ∀ v η', P' (.inl v) η' → V G Γ mt cc nL ret tb d P kc' ks' η' (pc + 3) lv (v.toList ++ rest)) (kx : ∀ E q η', P' (.inr (E, q)) η' → VX G Γ mt cc nL ret tb d P kc' ks' η' pc lv rest E q) : V G Γ mt cc nL ret tb d P kc ks η pc lv st0 := by
  obtain ⟨z, hη⟩ := hr
  refine v_run (fun Q H locs ls cells slots a1 a2 a3 a4 a5 => ?_) hb1 hb2 kr kx
  have hc : Cond.code y cy nY rY ∈ ws_ y cy nY rY := List.mem_cons_self
  have hrv := a1.recv Q.2.2.2.2.2.1.2.1 K hη
  have hcode := Q.2.2.2.2.1 _ (hG _ hc).1
  have hRm := Q.rm (mc := mc) (ms := ms) hdy hm
  refine ⟨_, vx_runU (g := F0 Γ.2.2.2.2.1 pc ls st0) (C := C) (owner := y.cls) (x := y) Q.fix hM ⟨⟨rfl, rfl, hRm.1, hRm.2, pay_in Q.2.2.2.2.1 hG, hc⟩, hcode, Q.2.2.2.2.1 _ hini, ⟨hI.1, hI.2.1⟩, fun sig h => ?_, Q.2.2.2.2.1 _ hlink, Q.2.2.2.2.1 _ hsame, va_Decl.of (Q.2.2.2.2.1 _ hinst) hcode, ?_, Q.2.2.2.2.1 _ hinst⟩ ⟨Pco.blind, hrv, Q.pre a1 a2⟩ rfl hl a3.1 hst (lv_room hW) hdg ⟨a4, a5⟩⟩
  · have h2 := hI.2.2
    rw [h] at h2
    exact (Option.some.inj h2).symm
  · obtain ⟨cellV, -, -, g3⟩ := hrv
    exact sel_priv g3 (Q.2.2.2.2.1 _ hsame) (Q.2.2.2.2.2.1.1.use hpriv rfl (A := #[])) (Q.2.2.2.2.1 _ hinst)
end VPP
