section VMB
variable {G : Gl} {Γ : Fx} {mt : MethodName} {cc : ByteArray} {nL : Nat} {ret : Option FieldType} {tb : List ExceptionTableEntry} {d : Nat} {P : Rs → AH → Prop} {kc ks : Nat} {pc : Nat} {lv : List (Option Value)} {rest : List Value} {m : Nat} {F : Nat → Value} {ad : Nat → Nat} {σ : MS} {η0 : AH} {L : List Nat} {index : Nat}
/-- rows' addresses apart from each other and from the object -/
def Mq (m : Nat) (ad : Nat → Nat) (L : List Nat) : Prop := (∀ k ∈ L, ad k ≠ m) ∧ ∀ j ∈ L, ∀ k ∈ L, ad j = ad k → j = k
theorem Mq.add {k q : Nat} (h : Mq m ad L) (hk : k ∉ L) (hq : q ≠ m ∧ ∀ j ∈ L, ad j ≠ q) : Mq m (va_up ad k q) (k :: L) := by
  have hu : ∀ j ∈ L, va_up ad k q j = ad j := fun j hj => va_up_n (fun e => hk (by rw [← e]; exact hj))
  refine ⟨fun j hj => ?_, fun i hi j hj e => ?_⟩
  · rcases List.mem_cons.mp hj with e | e
    · rw [e, va_up_e]; exact hq.1
    · rw [hu j e]; exact h.1 j e
  · rcases List.mem_cons.mp hi with a | a
    · rcases List.mem_cons.mp hj with b | b
      · rw [a, b]
      · rw [a, va_up_e, hu j b] at e; exact absurd e.symm (hq.2 j b)
    · rcases List.mem_cons.mp hj with b | b
      · rw [b, va_up_e, hu i a] at e; exact absurd e (hq.2 i a)
      · rw [hu i a, hu j b] at e; exact h.2 i a j b e
theorem mb_arr (k kd n : Nat) {kc' ks' : Nat} {atype : ArrayType} {T : _} {ty : _} {N : Nat} {C : String} (K : Cl 9 C T N ty) (hkN : k < N) (hM : Mq m ad L) (hkL : k ∉ L) (hkd : kd < 10) (hty : newarray.typeOf atype = ak kd) (harr : Cond.arrayClass (ak kd) ∈ lw_all) (hb : n * componentBytes (ak kd) ≤ 536870912) (hn : n < 2147483648) (hcell : (.inl (kd, n, a0 kd) : CE) = mC σ k) (h1 : kc' + 1 ≤ kc) (h2 : ks' + n ≤ ks) (hlink : Cond.fieldLink mt.cls index (T k).1 (T k).2.1 (T k).2.2.1 ∈ lw_all) (hfin : (T k).2.2.2 = true) (hin : mt.name = "<init>") (hd : (T k).1 = mt.cls) (hnf : ∀ q : Nat, narrow (ty k) (.ref q) = .ref q ∧ fits (ty k) (.ref q) = true) (hd1 : decode cc pc = .ok (.newarray atype, 2)) (hd2 : decode cc (pc + 2) = .ok (.putfield index, 3))
    (kk : ∀ q : Nat, Mq m (va_up ad k q) (k :: L) → V G Γ mt cc nL ret tb d P kc' ks' (MB m (updV F k (.ref q)) (va_up ad k q) σ η0 (k :: L)) (pc + 2 + 3) lv rest) : V G Γ mt cc nL ret tb d P kc ks (MB m F ad σ η0 L) pc lv (.int (nI n) :: .ref m :: rest) := by
  refine v_newa kd n rfl hkd hty harr hb hn h1 h2 hd1 (fun q hq => ?_)
  refine v_own (q := q) (o1 := q) (o2 := m) (c := .inl (kd, n, a0 kd)) up_s ?_
  rw [hcell, MB_row hkL hq]
  refine v_putF MB_m K k hkN hlink hfin hin hd (hnf q).1 (hnf q).2 hd2 ?_
  rw [MB_put]
  exact kk q (hM.add hkL (MB_none hq))
end VMB
