/-! ===== the layer V: System.arraycopy ===== -/
set_option maxRecDepth 100000
section VAC
variable {G : Gl} {Γ : Fx} {mt : MethodName} {cc : ByteArray} {nL : Nat} {ret : Option FieldType} {tb : List ExceptionTableEntry} {d : Nat} {P : Rs → AH → Prop} {kc ks : Nat} {η : AH} {pc : Nat} {lv : List (Option Value)} {rest : List Value}
variable {a a0 n0 n1 sp dp n ow : Nat} {o0 : Option Nat} {index : Nat}
/-- the element may be stored into an Object[] -/
def ElO (η : AH) (y : Nat) : Prop := ∃ (ci N : Nat) (C : String) (T : u_T) (ty : Nat → FieldType) (o' : Option Nat) (F : Nat → Value), Cl ci C T N ty ∧ Cond.castable C "java/lang/Object" ∈ lw_tbl ∧ η y = some (o', ob ci F)
theorem ElO.kp {lo hi : Nat} {η η' : AH} {y : Nat} {ci : Nat} {F : Nat → Value} (h : ElO η y) (he : ∀ (o' : Option Nat) (c : CE), η y = some (o', c) → ∃ o2 F2, η' y = some (o2, ob ci F2)) (hc : ∀ (o' : Option Nat) (c2 : Nat) (F : Nat → Value), η y = some (o', ob c2 F) → c2 = ci) : ElO η' y := by
  obtain ⟨c1, N, C, T, ty, o', F1, K, h1, h2⟩ := h
  obtain ⟨o2, F2, h3⟩ := he _ _ h2
  have e := hc _ _ _ h2
  subst e
  exact ⟨c1, N, C, T, ty, o2, F2, K, h1, h3⟩
theorem nn_i {z : Nat} (h : z < 2147483648) : ¬ nI z < 0 := by
  rw [i_lt, nI_toInt h]
  show ¬ (z : Int) < 0
  omega
theorem acp_room : nativeFrameWords "java/lang/System" "arraycopy" 5 ≤ 30 := by decide
theorem v_acopR {f g : Nat → Option Nat} (h0 : η a0 = some (o0, aR 9 n0 f)) (hη : η a = some (some ow, aR 9 n1 g)) (h4 : sp + n ≤ n0) (h5 : dp + n ≤ n1) (hn0 : n0 < 2147483648) (hn1 : n1 < 2147483648) (hel : ∀ i, i < n → ∀ y, f (sp + i) = some y → ElO η y) (hlink : Cond.methodLink mt.cls index arraycopyName ∈ lw_all) (hd : 0 < d) (hW : (rest.map fun v => v.category).sum ≤ 8) (hdg : decode cc pc = .ok (.invokestatic index, 3))
    (kk : V G Γ mt cc nL ret tb d P kc ks (up η a (some ow, aR 9 n1 (va_cpy f g sp dp n))) (pc + 3) lv rest) : V G Γ mt cc nL ret tb d P kc ks η pc lv (.int (nI n) :: .int (nI dp) :: .ref a :: .int (nI sp) :: .ref a0 :: rest) := fun Q H locs ls cells slots a1 a2 a3 a4 a5 => by
  have hA := ((a1 a _ _ hη).1 (by simp)).1
  have hc1 := ((a1 a _ _ hη).1 (by simp)).2
  obtain ⟨cs, b1, ⟨b2, k0, hk0, cm0, hkk0⟩, b3, b4, -, b6⟩ := (a1 a0 _ _ h0).2.arr Q.2.2.2.2.2.1.2.1 (show 9 < 10 by decide)
  obtain ⟨-, k1, hk1, cm1, hkk1⟩ := (Q.2.2.2.2.2.1.2.1.2 9 (by decide)).1 n1 (fun j => va_rf (g j))
  obtain ⟨comp, cA, kA, d1, -, d3, d4, d5⟩ := Cond.arrayOver_spec (Q.2.2.2.2.2.1.1.use q882 rfl (A := #[]))
  have e1 : cA = G.2.1.1 109 := Option.some.inj (d5.symm.trans (Q.2.2.2.2.2.1.2.1.2 9 (by decide)).2)
  subst e1
  cases hk1.symm.trans d3
  cases hkk1.symm.trans d4
  have r1 := Q.2.2.2.2.2.2.2.1
  have r2 := Q.2.2.2.2.2.2.2.2.1
  have r3 := acp_room
  have cn : (nI n).toNatClampNeg = n := nI_clamp (by omega)
  have cd : (nI dp).toNatClampNeg = dp := nI_clamp (by omega)
  have cp : (nI sp).toNatClampNeg = sp := nI_clamp (by omega)
  intro T hT X
  obtain ⟨vm', X', step⟩ := X.arraycopy Q.1 Q.2.2.2.1 (Q.2.2.2.2.1 _ hlink) (Q.2.2.2.2.1 _ q887) (Q.2.2.2.2.1 _ q886) (Q.2.2.2.2.1 _ q148) (src := a0) (dst := a) (cs := cs) (cd := arrV (G.2.1.1 (100 + 9)) n1 (avf (.inr (.inr g)))) (srcPos := nI sp) (destPos := nI dp) (n := nI n) (by rw [hT]; exact b1) (by rw [hT]; exact hc1)
    b2 (fun _ h => by cases h) b3 (fun h => by cases h) hk0 hk1 hkk0 hkk1 rfl (nn_i (by omega)) (nn_i (by omega)) (nn_i (by omega))
    (by rw [nI_toInt (by omega), nI_toInt (by omega)]; omega)
    (by rw [nI_toInt (by omega), nI_toInt (by omega)]; show ¬ _ > ((arrV _ n1 (fun j => va_rf (g j))).slots.size : Int); rw [arrV_size]; omega)
    (fun vm₁ hal i hi => by
      rw [cn] at hi
      rw [cp]
      have e : cs.slots.getD (sp + i) .null = va_rf (f (sp + i)) := by
        rw [Array.getD_eq_getD_getElem?, b6 _ (by omega)]
        rfl
      rw [e]
      cases hy : f (sp + i) with
      | none => exact ⟨rfl, trivial⟩
      | some y =>
        obtain ⟨ci, N, C, Tt, ty, o', F, K, g1, g2⟩ := hel i hi y hy
        obtain ⟨cellV, f1, f2, f3⟩ := a1.recv Q.2.2.2.2.2.1.2.1 K g2
        obtain ⟨c0, t1, j1, j2, j3⟩ := Cond.castable_spec (Q.2.2.2.2.2.1.1.use g1 rfl (A := #[]))
        cases f3.symm.trans j1
        cases d1.symm.trans j2
        obtain ⟨kE, hkE, -⟩ := Vm.findClass_spec d1
        obtain ⟨kC, hkC, -⟩ := Vm.findClass_spec j1
        obtain ⟨kC', hkC', -⟩ := hal.2.2 _ _ hkC
        obtain ⟨kE', hkE', -⟩ := hal.2.2 _ _ hkE
        refine ⟨rfl, cellV, (show T.heap[y]? = some cellV by rw [hT]; exact f1), (fun q h => by rw [h] at f2; cases f2), ⟨kC', hkC'⟩, ⟨kE', hkE'⟩, ?_⟩
        show vm₁.assignable _ _ = true
        rw [hal.assignable]
        exact j3)
    (g := F0 Γ.2.2.2.2.1 pc ls (.int (nI n) :: .int (nI dp) :: .ref a :: .int (nI sp) :: .ref a0 :: rest)) rfl (by show ls.size = _; exact (a3.1.trans Q.2.2.1.symm)) (rest := rest) rfl (by rw [Q.2.1]; exact hdg) (by omega) (by show 2 * 0 + _ + _ ≤ _; omega)
  have e2 : copied cs (arrV (G.2.1.1 (100 + 9)) n1 (avf (.inr (.inr g)))) (nI sp) (nI dp) (nI n) = arrV (G.2.1.1 (100 + 9)) n1 (avf (.inr (.inr (va_cpy f g sp dp n)))) := by
    unfold copied
    rw [cn, cd, cp]
    exact va_copiedX (fun z => va_rf z) cs _ f g b6 h4
  rw [e2] at X' step
  have hl : a < H.size := (Array.getElem?_eq_some_iff.mp hc1).1
  obtain ⟨V1, hV1⟩ : ∃ V1, V1 = arrV (G.2.1.1 (100 + 9)) n1 (avf (.inr (.inr (va_cpy f g sp dp n)))) := ⟨_, rfl⟩
  rw [← hV1] at X' step
  have hheap : ((T.setVm vm').setCell a V1).heap = H.setIfInBounds a V1 := by rw [← hT]; rfl
  have oq : ∀ q : Nat, q ≠ a → (H.setIfInBounds a V1)[q]? = H[q]? := fun q hq => by simp [Array.getElem?_setIfInBounds, Ne.symm hq]
  obtain ⟨t, u1, u2⟩ := kk Q _ _ ls cells slots (a1.set (fun _ => hA) (show (H.setIfInBounds a V1)[a]? = some _ by rw [← hV1]; simp [Array.getElem?_setIfInBounds, hl]) oq) ⟨by simp; exact a2.1, fun q g1 g2 => by
      rw [oq q (fun e => g2 (by rw [e]; exact hA))]
      exact a2.2.1 q g1 g2, fun q hq => by
      rcases List.mem_append.mp hq with h | h
      · exact a2.2.2 q h
      · obtain ⟨z, -, hz⟩ := List.mem_map.mp h
        rw [← hz]
        exact hA⟩ a3 a4 a5 _ hheap X'
  exact ⟨t, step t u1, u2⟩
end VAC
