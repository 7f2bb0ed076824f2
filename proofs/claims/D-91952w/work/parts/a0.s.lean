set_option maxRecDepth 100000
section VAC
variable {G : Gl} {Γ : Fx} {mt : MethodName} {cc : ByteArray} {nL : Nat} {ret : Option FieldType} {tb : List ExceptionTableEntry} {d : Nat} {P : Rs → AH → Prop} {kc ks : Nat} {η : AH} {pc : Nat} {lv : List (Option Value)} {rest : List Value}
variable {a a0 n0 n1 sp dp n ow : Nat} {o0 : Option Nat} {index : Nat}
theorem v_acopB {f g : Nat → Int32} (h0 : η a0 = some (o0, aB n0 f)) (hη : η a = some (some ow, aB n1 g)) (h4 : sp + n ≤ n0) (h5 : dp + n ≤ n1) (hn0 : n0 < 2147483648) (hn1 : n1 < 2147483648) (hfb : ∀ i, i < n → fits .byte (.int (f (sp + i))) = true) (hlink : Cond.methodLink mt.cls index arraycopyName ∈ lw_all) (hd : 0 < d) (hW : (rest.map fun v => v.category).sum ≤ 8) (hdg : decode cc pc = .ok (.invokestatic index, 3))
    (kk : V G Γ mt cc nL ret tb d P kc ks (up η a (some ow, aB n1 (va_cpy f g sp dp n))) (pc + 3) lv rest) : V G Γ mt cc nL ret tb d P kc ks η pc lv (.int (nI n) :: .int (nI dp) :: .ref a :: .int (nI sp) :: .ref a0 :: rest) := fun Q H locs ls cells slots a1 a2 a3 a4 a5 => by
  have hA := ((a1 a _ _ hη).1 (by simp)).1
  have hc1 := ((a1 a _ _ hη).1 (by simp)).2
  obtain ⟨cs, b1, ⟨b2, k0, hk0, cm0, hkk0⟩, b3, b4, -, b6⟩ := (a1 a0 _ _ h0).2.arr Q.2.2.2.2.2.1.2.1 (show 2 < 10 by decide)
  obtain ⟨-, k1, hk1, cm1, hkk1⟩ := (Q.2.2.2.2.2.1.2.1.2 2 (by decide)).1 n1 (fun j => .int (g j))
  have r1 := Q.2.2.2.2.2.2.2.1
  have r2 := Q.2.2.2.2.2.2.2.2.1
  have r3 := acp_room
  have cn : (nI n).toNatClampNeg = n := nI_clamp (by omega)
  have cd : (nI dp).toNatClampNeg = dp := nI_clamp (by omega)
  have cp : (nI sp).toNatClampNeg = sp := nI_clamp (by omega)
  intro T hT X
  obtain ⟨vm', X', step⟩ := X.arraycopy Q.1 Q.2.2.2.1 (Q.2.2.2.2.1 _ hlink) (Q.2.2.2.2.1 _ q887) (Q.2.2.2.2.1 _ q886) (Q.2.2.2.2.1 _ q148) (src := a0) (dst := a) (cs := cs) (cd := arrV (G.2.1.1 (100 + 2)) n1 (avf (.inl g))) (srcPos := nI sp) (destPos := nI dp) (n := nI n) (by rw [hT]; exact b1) (by rw [hT]; exact hc1)
    b2 (fun _ h => by cases h) b3 (fun h => by cases h) hk0 hk1 hkk0 hkk1 rfl (nn_i (by omega)) (nn_i (by omega)) (nn_i (by omega))
    (by rw [nI_toInt (by omega), nI_toInt (by omega)]; omega)
    (by rw [nI_toInt (by omega), nI_toInt (by omega)]; show ¬ _ > ((arrV _ n1 (fun j => .int (g j))).slots.size : Int); rw [arrV_size]; omega)
    (fun vm₁ hal i hi => by
      rw [cn] at hi
      rw [cp]
      have e : cs.slots.getD (sp + i) .null = .int (f (sp + i)) := by
        rw [Array.getD_eq_getD_getElem?, b6 _ (by omega)]
        rfl
      rw [e]
      exact ⟨hfb i hi, trivial⟩)
    (g := F0 Γ.2.2.2.2.1 pc ls (.int (nI n) :: .int (nI dp) :: .ref a :: .int (nI sp) :: .ref a0 :: rest)) rfl (by show ls.size = _; exact (a3.1.trans Q.2.2.1.symm)) (rest := rest) rfl (by rw [Q.2.1]; exact hdg) (by omega) (by show 2 * 0 + _ + _ ≤ _; omega)
  have e2 : copied cs (arrV (G.2.1.1 (100 + 2)) n1 (avf (.inl g))) (nI sp) (nI dp) (nI n) = arrV (G.2.1.1 (100 + 2)) n1 (avf (.inl (va_cpy f g sp dp n))) := by
    unfold copied
    rw [cn, cd, cp]
    exact va_copiedX (fun z => .int z) cs _ f g b6 h4
  rw [e2] at X' step
  have hl : a < H.size := (Array.getElem?_eq_some_iff.mp hc1).1
  obtain ⟨V1, hV1⟩ : ∃ V1, V1 = arrV (G.2.1.1 (100 + 2)) n1 (avf (.inl (va_cpy f g sp dp n))) := ⟨_, rfl⟩
  rw [← hV1] at X' step
  have hheap : ((T.setVm vm').setCell a V1).heap = H.setIfInBounds a V1 := by rw [← hT]; rfl
  have oq : ∀ q : Nat, q ≠ a → (H.setIfInBounds a V1)[q]? = H[q]? := fun q hq => by simp [Array.getElem?_setIfInBounds, Ne.symm hq]
  obtain ⟨t, u1, u2⟩ := kk Q _ _ ls cells slots (a1.set (fun _ => hA) (show (H.setIfInBounds a V1)[a]? = some _ by rw [← hV1]; simp [Array.getElem?_setIfInBounds, hl]) oq) ⟨by simp; exact a2.1, fun q g1 g2 => by
      rw [oq q (fun e => g2 (by rw [e]; exact hA))]
      exact a2.2.1 q g1 g2, fun q hq => by
      rcases List.mem_append.mp hq with h | h
      · exact a2.2.2 q h
      · obtain ⟨z, -, hz⟩ := List.mem_map.mp h
        rw [← hz]
        exact hA⟩ a3 a4 a5 _ hheap X'
  exact ⟨t, step t u1, u2⟩
end VAC
theorem cJ_copyOfB {G : Gl} {η0 : AH} {t a n0 n : Nat} {f : Nat → Int32} {o0 : Option Nat} (ha : η0 a = some (o0, aB n0 f)) (hn : n0 < n) (hn2 : n ≤ 100000) (hfb : ∀ i, fits .byte (.int (f i)) = true) : Ct G yJ17_copyOf_3 cJ17_copyOf_3 3 (some (.array .byte)) 1 1 n [.ref a, .int (nI n)] η0 (rr fun q η => η0 q = none ∧ (∃ f2, η q = some (some t, aB n f2) ∧ ∀ i, f2 i = if i < n0 then f i else 0) ∧ Xt η0 η) := by
  refine Ct.start rfl rfl (Nat.le_of_ble_eq_true rfl) (fun Γ => ?_)
  refine v_iload_n (i := 1) dJ17_copyOf_3_0 rfl rfl ?_
  refine v_aload_n (i := 0) dJ17_copyOf_3_1 rfl rfl ?_
  refine v_alen ha (by decide) dJ17_copyOf_3_2 ?_
  refine vn_icmp_ne (tgt := 14) dJ17_copyOf_3_3 rfl (by omega) (by omega) (fun c3 => ?_) (fun c3 => ?_)
  · refine v_iload_n (i := 1) dJ17_copyOf_3_14 rfl rfl ?_
    refine v_newaT (kc' := 0) (ks' := 0) t 2 n rfl (by decide) rfl q345 (by show n * 1 ≤ _; omega) (by omega) (by omega) (by omega) dJ17_copyOf_3_15 (fun q hq => ?_)
    obtain ⟨η, hη⟩ : ∃ η, η = up η0 q (some t, aB n (fun _ => 0)) := ⟨_, rfl⟩
    refine v_eq (show up η0 q (some t, .inl (2, n, a0 2)) = η from hη.symm) ?_
    have hqa : q ≠ a := fun e => by rw [e, ha] at hq; cases hq
    have ha1 : η a = some (o0, aB n0 f) := by rw [hη, up_n (fun e => hqa e.symm)]; exact ha
    have hq1 : η q = some (some t, aB n (fun _ => 0)) := by rw [hη, up_s]
    refine v_astore_n (i := 2) dJ17_copyOf_3_17 rfl (by decide) rfl ?_
    refine v_aload_n (i := 0) dJ17_copyOf_3_18 rfl rfl ?_
    refine v_iconst (v := nI 0) dJ17_copyOf_3_19 k_iconst_0 ?_
    refine v_aload_n (i := 2) dJ17_copyOf_3_20 rfl rfl ?_
    refine v_iconst (v := nI 0) dJ17_copyOf_3_21 k_iconst_0 ?_
    refine v_aload_n (i := 0) dJ17_copyOf_3_22 rfl rfl ?_
    refine v_alen ha1 (by decide) dJ17_copyOf_3_23 ?_
    refine v_iload_n (i := 1) dJ17_copyOf_3_24 rfl rfl ?_
    refine v_mmin q884 (nI_minv (by omega) (by omega)) (by decide) (Nat.le_of_ble_eq_true rfl) dJ17_copyOf_3_25 ?_
    refine v_top (x' := nI n0) (by rw [if_neg (by omega)]) ?_
    refine v_acopB (sp := 0) (dp := 0) (n := n0) ha1 hq1 (by omega) (by omega) (by omega) (by omega) (fun i _ => hfb _) q885 (by decide) (Nat.le_of_ble_eq_true rfl) dJ17_copyOf_3_28 ?_
    refine v_aload_n (i := 2) dJ17_copyOf_3_31 rfl rfl ?_
    exact v_aret rfl (Or.inr ⟨_, rfl⟩) dJ17_copyOf_3_32 (by
      refine ⟨_, rfl, hq, ⟨_, up_s, fun i => ?_⟩, fun b x hb => ?_⟩
      · unfold va_cpy
        by_cases c : i < n0
        · rw [if_pos (by omega), if_pos c, Nat.zero_add, Nat.sub_zero]
        · rw [if_neg (by omega), if_neg c]
      · have hbq : b ≠ q := fun e => by rw [e, hq] at hb; cases hb
        rw [up_n hbq, hη, up_n hbq]
        exact hb)
  · omega
