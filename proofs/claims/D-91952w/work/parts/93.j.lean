set_option maxRecDepth 100000
section VMM
variable {G : Gl} {Γ : Fx} {mt : MethodName} {cc : ByteArray} {nL : Nat} {ret : Option FieldType} {tb : List ExceptionTableEntry} {d : Nat} {P : Rs → AH → Prop} {kc ks : Nat} {η : AH} {pc : Nat} {lv : List (Option Value)} {rest : List Value} {index : Nat}
theorem v_mmax {x y z : Int32} (hlink : Cond.methodLink mt.cls index yJ7_max ∈ lw_all) (hz : (if x < y then y else x) = z) (hd : 0 < d) (hW : (rest.map fun v => v.category).sum ≤ 8) (hdg : decode cc pc = .ok (.invokestatic index, 3)) (kk : V G Γ mt cc nL ret tb d P kc ks η (pc + 3) lv (.int z :: rest)) : V G Γ mt cc nL ret tb d P kc ks η pc lv (.int y :: .int x :: rest) := fun Q H locs ls cells slots a1 a2 a3 a4 a5 => by
  have h1 := Q.2.2.2.2.2.2.2.1
  have h2 := Q.2.2.2.2.2.2.2.2.1
  subst hz
  exact va_mmax Q.1 Q.2.1 (Q.2.2.1.trans a3.1.symm) Q.2.2.2.1 (Q.2.2.2.2.1 _ hlink) (Q.2.2.2.2.1 _ q652) (Q.2.2.2.2.1 _ q130) (Q.2.2.2.2.1 _ q653) (by omega) (by omega) (by omega) (by omega) hdg (kk Q H locs ls cells slots a1 a2 a3 a4 a5)
theorem v_mmin {x y z : Int32} (hlink : Cond.methodLink mt.cls index yJ7_min ∈ lw_all) (hz : (if y < x then y else x) = z) (hd : 0 < d) (hW : (rest.map fun v => v.category).sum ≤ 8) (hdg : decode cc pc = .ok (.invokestatic index, 3)) (kk : V G Γ mt cc nL ret tb d P kc ks η (pc + 3) lv (.int z :: rest)) : V G Γ mt cc nL ret tb d P kc ks η pc lv (.int y :: .int x :: rest) := fun Q H locs ls cells slots a1 a2 a3 a4 a5 => by
  have h1 := Q.2.2.2.2.2.2.2.1
  have h2 := Q.2.2.2.2.2.2.2.2.1
  subst hz
  exact va_mmin Q.1 Q.2.1 (Q.2.2.1.trans a3.1.symm) Q.2.2.2.1 (Q.2.2.2.2.1 _ hlink) (Q.2.2.2.2.1 _ q471) (Q.2.2.2.2.1 _ q130) (Q.2.2.2.2.1 _ q472) (by omega) (by omega) (by omega) (by omega) hdg (kk Q H locs ls cells slots a1 a2 a3 a4 a5)
theorem v_mminL {x y z : Int64} (hlink : Cond.methodLink mt.cls index yJ7_min_2 ∈ lw_all) (hz : (if y < x then y else x) = z) (hd : 0 < d) (hW : (rest.map fun v => v.category).sum ≤ 8) (hdg : decode cc pc = .ok (.invokestatic index, 3)) (kk : V G Γ mt cc nL ret tb d P kc ks η (pc + 3) lv (.long z :: rest)) : V G Γ mt cc nL ret tb d P kc ks η pc lv (.long y :: .long x :: rest) := fun Q H locs ls cells slots a1 a2 a3 a4 a5 => by
  have h1 := Q.2.2.2.2.2.2.2.1
  have h2 := Q.2.2.2.2.2.2.2.2.1
  subst hz
  exact va_mmin_long Q.1 Q.2.1 (Q.2.2.1.trans a3.1.symm) Q.2.2.2.1 (Q.2.2.2.2.1 _ hlink) (Q.2.2.2.2.1 _ q913) (Q.2.2.2.2.1 _ q130) (Q.2.2.2.2.1 _ q914) (by omega) (by omega) (by omega) (by omega) hdg (kk Q H locs ls cells slots a1 a2 a3 a4 a5)
end VMM
theorem nI_max {a b : Nat} (ha : a < 2147483648) (hb : b < 2147483648) : (if nI a < nI b then nI b else nI a) = nI (if a < b then b else a) := by
  by_cases c : a < b
  · rw [if_pos ((nI_ltI ha hb).mpr c), if_pos c]
  · rw [if_neg (fun q => c ((nI_ltI ha hb).mp q)), if_neg c]
theorem nI_min {a b : Nat} (ha : a < 2147483648) (hb : b < 2147483648) : (if nI b < nI a then nI b else nI a) = nI (if b < a then b else a) := by
  by_cases c : b < a
  · rw [if_pos ((nI_ltI hb ha).mpr c), if_pos c]
  · rw [if_neg (fun q => c ((nI_ltI hb ha).mp q)), if_neg c]
theorem oI_max0 {n : Nat} (hn : n ≤ 2147483648) : (if nI 0 < oI n then oI n else nI 0) = nI (n - 1) := by
  cases n with
  | zero => rfl
  | succ k =>
    show (if nI 0 < nI k then nI k else nI 0) = nI k
    by_cases c : 0 < k
    · rw [if_pos ((nI_ltI (by decide) (by omega)).mpr c)]
    · rw [if_neg (fun q => c ((nI_ltI (by decide) (by omega)).mp q)), show k = 0 by omega]
def us_ (x y : Int32) : Int32 := (x.toUInt32 >>> (y.toUInt32 &&& Int32.toUInt32 31)).toInt32
def bc1 (x : Int32) : Int32 := x - (us_ x 1 &&& 1431655765)
def bc2 (x : Int32) : Int32 := (x &&& 858993459) + (us_ x 2 &&& 858993459)
def bc3 (x : Int32) : Int32 := (x + us_ x 4) &&& 252645135
def bc4 (x : Int32) : Int32 := x + us_ x 8
def bc5 (x : Int32) : Int32 := x + us_ x 16
theorem bc_ok : ∀ s, s < 256 → bc5 (bc4 (bc3 (bc2 (bc1 (nI s))))) &&& 63 = nI (popc s) := by decide +kernel
theorem cJ_bitCount {G : Gl} {η : AH} {s : Nat} (hs : s < 256) : Ct G yJ6_bitCount cJ6_bitCount 1 (some .int) 0 (0) (0) [.int (nI s)] η (re (some (.int (nI (popc s)))) η) := by
  refine Ct.start rfl rfl (Nat.le_of_ble_eq_true rfl) (fun Γ => ?_)
  refine v_iload_n (i := 0) dJ6_bitCount_0 rfl rfl ?_
  refine v_iload_n (i := 0) dJ6_bitCount_1 rfl rfl ?_
  refine v_iconst (v := nI 1) dJ6_bitCount_2 k_iconst_1 ?_
  refine v_iushr dJ6_bitCount_3 rfl ?_
  refine v_ldcw (v := nI 1431655765) q449 dJ6_bitCount_4 ?_
  refine v_iand dJ6_bitCount_7 ?_
  refine v_isub dJ6_bitCount_8 ?_
  refine v_istore_n (i := 0) dJ6_bitCount_9 rfl (by decide) rfl ?_
  refine v_iload_n (i := 0) dJ6_bitCount_10 rfl rfl ?_
  refine v_ldcw (v := nI 858993459) q450 dJ6_bitCount_11 ?_
  refine v_iand dJ6_bitCount_14 ?_
  refine v_iload_n (i := 0) dJ6_bitCount_15 rfl rfl ?_
  refine v_iconst (v := nI 2) dJ6_bitCount_16 k_iconst_2 ?_
  refine v_iushr dJ6_bitCount_17 rfl ?_
  refine v_ldcw (v := nI 858993459) q450 dJ6_bitCount_18 ?_
  refine v_iand dJ6_bitCount_21 ?_
  refine v_iadd dJ6_bitCount_22 ?_
  refine v_istore_n (i := 0) dJ6_bitCount_23 rfl (by decide) rfl ?_
  refine v_iload_n (i := 0) dJ6_bitCount_24 rfl rfl ?_
  refine v_iload_n (i := 0) dJ6_bitCount_25 rfl rfl ?_
  refine v_iconst (v := nI 4) dJ6_bitCount_26 k_iconst_4 ?_
  refine v_iushr dJ6_bitCount_27 rfl ?_
  refine v_iadd dJ6_bitCount_28 ?_
  refine v_ldcw (v := nI 252645135) q451 dJ6_bitCount_29 ?_
  refine v_iand dJ6_bitCount_32 ?_
  refine v_istore_n (i := 0) dJ6_bitCount_33 rfl (by decide) rfl ?_
  refine v_iload_n (i := 0) dJ6_bitCount_34 rfl rfl ?_
  refine v_iload_n (i := 0) dJ6_bitCount_35 rfl rfl ?_
  refine v_bipush (v := nI 8) dJ6_bitCount_36 k_bipush_8 ?_
  refine v_iushr dJ6_bitCount_38 rfl ?_
  refine v_iadd dJ6_bitCount_39 ?_
  refine v_istore_n (i := 0) dJ6_bitCount_40 rfl (by decide) rfl ?_
  refine v_iload_n (i := 0) dJ6_bitCount_41 rfl rfl ?_
  refine v_iload_n (i := 0) dJ6_bitCount_42 rfl rfl ?_
  refine v_bipush (v := nI 16) dJ6_bitCount_43 k_bipush_16 ?_
  refine v_iushr dJ6_bitCount_45 rfl ?_
  refine v_iadd dJ6_bitCount_46 ?_
  refine v_istore_n (i := 0) dJ6_bitCount_47 rfl (by decide) rfl ?_
  refine v_iload_n (i := 0) dJ6_bitCount_48 rfl rfl ?_
  refine v_bipush (v := nI 63) dJ6_bitCount_49 k_bipush_63 ?_
  refine v_iand dJ6_bitCount_51 ?_
  exact v_iret rfl dJ6_bitCount_52 ⟨congrArg (fun z => Sum.inl (some (Value.int z))) (bc_ok s hs), rfl⟩
theorem tz_and : ∀ s, s < 4096 → 0 < s → True := fun _ _ _ => trivial
theorem cJ_chk {G : Gl} {η : AH} {i n : Nat} (hi : i < n) (hn : n < 2147483648) : Ct G yJ4_checkIndex cJ4_checkIndex 3 (some .int) 0 (0) (0) [.int (nI i), .int (nI n), .null] η (re (some (.int (nI i))) η) := by
  refine Ct.start rfl rfl (Nat.le_of_ble_eq_true rfl) (fun Γ => ?_)
  refine v_iload_n (i := 0) dJ4_checkIndex_0 rfl rfl ?_
  refine vn_if_lt (tgt := 9) dJ4_checkIndex_1 rfl (by omega) ?_
  refine v_iload_n (i := 0) dJ4_checkIndex_4 rfl rfl ?_
  refine v_iload_n (i := 1) dJ4_checkIndex_5 rfl rfl ?_
  refine vn_icmp_lt (tgt := 16) dJ4_checkIndex_6 rfl (by omega) (by omega) (fun c6 => ?_) (fun c6 => ?_)
  · refine v_iload_n (i := 0) dJ4_checkIndex_16 rfl rfl ?_
    exact v_iret rfl dJ4_checkIndex_17 ⟨rfl, rfl⟩
  · exact absurd hi (by omega)
theorem cJ_chkO {G : Gl} {η : AH} {i n : Nat} (hi : i < n) (hn : n < 2147483648) : Ct G yJ3_checkIndex cJ3_checkIndex 2 (some .int) 1 (0) (0) [.int (nI i), .int (nI n)] η (re (some (.int (nI i))) η) := by
  refine Ct.start rfl rfl (Nat.le_of_ble_eq_true rfl) (fun Γ => ?_)
  refine v_iload_n (i := 0) dJ3_checkIndex_0 rfl rfl ?_
  refine v_iload_n (i := 1) dJ3_checkIndex_1 rfl rfl ?_
  refine v_null dJ3_checkIndex_2 ?_
  refine v_callS (cJ_chk hi hn) (lw_S q402 q403 q127 q404) iJ4_checkIndex rfl rfl (by decide) (by decide) (Nat.le_of_ble_eq_true rfl) (Nat.le_refl _) (Nat.le_refl _) dJ3_checkIndex_3 (kr_ei ?_) kx_e
  exact v_iret rfl dJ3_checkIndex_6 ⟨rfl, rfl⟩
theorem cX_inN {G : Gl} {η : AH} {v a b : Nat} (hv : v < 2147483648) (ha : a < 2147483648) (hb : b < 2147483648) : Ct G yX1_in cX1_in 3 (some .boolean) 0 (0) (0) [.int (nI v), .int (nI a), .int (nI b)] η (re (some (.int (nI (if a ≤ v ∧ v ≤ b then 1 else 0)))) η) := by
  refine Ct.start rfl rfl (Nat.le_of_ble_eq_true rfl) (fun Γ => ?_)
  refine v_iload_n (i := 0) dX1_in_0 rfl rfl ?_
  refine v_iload_n (i := 1) dX1_in_1 rfl rfl ?_
  refine vn_icmp_lt (tgt := 14) dX1_in_2 rfl (by omega) (by omega) (fun c2 => ?_) (fun c2 => ?_)
  · refine v_iconst (v := nI 0) dX1_in_14 k_iconst_0 ?_
    exact v_zret rfl rfl dX1_in_15 (by rw [if_neg (by omega)]; exact ⟨rfl, rfl⟩)
  · refine v_iload_n (i := 0) dX1_in_5 rfl rfl ?_
    refine v_iload_n (i := 2) dX1_in_6 rfl rfl ?_
    refine vn_icmp_gt (tgt := 14) dX1_in_7 rfl (by omega) (by omega) (fun c7 => ?_) (fun c7 => ?_)
    · refine v_iconst (v := nI 0) dX1_in_14 k_iconst_0 ?_
      exact v_zret rfl rfl dX1_in_15 (by rw [if_neg (by omega)]; exact ⟨rfl, rfl⟩)
    · refine v_iconst (v := nI 1) dX1_in_10 k_iconst_1 ?_
      refine v_goto (tgt := 15) dX1_in_11 rfl ?_
      exact v_zret rfl rfl dX1_in_15 (by rw [if_pos ⟨c2, c7⟩]; exact ⟨rfl, rfl⟩)
theorem if3 {P : Prop} [Decidable P] {a b c : Int32} (h : P → a = c) (h2 : ¬ P → b = c) : (if P then a else b) = c := by split; exact h ‹_›; exact h2 ‹_›
theorem cX_in {G : Gl} {η : AH} (v a b : Int32) : Ct G yX1_in cX1_in 3 (some .boolean) 0 (0) (0) [.int v, .int a, .int b] η (re (some (.int (if a ≤ v ∧ v ≤ b then nI 1 else nI 0))) η) := by
  refine Ct.start rfl rfl (Nat.le_of_ble_eq_true rfl) (fun Γ => ?_)
  refine v_iload_n (i := 0) dX1_in_0 rfl rfl ?_
  refine v_iload_n (i := 1) dX1_in_1 rfl rfl ?_
  refine v_icmp_lt (tgt := 14) dX1_in_2 rfl (fun c2 => ?_) (fun c2 => ?_)
  · refine v_iconst (v := nI 0) dX1_in_14 k_iconst_0 ?_
    exact v_zret rfl rfl dX1_in_15 (by rw [if_neg (fun q => (Int32.not_lt.mpr q.1) c2)]; exact ⟨rfl, rfl⟩)
  · refine v_iload_n (i := 0) dX1_in_5 rfl rfl ?_
    refine v_iload_n (i := 2) dX1_in_6 rfl rfl ?_
    refine v_icmp_gt (tgt := 14) dX1_in_7 rfl (fun c7 => ?_) (fun c7 => ?_)
    · refine v_iconst (v := nI 0) dX1_in_14 k_iconst_0 ?_
      exact v_zret rfl rfl dX1_in_15 (by rw [if_neg (fun q => (Int32.not_lt.mpr q.2) c7)]; exact ⟨rfl, rfl⟩)
    · refine v_iconst (v := nI 1) dX1_in_10 k_iconst_1 ?_
      refine v_goto (tgt := 15) dX1_in_11 rfl ?_
      exact v_zret rfl rfl dX1_in_15 (by rw [if_pos ⟨Int32.not_lt.mp c2, Int32.not_lt.mp c7⟩]; exact ⟨rfl, rfl⟩)
theorem cJ_size {G : Gl} {η : AH} {o : Option Nat} {l cap : Nat} {xs : List Nat} (h : AL G η o l xs cap) : Ct G yJ2_size cJ2_size 1 (some .int) 0 (0) (0) [.ref l] η (re (some (.int (nI xs.length))) η) := by
  refine Ct.start rfl rfl (Nat.le_of_ble_eq_true rfl) (fun Γ => ?_)
  obtain ⟨ad, σ, e, oe, f, h1, h2, h3, h4, h5, h6, h7⟩ := h.el
  refine v_aload_n (i := 0) dJ2_size_0 rfl rfl ?_
  refine go_get0 h1 KJ2 2 (by decide) rfl (xs.length) h3 q191 dJ2_size_1 ?_
  exact v_iret rfl dJ2_size_4 ⟨rfl, rfl⟩
theorem cJ_isEmpty {G : Gl} {η : AH} {o : Option Nat} {l cap : Nat} {xs : List Nat} (h : AL G η o l xs cap) : Ct G yJ2_isEmpty cJ2_isEmpty 1 (some .boolean) 0 (0) (0) [.ref l] η (re (some (.int (nI (if xs.length = 0 then 1 else 0)))) η) := by
  refine Ct.start rfl rfl (Nat.le_of_ble_eq_true rfl) (fun Γ => ?_)
  obtain ⟨ad, σ, e, oe, f, h1, h2, h3, h4, h5, h6, h7⟩ := h.el
  refine v_aload_n (i := 0) dJ2_isEmpty_0 rfl rfl ?_
  refine go_get0 h1 KJ2 2 (by decide) rfl (xs.length) h3 q191 dJ2_isEmpty_1 ?_
  refine vn_if_ne (tgt := 11) dJ2_isEmpty_4 rfl (by omega) (fun c4 => ?_) (fun c4 => ?_)
  · refine v_iconst (v := nI 0) dJ2_isEmpty_11 k_iconst_0 ?_
    exact v_zret rfl rfl dJ2_isEmpty_12 (by rw [if_neg (by omega)]; exact ⟨rfl, rfl⟩)
  · refine v_iconst (v := nI 1) dJ2_isEmpty_7 k_iconst_1 ?_
    refine v_goto (tgt := 12) dJ2_isEmpty_8 rfl ?_
    exact v_zret rfl rfl dJ2_isEmpty_12 (by rw [if_pos (by omega)]; exact ⟨rfl, rfl⟩)
theorem cJ_elem {G : Gl} {η : AH} {o : Option Nat} {l cap : Nat} {xs : List Nat} (h : AL G η o l xs cap) {i q : Nat} (hq : xs[i]? = some q) : Ct G yJ2_elementData cJ2_elementData 2 (some (.object "java/lang/Object")) 0 (0) (0) [.ref l, .int (nI i)] η (re (some (.ref q)) η) := by
  refine Ct.start rfl rfl (Nat.le_of_ble_eq_true rfl) (fun Γ => ?_)
  obtain ⟨ad, σ, e, oe, f, h1, h2, h3, h4, h5, h6, h7⟩ := h.el
  have hi : i < xs.length := (List.getElem?_eq_some_iff.mp hq).1
  refine v_aload_n (i := 0) dJ2_elementData_0 rfl rfl ?_
  refine go_get3 h1 KJ2 1 (by decide) rfl (e) h2 q190 dJ2_elementData_1 ?_
  refine v_iload_n (i := 1) dJ2_elementData_4 rfl rfl ?_
  refine v_aald (v := .ref q) h6 (by decide) (vp_in_nI (show i < cap by omega) (by omega)) (by rw [nI_clamp (by omega), h7 i hi, hq]; rfl) dJ2_elementData_5 ?_
  exact v_aret rfl (Or.inl ⟨_, rfl⟩) dJ2_elementData_6 ⟨rfl, rfl⟩
theorem cJ_get {G : Gl} {η : AH} {o : Option Nat} {l cap : Nat} {xs : List Nat} (h : AL G η o l xs cap) {i q : Nat} (hq : xs[i]? = some q) : Ct G yJ2_get cJ2_get 2 (some (.object "java/lang/Object")) 2 (0) (0) [.ref l, .int (nI i)] η (re (some (.ref q)) η) := by
  refine Ct.start rfl rfl (Nat.le_of_ble_eq_true rfl) (fun Γ => ?_)
  obtain ⟨ad, σ, e, oe, f, h1, h2, h3, h4, h5, h6, h7⟩ := h.el
  have hi : i < xs.length := (List.getElem?_eq_some_iff.mp hq).1
  refine v_iload_n (i := 1) dJ2_get_0 rfl rfl ?_
  refine v_aload_n (i := 0) dJ2_get_1 rfl rfl ?_
  refine go_get0 h1 KJ2 2 (by decide) rfl (xs.length) h3 q191 dJ2_get_2 ?_
  refine v_callS (cJ_chkO hi (by omega)) (lw_S q399 q400 q126 q401) iJ3_checkIndex rfl rfl (by decide) (by decide) (Nat.le_of_ble_eq_true rfl) (Nat.le_refl _) (Nat.le_refl _) dJ2_get_5 (kr_ei ?_) kx_e
  refine v_pop dJ2_get_8 rfl ?_
  refine v_aload_n (i := 0) dJ2_get_9 rfl rfl ?_
  refine v_iload_n (i := 1) dJ2_get_10 rfl rfl ?_
  refine v_callVe (cJ_elem h hq) (lw_V q405 q406 q407 q123 q408) iJ2_elementData rfl KJ2 h.rcv rfl rfl (by decide) (by decide) (Nat.le_of_ble_eq_true rfl) (Nat.le_refl _) (Nat.le_refl _) dJ2_get_11 (kr_er ?_) kx_e
  exact v_aret rfl (Or.inl ⟨_, rfl⟩) dJ2_get_14 ⟨rfl, rfl⟩
