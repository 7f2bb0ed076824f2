/-! ===== numbers: rows for values of the form nI a (a : Nat) ===== -/
theorem i_bv {a b : Int32} (h : a.toBitVec = b.toBitVec) : a = b := Int32.toBitVec_inj.mp h
theorem nI_bv (a : Nat) : (nI a).toBitVec = BitVec.ofNat 32 a := rfl
theorem nI_and (a b : Nat) : nI a &&& nI b = nI (a &&& b) := i_bv (by rw [Int32.toBitVec_and, nI_bv, nI_bv, nI_bv, BitVec.ofNat_and])
theorem nI_or (a b : Nat) : nI a ||| nI b = nI (a ||| b) := i_bv (by rw [Int32.toBitVec_or, nI_bv, nI_bv, nI_bv, BitVec.ofNat_or])
theorem nI_xor (a b : Nat) : nI a ^^^ nI b = nI (a ^^^ b) := i_bv (by rw [Int32.toBitVec_xor, nI_bv, nI_bv, nI_bv, BitVec.ofNat_xor])
theorem nI_sub {a b : Nat} (h : b ≤ a) : nI a - nI b = nI (a - b) := pk_sub h
theorem sh31 : ∀ t, t < 32 → (((nI t &&& 31 : Int32)).toBitVec.smod 32).toNat = t := by decide +kernel
theorem nI_shl {a t : Nat} (ht : t < 32) : nI a <<< (nI t &&& 31) = nI (a * 2 ^ t) := by
  apply i_bv
  apply BitVec.eq_of_toNat_eq
  rw [pk_shl (nI a) (nI t &&& 31) t (sh31 t ht), nI_bv, nI_bv, BitVec.toNat_ofNat, BitVec.toNat_ofNat]
  simp [Nat.mod_mul_mod]
theorem nI_shr {a t : Nat} (ha : a < 2 ^ 31) (ht : t < 32) : nI a >>> (nI t &&& 31) = nI (a / 2 ^ t) := pk_shrN ha (nI t &&& 31) t (sh31 t ht)
theorem sh31u : ∀ t, t < 32 → (((nI t).toUInt32 &&& Int32.toUInt32 31).toBitVec % 32).toNat = t := by decide +kernel
theorem nI_ushr {a t : Nat} (ha : a < 2 ^ 32) (ht : t < 32) : ((nI a).toUInt32 >>> ((nI t).toUInt32 &&& Int32.toUInt32 31)).toInt32 = nI (a / 2 ^ t) := pk_ushrN ha (nI t) t (sh31u t ht)
/-- a without b, as sets of bits -/
def ndf (a b : Nat) : Nat := a ^^^ (a &&& b)
theorem ndf_tb (a b i : Nat) : (ndf a b).testBit i = (a.testBit i && !b.testBit i) := by
  unfold ndf
  rw [Nat.testBit_xor, Nat.testBit_and]
  cases a.testBit i <;> cases b.testBit i <;> rfl
theorem bv_ndf (a b : BitVec 32) : a &&& (b ^^^ (-1#32)) = a ^^^ (a &&& b) := by
  apply BitVec.eq_of_getLsbD_eq
  intro i hi
  simp only [BitVec.getLsbD_and, BitVec.getLsbD_xor, BitVec.neg_one_eq_allOnes, BitVec.getLsbD_allOnes, hi, decide_true]
  cases a.getLsbD i <;> cases b.getLsbD i <;> rfl
theorem nI_ndf (a b : Nat) : nI a &&& (nI b ^^^ (-1)) = nI (ndf a b) := by
  unfold ndf
  rw [← nI_xor, ← nI_and]
  apply i_bv
  rw [Int32.toBitVec_and, Int32.toBitVec_xor, Int32.toBitVec_xor, Int32.toBitVec_and]
  exact bv_ndf _ _
theorem nI_0i {a : Nat} (h : a < 2 ^ 31) : nI a = 0 ↔ a = 0 := by rw [← nI_0]; exact nI_eq h (by decide)
section VN
variable {G : Gl} {Γ : Fx} {mt : MethodName} {cc : ByteArray} {nL : Nat} {ret : Option FieldType} {tb : List ExceptionTableEntry} {d : Nat} {P : Rs → AH → Prop} {kc ks : Nat} {η : AH} {pc : Nat} {lv : List (Option Value)} {rest : List Value} {a b : Nat}
theorem vn_iadd  (hdg : decode cc pc = .ok (.iadd, 1)) (kk : V G Γ mt cc nL ret tb d P kc ks η (pc + 1) lv (.int (nI (a + b)) :: rest)) : V G Γ mt cc nL ret tb d P kc ks η pc lv (.int (nI b) :: .int (nI a) :: rest) := v_iadd hdg (by rw [nI_add]; exact kk)
theorem vn_imul  (hdg : decode cc pc = .ok (.imul, 1)) (kk : V G Γ mt cc nL ret tb d P kc ks η (pc + 1) lv (.int (nI (a * b)) :: rest)) : V G Γ mt cc nL ret tb d P kc ks η pc lv (.int (nI b) :: .int (nI a) :: rest) := v_imul hdg (by rw [pk_mul]; exact kk)
theorem vn_isub (h : b ≤ a) (hdg : decode cc pc = .ok (.isub, 1)) (kk : V G Γ mt cc nL ret tb d P kc ks η (pc + 1) lv (.int (nI (a - b)) :: rest)) : V G Γ mt cc nL ret tb d P kc ks η pc lv (.int (nI b) :: .int (nI a) :: rest) := v_isub hdg (by rw [nI_sub h]; exact kk)
theorem vn_iand  (hdg : decode cc pc = .ok (.iand, 1)) (kk : V G Γ mt cc nL ret tb d P kc ks η (pc + 1) lv (.int (nI (a &&& b)) :: rest)) : V G Γ mt cc nL ret tb d P kc ks η pc lv (.int (nI b) :: .int (nI a) :: rest) := v_iand hdg (by rw [nI_and]; exact kk)
theorem vn_ior  (hdg : decode cc pc = .ok (.ior, 1)) (kk : V G Γ mt cc nL ret tb d P kc ks η (pc + 1) lv (.int (nI (a ||| b)) :: rest)) : V G Γ mt cc nL ret tb d P kc ks η pc lv (.int (nI b) :: .int (nI a) :: rest) := v_ior hdg (by rw [nI_or]; exact kk)
theorem vn_ixor  (hdg : decode cc pc = .ok (.ixor, 1)) (kk : V G Γ mt cc nL ret tb d P kc ks η (pc + 1) lv (.int (nI (a ^^^ b)) :: rest)) : V G Γ mt cc nL ret tb d P kc ks η pc lv (.int (nI b) :: .int (nI a) :: rest) := v_ixor hdg (by rw [nI_xor]; exact kk)
theorem vn_ishl (h : b < 32) (hdg : decode cc pc = .ok (.ishl, 1)) (kk : V G Γ mt cc nL ret tb d P kc ks η (pc + 1) lv (.int (nI (a * 2 ^ b)) :: rest)) : V G Γ mt cc nL ret tb d P kc ks η pc lv (.int (nI b) :: .int (nI a) :: rest) := v_ishl hdg (by rw [nI_shl h]; exact kk)
theorem vn_ishr (h0 : a < 2147483648) (h : b < 32) (hdg : decode cc pc = .ok (.ishr, 1)) (kk : V G Γ mt cc nL ret tb d P kc ks η (pc + 1) lv (.int (nI (a / 2 ^ b)) :: rest)) : V G Γ mt cc nL ret tb d P kc ks η pc lv (.int (nI b) :: .int (nI a) :: rest) := v_ishr hdg (by rw [nI_shr h0 h]; exact kk)
theorem vn_iushr (h0 : a < 4294967296) (h : b < 32) (hdg : decode cc pc = .ok (.iushr, 1)) (kk : V G Γ mt cc nL ret tb d P kc ks η (pc + 1) lv (.int (nI (a / 2 ^ b)) :: rest)) : V G Γ mt cc nL ret tb d P kc ks η pc lv (.int (nI b) :: .int (nI a) :: rest) := v_iushr hdg (nI_ushr h0 h) kk
theorem vn_idiv (h0 : a < 2147483648) (h1 : 0 < b) (h : b < 2147483648) (hdg : decode cc pc = .ok (.idiv, 1)) (kk : V G Γ mt cc nL ret tb d P kc ks η (pc + 1) lv (.int (nI (a / b)) :: rest)) : V G Γ mt cc nL ret tb d P kc ks η pc lv (.int (nI b) :: .int (nI a) :: rest) := v_idiv hdg (nI_ne0 h1 h) (by rw [pk_div h0 h1 h]; exact kk)
theorem vn_irem (h0 : a < 2147483648) (h1 : 0 < b) (h : b < 2147483648) (hdg : decode cc pc = .ok (.irem, 1)) (kk : V G Γ mt cc nL ret tb d P kc ks η (pc + 1) lv (.int (nI (a % b)) :: rest)) : V G Γ mt cc nL ret tb d P kc ks η pc lv (.int (nI b) :: .int (nI a) :: rest) := v_irem hdg (nI_ne0 h1 h) (by rw [pk_rem h0 h1 h]; exact kk)
theorem vn_andc (hdg : decode cc pc = .ok (.iand, 1)) (kk : V G Γ mt cc nL ret tb d P kc ks η (pc + 1) lv (.int (nI (ndf a b)) :: rest)) : V G Γ mt cc nL ret tb d P kc ks η pc lv (.int (nI b ^^^ (-1)) :: .int (nI a) :: rest) := v_iand hdg (by rw [nI_ndf]; exact kk)
theorem vn_iinc {i : Nat} {n : Int} (n0 : Nat) (hdg : decode cc pc = .ok (.iinc i n, 3)) (hk : lv[i]? = some (some (.int (nI a)))) (hn0 : Int32.ofInt n = nI n0) (hn : i < nL) (hl : noL lv i = true) (kk : V G Γ mt cc nL ret tb d P kc ks η (pc + 3) (lv.set i (some (.int (nI (a + n0))))) rest) : V G Γ mt cc nL ret tb d P kc ks η pc lv rest := v_iinc hdg hk (by rw [hn0, nI_add]) hn hl kk
theorem vn_idec {i : Nat} {n : Int} (n0 : Nat) (hdg : decode cc pc = .ok (.iinc i n, 3)) (hk : lv[i]? = some (some (.int (nI a)))) (hn0 : Int32.ofInt n = -nI n0) (h : n0 ≤ a) (hn : i < nL) (hl : noL lv i = true) (kk : V G Γ mt cc nL ret tb d P kc ks η (pc + 3) (lv.set i (some (.int (nI (a - n0))))) rest) : V G Γ mt cc nL ret tb d P kc ks η pc lv rest := v_iinc hdg hk (by rw [hn0, ← Int32.sub_eq_add_neg, nI_sub h]) hn hl kk
theorem vn_and1 (hdg : decode cc pc = .ok (.iand, 1)) (kk : V G Γ mt cc nL ret tb d P kc ks η (pc + 1) lv (.int (nI (a % 2)) :: rest)) : V G Γ mt cc nL ret tb d P kc ks η pc lv (.int (nI 1) :: .int (nI a) :: rest) := v_iand hdg (by rw [nI_and, show a &&& 1 = a % 2 from Nat.and_two_pow_sub_one_eq_mod a 1]; exact kk)
theorem vi_and1 {x : Int32} (hdg : decode cc pc = .ok (.iand, 1)) (kk : V G Γ mt cc nL ret tb d P kc ks η (pc + 1) lv (.int (nI (x.toBitVec.toNat % 2)) :: rest)) : V G Γ mt cc nL ret tb d P kc ks η pc lv (.int (nI 1) :: .int x :: rest) := v_iand hdg (by rw [pk_and x (m := nI 1) 1 (by decide)]; exact kk)
theorem vn_and3 (hdg : decode cc pc = .ok (.iand, 1)) (kk : V G Γ mt cc nL ret tb d P kc ks η (pc + 1) lv (.int (nI (a % 4)) :: rest)) : V G Γ mt cc nL ret tb d P kc ks η pc lv (.int (nI 3) :: .int (nI a) :: rest) := v_iand hdg (by rw [nI_and, show a &&& 3 = a % 4 from Nat.and_two_pow_sub_one_eq_mod a 2]; exact kk)
theorem vi_and3 {x : Int32} (hdg : decode cc pc = .ok (.iand, 1)) (kk : V G Γ mt cc nL ret tb d P kc ks η (pc + 1) lv (.int (nI (x.toBitVec.toNat % 4)) :: rest)) : V G Γ mt cc nL ret tb d P kc ks η pc lv (.int (nI 3) :: .int x :: rest) := v_iand hdg (by rw [pk_and x (m := nI 3) 2 (by decide)]; exact kk)
theorem vn_and31 (hdg : decode cc pc = .ok (.iand, 1)) (kk : V G Γ mt cc nL ret tb d P kc ks η (pc + 1) lv (.int (nI (a % 32)) :: rest)) : V G Γ mt cc nL ret tb d P kc ks η pc lv (.int (nI 31) :: .int (nI a) :: rest) := v_iand hdg (by rw [nI_and, show a &&& 31 = a % 32 from Nat.and_two_pow_sub_one_eq_mod a 5]; exact kk)
theorem vi_and31 {x : Int32} (hdg : decode cc pc = .ok (.iand, 1)) (kk : V G Γ mt cc nL ret tb d P kc ks η (pc + 1) lv (.int (nI (x.toBitVec.toNat % 32)) :: rest)) : V G Γ mt cc nL ret tb d P kc ks η pc lv (.int (nI 31) :: .int x :: rest) := v_iand hdg (by rw [pk_and x (m := nI 31) 5 (by decide)]; exact kk)
theorem vn_and255 (hdg : decode cc pc = .ok (.iand, 1)) (kk : V G Γ mt cc nL ret tb d P kc ks η (pc + 1) lv (.int (nI (a % 256)) :: rest)) : V G Γ mt cc nL ret tb d P kc ks η pc lv (.int (nI 255) :: .int (nI a) :: rest) := v_iand hdg (by rw [nI_and, show a &&& 255 = a % 256 from Nat.and_two_pow_sub_one_eq_mod a 8]; exact kk)
theorem vi_and255 {x : Int32} (hdg : decode cc pc = .ok (.iand, 1)) (kk : V G Γ mt cc nL ret tb d P kc ks η (pc + 1) lv (.int (nI (x.toBitVec.toNat % 256)) :: rest)) : V G Γ mt cc nL ret tb d P kc ks η pc lv (.int (nI 255) :: .int x :: rest) := v_iand hdg (by rw [pk_and x (m := nI 255) 8 (by decide)]; exact kk)
theorem vn_and8191 (hdg : decode cc pc = .ok (.iand, 1)) (kk : V G Γ mt cc nL ret tb d P kc ks η (pc + 1) lv (.int (nI (a % 8192)) :: rest)) : V G Γ mt cc nL ret tb d P kc ks η pc lv (.int (nI 8191) :: .int (nI a) :: rest) := v_iand hdg (by rw [nI_and, show a &&& 8191 = a % 8192 from Nat.and_two_pow_sub_one_eq_mod a 13]; exact kk)
theorem vi_and8191 {x : Int32} (hdg : decode cc pc = .ok (.iand, 1)) (kk : V G Γ mt cc nL ret tb d P kc ks η (pc + 1) lv (.int (nI (x.toBitVec.toNat % 8192)) :: rest)) : V G Γ mt cc nL ret tb d P kc ks η pc lv (.int (nI 8191) :: .int x :: rest) := v_iand hdg (by rw [pk_and x (m := nI 8191) 13 (by decide)]; exact kk)
theorem vn_icmp_eq {off : Int} {tgt : Nat} (hdg : decode cc pc = .ok (.if_icmp .eq off, 3)) (ht : (pc : Int) + off = (tgt : Int)) (ha : a < 2147483648) (hb : b < 2147483648) (kt : a = b → V G Γ mt cc nL ret tb d P kc ks η tgt lv rest) (kf : ¬ a = b → V G Γ mt cc nL ret tb d P kc ks η (pc + 3) lv rest) : V G Γ mt cc nL ret tb d P kc ks η pc lv (.int (nI b) :: .int (nI a) :: rest) := v_icmp_eq hdg ht (fun z => kt ((nI_eq ha hb).mp z)) (fun z => kf (fun e => z ((nI_eq ha hb).mpr e)))
theorem vn_icmp_ne {off : Int} {tgt : Nat} (hdg : decode cc pc = .ok (.if_icmp .ne off, 3)) (ht : (pc : Int) + off = (tgt : Int)) (ha : a < 2147483648) (hb : b < 2147483648) (kt : ¬ a = b → V G Γ mt cc nL ret tb d P kc ks η tgt lv rest) (kf : a = b → V G Γ mt cc nL ret tb d P kc ks η (pc + 3) lv rest) : V G Γ mt cc nL ret tb d P kc ks η pc lv (.int (nI b) :: .int (nI a) :: rest) := v_icmp_ne hdg ht (fun z => kt (fun e => z ((nI_eq ha hb).mpr e))) (fun z => kf ((nI_eq ha hb).mp z))
theorem vn_icmp_lt {off : Int} {tgt : Nat} (hdg : decode cc pc = .ok (.if_icmp .lt off, 3)) (ht : (pc : Int) + off = (tgt : Int)) (ha : a < 2147483648) (hb : b < 2147483648) (kt : a < b → V G Γ mt cc nL ret tb d P kc ks η tgt lv rest) (kf : b ≤ a → V G Γ mt cc nL ret tb d P kc ks η (pc + 3) lv rest) : V G Γ mt cc nL ret tb d P kc ks η pc lv (.int (nI b) :: .int (nI a) :: rest) := v_icmp_lt hdg ht (fun z => kt ((nI_ltI ha hb).mp z)) (fun z => kf (Nat.not_lt.mp fun e => z ((nI_ltI ha hb).mpr e)))
theorem vn_icmp_ge {off : Int} {tgt : Nat} (hdg : decode cc pc = .ok (.if_icmp .ge off, 3)) (ht : (pc : Int) + off = (tgt : Int)) (ha : a < 2147483648) (hb : b < 2147483648) (kt : b ≤ a → V G Γ mt cc nL ret tb d P kc ks η tgt lv rest) (kf : a < b → V G Γ mt cc nL ret tb d P kc ks η (pc + 3) lv rest) : V G Γ mt cc nL ret tb d P kc ks η pc lv (.int (nI b) :: .int (nI a) :: rest) := v_icmp_ge hdg ht (fun z => kt ((nI_leI hb ha).mp z)) (fun z => kf (Nat.not_le.mp fun e => z ((nI_leI hb ha).mpr e)))
theorem vn_icmp_gt {off : Int} {tgt : Nat} (hdg : decode cc pc = .ok (.if_icmp .gt off, 3)) (ht : (pc : Int) + off = (tgt : Int)) (ha : a < 2147483648) (hb : b < 2147483648) (kt : b < a → V G Γ mt cc nL ret tb d P kc ks η tgt lv rest) (kf : a ≤ b → V G Γ mt cc nL ret tb d P kc ks η (pc + 3) lv rest) : V G Γ mt cc nL ret tb d P kc ks η pc lv (.int (nI b) :: .int (nI a) :: rest) := v_icmp_gt hdg ht (fun z => kt ((nI_ltI hb ha).mp z)) (fun z => kf (Nat.not_lt.mp fun e => z ((nI_ltI hb ha).mpr e)))
theorem vn_icmp_le {off : Int} {tgt : Nat} (hdg : decode cc pc = .ok (.if_icmp .le off, 3)) (ht : (pc : Int) + off = (tgt : Int)) (ha : a < 2147483648) (hb : b < 2147483648) (kt : a ≤ b → V G Γ mt cc nL ret tb d P kc ks η tgt lv rest) (kf : b < a → V G Γ mt cc nL ret tb d P kc ks η (pc + 3) lv rest) : V G Γ mt cc nL ret tb d P kc ks η pc lv (.int (nI b) :: .int (nI a) :: rest) := v_icmp_le hdg ht (fun z => kt ((nI_leI ha hb).mp z)) (fun z => kf (Nat.not_le.mp fun e => z ((nI_leI ha hb).mpr e)))
theorem vn_if_eq {off : Int} {tgt : Nat} (hdg : decode cc pc = .ok (.ifCond .eq off, 3)) (ht : (pc : Int) + off = (tgt : Int)) (ha : a < 2147483648) (kt : a = 0 → V G Γ mt cc nL ret tb d P kc ks η tgt lv rest) (kf : ¬ a = 0 → V G Γ mt cc nL ret tb d P kc ks η (pc + 3) lv rest) : V G Γ mt cc nL ret tb d P kc ks η pc lv (.int (nI a) :: rest) := v_if_eq hdg ht (fun z => kt ((nI_0i ha).mp z)) (fun z => kf (fun e => z ((nI_0i ha).mpr e)))
theorem vn_if_ne {off : Int} {tgt : Nat} (hdg : decode cc pc = .ok (.ifCond .ne off, 3)) (ht : (pc : Int) + off = (tgt : Int)) (ha : a < 2147483648) (kt : ¬ a = 0 → V G Γ mt cc nL ret tb d P kc ks η tgt lv rest) (kf : a = 0 → V G Γ mt cc nL ret tb d P kc ks η (pc + 3) lv rest) : V G Γ mt cc nL ret tb d P kc ks η pc lv (.int (nI a) :: rest) := v_if_ne hdg ht (fun z => kt (fun e => z ((nI_0i ha).mpr e))) (fun z => kf ((nI_0i ha).mp z))
theorem vn_if_gt {off : Int} {tgt : Nat} (hdg : decode cc pc = .ok (.ifCond .gt off, 3)) (ht : (pc : Int) + off = (tgt : Int)) (ha : a < 2147483648) (kt : 0 < a → V G Γ mt cc nL ret tb d P kc ks η tgt lv rest) (kf : a = 0 → V G Γ mt cc nL ret tb d P kc ks η (pc + 3) lv rest) : V G Γ mt cc nL ret tb d P kc ks η pc lv (.int (nI a) :: rest) := v_if_gt hdg ht (fun z => kt (Nat.pos_of_ne_zero fun e => absurd z (by rw [e, nI_0]; decide))) (fun z => kf (Nat.eq_zero_of_not_pos fun e => z (by rw [← nI_0]; exact nI_lt e ha)))
theorem vn_if_le {off : Int} {tgt : Nat} (hdg : decode cc pc = .ok (.ifCond .le off, 3)) (ht : (pc : Int) + off = (tgt : Int)) (ha : a < 2147483648) (kt : a = 0 → V G Γ mt cc nL ret tb d P kc ks η tgt lv rest) (kf : 0 < a → V G Γ mt cc nL ret tb d P kc ks η (pc + 3) lv rest) : V G Γ mt cc nL ret tb d P kc ks η pc lv (.int (nI a) :: rest) := v_if_le hdg ht (fun z => kt (Nat.eq_zero_of_not_pos fun e => nI_nle e ha z)) (fun z => kf (Nat.pos_of_ne_zero fun e => z (by rw [e, nI_0]; decide)))
theorem vn_if_ge {off : Int} {tgt : Nat} (hdg : decode cc pc = .ok (.ifCond .ge off, 3)) (ht : (pc : Int) + off = (tgt : Int)) (ha : a < 2147483648) (kt : V G Γ mt cc nL ret tb d P kc ks η tgt lv rest) : V G Γ mt cc nL ret tb d P kc ks η pc lv (.int (nI a) :: rest) := v_if_ge hdg ht (fun z => kt) (fun z => absurd (nI_pos' ha) z)
theorem vn_if_lt {off : Int} {tgt : Nat} (hdg : decode cc pc = .ok (.ifCond .lt off, 3)) (ht : (pc : Int) + off = (tgt : Int)) (ha : a < 2147483648) (kf : V G Γ mt cc nL ret tb d P kc ks η (pc + 3) lv rest) : V G Γ mt cc nL ret tb d P kc ks η pc lv (.int (nI a) :: rest) := v_if_lt hdg ht (fun z => absurd z (nI_pos ha)) (fun z => kf)
end VN
theorem k_bipush_m128 : (Int8.ofInt (-128)).toInt32 = -128 := by decide +kernel
theorem k_bipush_m128n : (Int8.ofInt (-128)).toInt32 = -nI 128 := by decide +kernel
theorem k_bipush_m100 : (Int8.ofInt (-100)).toInt32 = -100 := by decide +kernel
theorem k_bipush_m100n : (Int8.ofInt (-100)).toInt32 = -nI 100 := by decide +kernel
theorem k_bipush_m10 : (Int8.ofInt (-10)).toInt32 = -10 := by decide +kernel
theorem k_bipush_m10n : (Int8.ofInt (-10)).toInt32 = -nI 10 := by decide +kernel
theorem k_bipush_m9 : (Int8.ofInt (-9)).toInt32 = -9 := by decide +kernel
theorem k_bipush_m9n : (Int8.ofInt (-9)).toInt32 = -nI 9 := by decide +kernel
theorem k_bipush_m3 : (Int8.ofInt (-3)).toInt32 = -3 := by decide +kernel
theorem k_bipush_m3n : (Int8.ofInt (-3)).toInt32 = -nI 3 := by decide +kernel
theorem k_bipush_m2 : (Int8.ofInt (-2)).toInt32 = -2 := by decide +kernel
theorem k_bipush_m2n : (Int8.ofInt (-2)).toInt32 = -nI 2 := by decide +kernel
theorem k_bipush_6 : (Int8.ofInt (6)).toInt32 = nI 6 := by decide +kernel
theorem k_bipush_7 : (Int8.ofInt (7)).toInt32 = nI 7 := by decide +kernel
theorem k_bipush_8 : (Int8.ofInt (8)).toInt32 = nI 8 := by decide +kernel
theorem k_bipush_9 : (Int8.ofInt (9)).toInt32 = nI 9 := by decide +kernel
theorem k_bipush_10 : (Int8.ofInt (10)).toInt32 = nI 10 := by decide +kernel
theorem k_bipush_11 : (Int8.ofInt (11)).toInt32 = nI 11 := by decide +kernel
theorem k_bipush_12 : (Int8.ofInt (12)).toInt32 = nI 12 := by decide +kernel
theorem k_bipush_13 : (Int8.ofInt (13)).toInt32 = nI 13 := by decide +kernel
theorem k_bipush_14 : (Int8.ofInt (14)).toInt32 = nI 14 := by decide +kernel
theorem k_bipush_15 : (Int8.ofInt (15)).toInt32 = nI 15 := by decide +kernel
theorem k_bipush_16 : (Int8.ofInt (16)).toInt32 = nI 16 := by decide +kernel
theorem k_bipush_17 : (Int8.ofInt (17)).toInt32 = nI 17 := by decide +kernel
theorem k_bipush_18 : (Int8.ofInt (18)).toInt32 = nI 18 := by decide +kernel
theorem k_bipush_19 : (Int8.ofInt (19)).toInt32 = nI 19 := by decide +kernel
theorem k_bipush_20 : (Int8.ofInt (20)).toInt32 = nI 20 := by decide +kernel
theorem k_bipush_21 : (Int8.ofInt (21)).toInt32 = nI 21 := by decide +kernel
theorem k_bipush_24 : (Int8.ofInt (24)).toInt32 = nI 24 := by decide +kernel
theorem k_bipush_31 : (Int8.ofInt (31)).toInt32 = nI 31 := by decide +kernel
theorem k_bipush_32 : (Int8.ofInt (32)).toInt32 = nI 32 := by decide +kernel
theorem k_bipush_38 : (Int8.ofInt (38)).toInt32 = nI 38 := by decide +kernel
theorem k_bipush_40 : (Int8.ofInt (40)).toInt32 = nI 40 := by decide +kernel
theorem k_bipush_41 : (Int8.ofInt (41)).toInt32 = nI 41 := by decide +kernel
theorem k_bipush_42 : (Int8.ofInt (42)).toInt32 = nI 42 := by decide +kernel
theorem k_bipush_43 : (Int8.ofInt (43)).toInt32 = nI 43 := by decide +kernel
theorem k_bipush_45 : (Int8.ofInt (45)).toInt32 = nI 45 := by decide +kernel
theorem k_bipush_47 : (Int8.ofInt (47)).toInt32 = nI 47 := by decide +kernel
theorem k_bipush_48 : (Int8.ofInt (48)).toInt32 = nI 48 := by decide +kernel
theorem k_bipush_57 : (Int8.ofInt (57)).toInt32 = nI 57 := by decide +kernel
theorem k_bipush_59 : (Int8.ofInt (59)).toInt32 = nI 59 := by decide +kernel
theorem k_bipush_60 : (Int8.ofInt (60)).toInt32 = nI 60 := by decide +kernel
theorem k_bipush_61 : (Int8.ofInt (61)).toInt32 = nI 61 := by decide +kernel
theorem k_bipush_63 : (Int8.ofInt (63)).toInt32 = nI 63 := by decide +kernel
theorem k_bipush_96 : (Int8.ofInt (96)).toInt32 = nI 96 := by decide +kernel
theorem k_bipush_97 : (Int8.ofInt (97)).toInt32 = nI 97 := by decide +kernel
theorem k_bipush_98 : (Int8.ofInt (98)).toInt32 = nI 98 := by decide +kernel
theorem k_bipush_99 : (Int8.ofInt (99)).toInt32 = nI 99 := by decide +kernel
theorem k_bipush_100 : (Int8.ofInt (100)).toInt32 = nI 100 := by decide +kernel
theorem k_bipush_101 : (Int8.ofInt (101)).toInt32 = nI 101 := by decide +kernel
theorem k_bipush_103 : (Int8.ofInt (103)).toInt32 = nI 103 := by decide +kernel
theorem k_bipush_104 : (Int8.ofInt (104)).toInt32 = nI 104 := by decide +kernel
theorem k_bipush_105 : (Int8.ofInt (105)).toInt32 = nI 105 := by decide +kernel
theorem k_bipush_108 : (Int8.ofInt (108)).toInt32 = nI 108 := by decide +kernel
theorem k_bipush_109 : (Int8.ofInt (109)).toInt32 = nI 109 := by decide +kernel
theorem k_bipush_110 : (Int8.ofInt (110)).toInt32 = nI 110 := by decide +kernel
theorem k_bipush_111 : (Int8.ofInt (111)).toInt32 = nI 111 := by decide +kernel
theorem k_bipush_112 : (Int8.ofInt (112)).toInt32 = nI 112 := by decide +kernel
theorem k_bipush_114 : (Int8.ofInt (114)).toInt32 = nI 114 := by decide +kernel
theorem k_bipush_115 : (Int8.ofInt (115)).toInt32 = nI 115 := by decide +kernel
theorem k_bipush_116 : (Int8.ofInt (116)).toInt32 = nI 116 := by decide +kernel
theorem k_bipush_117 : (Int8.ofInt (117)).toInt32 = nI 117 := by decide +kernel
theorem k_bipush_118 : (Int8.ofInt (118)).toInt32 = nI 118 := by decide +kernel
theorem k_bipush_119 : (Int8.ofInt (119)).toInt32 = nI 119 := by decide +kernel
theorem k_bipush_121 : (Int8.ofInt (121)).toInt32 = nI 121 := by decide +kernel
theorem k_bipush_122 : (Int8.ofInt (122)).toInt32 = nI 122 := by decide +kernel
theorem k_bipush_124 : (Int8.ofInt (124)).toInt32 = nI 124 := by decide +kernel
theorem k_iconst_m8 : Int32.ofInt (-8) = -8 := by decide +kernel
theorem k_iconst_m8n : Int32.ofInt (-8) = -nI 8 := by decide +kernel
theorem k_iconst_m1 : Int32.ofInt (-1) = -1 := by decide +kernel
theorem k_iconst_m1n : Int32.ofInt (-1) = -nI 1 := by decide +kernel
theorem k_iconst_0 : Int32.ofInt (0) = nI 0 := by decide +kernel
theorem k_iconst_1 : Int32.ofInt (1) = nI 1 := by decide +kernel
theorem k_iconst_2 : Int32.ofInt (2) = nI 2 := by decide +kernel
theorem k_iconst_3 : Int32.ofInt (3) = nI 3 := by decide +kernel
theorem k_iconst_4 : Int32.ofInt (4) = nI 4 := by decide +kernel
theorem k_iconst_5 : Int32.ofInt (5) = nI 5 := by decide +kernel
theorem k_iconst_6 : Int32.ofInt (6) = nI 6 := by decide +kernel
theorem k_iconst_8 : Int32.ofInt (8) = nI 8 := by decide +kernel
theorem k_iconst_16 : Int32.ofInt (16) = nI 16 := by decide +kernel
theorem k_sipush_128 : (Int16.ofInt (128)).toInt32 = nI 128 := by decide +kernel
theorem k_sipush_255 : (Int16.ofInt (255)).toInt32 = nI 255 := by decide +kernel
theorem k_sipush_256 : (Int16.ofInt (256)).toInt32 = nI 256 := by decide +kernel
theorem k_sipush_512 : (Int16.ofInt (512)).toInt32 = nI 512 := by decide +kernel
theorem k_sipush_700 : (Int16.ofInt (700)).toInt32 = nI 700 := by decide +kernel
theorem k_sipush_720 : (Int16.ofInt (720)).toInt32 = nI 720 := by decide +kernel
theorem k_sipush_999 : (Int16.ofInt (999)).toInt32 = nI 999 := by decide +kernel
theorem k_sipush_1023 : (Int16.ofInt (1023)).toInt32 = nI 1023 := by decide +kernel
theorem k_sipush_1024 : (Int16.ofInt (1024)).toInt32 = nI 1024 := by decide +kernel
theorem k_sipush_1200 : (Int16.ofInt (1200)).toInt32 = nI 1200 := by decide +kernel
theorem k_sipush_2000 : (Int16.ofInt (2000)).toInt32 = nI 2000 := by decide +kernel
theorem k_sipush_2001 : (Int16.ofInt (2001)).toInt32 = nI 2001 := by decide +kernel
theorem k_sipush_2002 : (Int16.ofInt (2002)).toInt32 = nI 2002 := by decide +kernel
theorem k_sipush_4096 : (Int16.ofInt (4096)).toInt32 = nI 4096 := by decide +kernel
theorem k_sipush_7680 : (Int16.ofInt (7680)).toInt32 = nI 7680 := by decide +kernel
theorem k_sipush_8191 : (Int16.ofInt (8191)).toInt32 = nI 8191 := by decide +kernel
theorem k_sipush_8192 : (Int16.ofInt (8192)).toInt32 = nI 8192 := by decide +kernel
theorem k_sipush_10000 : (Int16.ofInt (10000)).toInt32 = nI 10000 := by decide +kernel
