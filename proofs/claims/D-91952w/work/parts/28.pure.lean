/-! ===== the pure side: tokens ===== -/
def bB (tp : Nat → Nat) (sz k : Nat) : Nat := if k < sz then tp k else 0
abbrev isL (c : Nat) : Prop := 97 ≤ c ∧ c ≤ 122
abbrev isD (c : Nat) : Prop := 48 ≤ c ∧ c ≤ 57
abbrev isG (c : Nat) : Prop := c = 59 ∨ c = 40 ∨ c = 41 ∨ c = 43 ∨ c = 45 ∨ c = 42 ∨ c = 47 ∨ c = 60 ∨ c = 61
def skN (tp : Nat → Nat) (sz : Nat) : Nat → Nat → Nat
  | 0, p => p
  | n + 1, p => if p < sz ∧ (bB tp sz p = 32 ∨ bB tp sz p = 10) then skN tp sz n (p + 1) else p
def skp (tp : Nat → Nat) (sz p : Nat) : Nat := skN tp sz (sz - p) p
def leN (tp : Nat → Nat) (sz : Nat) : Nat → Nat → Nat
  | 0, p => p
  | n + 1, p => if isL (bB tp sz p) then leN tp sz n (p + 1) else p
def lend (tp : Nat → Nat) (sz p : Nat) : Nat := leN tp sz (sz - p) p
def diN (tp : Nat → Nat) (sz : Nat) : Nat → Nat → Nat
  | 0, p => p
  | n + 1, p => if isD (bB tp sz p) then diN tp sz n (p + 1) else p
def dend (tp : Nat → Nat) (sz p : Nat) : Nat := diN tp sz (sz - p) p
def wdF (tp : Nat → Nat) (sz q : Nat) : Nat → Nat
  | 0 => 0
  | k + 1 => wdF tp sz q k * 2 ^ 5 ||| (bB tp sz (q + k) - 96)
def vlF (tp : Nat → Nat) (sz q : Nat) : Nat → Nat
  | 0 => 0
  | k + 1 => 10 * vlF tp sz q k + bB tp sz (q + k) - 48
/-- a token's fields: next 22, sort 23, place 24, length 25, value 26, sign 27, word 28 -/
def tF (a b c d e f w : Nat) : Nat → Nat := fun k => if k = 22 then a else if k = 23 then b else if k = 24 then c else if k = 25 then d else if k = 26 then e else if k = 27 then f else w
def tk (tp : Nat → Nat) (sz p : Nat) : Nat → Nat :=
  let q := skp tp sz p
  let c := bB tp sz q
  if sz ≤ q then tF q 0 q (q - q) 0 c 0 else
  if isL c then tF (lend tp sz q) 1 q (lend tp sz q - q) 0 c (wdF tp sz q (min (lend tp sz q - q) 7)) else
  if isD c then tF (dend tp sz q) 2 q (dend tp sz q - q) (vlF tp sz q (min (dend tp sz q - q) 3)) c 0 else
  tF (q + 1) (if isG c then 3 else 4) q (q + 1 - q) 0 c 0
def setTok (σ : MS) (f : Nat → Nat) : MS := (fun k => if 22 ≤ k ∧ k ≤ 27 then f k else σ.1 k, σ.2.1, f 28, σ.2.2.2)
theorem tok_eq {σ τ : MS} {f : Nat → Nat} (h22 : gN τ 22 = f 22) (h23 : gN τ 23 = f 23) (h24 : gN τ 24 = f 24) (h25 : gN τ 25 = f 25) (h26 : gN τ 26 = f 26) (h27 : gN τ 27 = f 27) (h1 : ∀ k, k < 22 ∨ 27 < k → gN τ k = gN σ k) (h2 : τ.2.1 = σ.2.1) (h3 : gW τ = f 28) (h4 : τ.2.2.2 = σ.2.2.2) : τ = setTok σ f := by
  obtain ⟨a, b, c, d⟩ := τ
  unfold setTok
  have e1 : a = fun k => if 22 ≤ k ∧ k ≤ 27 then f k else σ.1 k := by
    funext k
    split
    · rcases (show k = 22 ∨ k = 23 ∨ k = 24 ∨ k = 25 ∨ k = 26 ∨ k = 27 by omega) with rfl | rfl | rfl | rfl | rfl | rfl
      · exact h22
      · exact h23
      · exact h24
      · exact h25
      · exact h26
      · exact h27
    · exact h1 k (by omega)
  have e2 : b = σ.2.1 := h2
  have e3 : c = f 28 := h3
  have e4 : d = σ.2.2.2 := h4
  rw [e1, e2, e3, e4]
theorem skN_st (tp : Nat → Nat) (sz : Nat) {p : Nat} (h : p < sz ∧ (bB tp sz p = 32 ∨ bB tp sz p = 10)) : skp tp sz p = skp tp sz (p + 1) := by
  unfold skp
  rw [show sz - p = (sz - (p + 1)) + 1 by omega]
  show (if _ then _ else _) = _
  rw [if_pos h]
theorem skN_no (tp : Nat → Nat) (sz : Nat) {p : Nat} (h : ¬ (p < sz ∧ (bB tp sz p = 32 ∨ bB tp sz p = 10))) : skp tp sz p = p := by
  unfold skp
  cases hn : sz - p with
  | zero => rfl
  | succ n =>
    show (if _ then _ else _) = _
    rw [if_neg h]
theorem bB_lt {tp : Nat → Nat} {sz p : Nat} (h : 0 < bB tp sz p) : p < sz := by
  unfold bB at h
  split at h
  · assumption
  · exact absurd h (by decide)
theorem lend_st (tp : Nat → Nat) (sz : Nat) {p : Nat} (h : isL (bB tp sz p)) : lend tp sz p = lend tp sz (p + 1) := by
  have := bB_lt (show 0 < bB tp sz p by omega)
  unfold lend
  rw [show sz - p = (sz - (p + 1)) + 1 by omega]
  show (if _ then _ else _) = _
  rw [if_pos h]
theorem lend_no (tp : Nat → Nat) (sz : Nat) {p : Nat} (h : ¬ isL (bB tp sz p)) : lend tp sz p = p := by
  unfold lend
  cases hn : sz - p with
  | zero => rfl
  | succ n =>
    show (if _ then _ else _) = _
    rw [if_neg h]
theorem dend_st (tp : Nat → Nat) (sz : Nat) {p : Nat} (h : isD (bB tp sz p)) : dend tp sz p = dend tp sz (p + 1) := by
  have := bB_lt (show 0 < bB tp sz p by omega)
  unfold dend
  rw [show sz - p = (sz - (p + 1)) + 1 by omega]
  show (if _ then _ else _) = _
  rw [if_pos h]
theorem dend_no (tp : Nat → Nat) (sz : Nat) {p : Nat} (h : ¬ isD (bB tp sz p)) : dend tp sz p = p := by
  unfold dend
  cases hn : sz - p with
  | zero => rfl
  | succ n =>
    show (if _ then _ else _) = _
    rw [if_neg h]
theorem vlF_le {tp : Nat → Nat} {sz q : Nat} (h : ∀ k, bB tp sz k < 256) : ∀ n, n ≤ 3 → vlF tp sz q n < 100000
  | 0, _ => by simp [vlF]
  | 1, _ => by have := h (q + 0); simp only [vlF]; omega
  | 2, _ => by have := h (q + 0); have := h (q + 1); simp only [vlF]; omega
  | 3, _ => by have := h (q + 0); have := h (q + 1); have := h (q + 2); simp only [vlF]; omega
  | n + 4, h2 => absurd h2 (by omega)
/-! longs of numbers -/
theorem lN_bv (a : Nat) : (lN a).toBitVec = BitVec.ofNat 64 a := rfl
theorem lN_or (a b : Nat) : lN a ||| lN b = lN (a ||| b) := Int64.toBitVec_inj.mp (by rw [Int64.toBitVec_or, lN_bv, lN_bv, lN_bv, BitVec.ofNat_or])
theorem lN_shl5 (a : Nat) : lN a <<< ((nI 5).toInt64 &&& 63) = lN (a * 2 ^ 5) := by
  rw [show (nI 5).toInt64 &&& 63 = 5 by decide]
  apply Int64.toBitVec_inj.mp
  rw [Int64.toBitVec_shiftLeft, lN_bv, lN_bv]
  apply BitVec.eq_of_toNat_eq
  rw [show ((5 : Int64).toBitVec.smod 64) = 5#64 by decide, BitVec.shiftLeft_eq', BitVec.toNat_shiftLeft, BitVec.toNat_ofNat, BitVec.toNat_ofNat]
  show _ <<< 5 % _ = _
  rw [Nat.shiftLeft_eq]
  simp [Nat.mod_mul_mod]
section VL
variable {G : Gl} {Γ : Fx} {mt : MethodName} {cc : ByteArray} {nL : Nat} {ret : Option FieldType} {tb : List ExceptionTableEntry} {d : Nat} {P : Rs → AH → Prop} {kc ks : Nat} {η : AH} {pc : Nat} {lv : List (Option Value)} {rest : List Value} {a b : Nat}
theorem vl_i2l (h : a < 2147483648) (hdg : decode cc pc = .ok (.i2l, 1)) (kk : V G Γ mt cc nL ret tb d P kc ks η (pc + 1) lv (.long (lN a) :: rest)) : V G Γ mt cc nL ret tb d P kc ks η pc lv (.int (nI a) :: rest) := v_i2l hdg (nI_l h) kk
theorem vl_lor (hdg : decode cc pc = .ok (.lor, 1)) (kk : V G Γ mt cc nL ret tb d P kc ks η (pc + 1) lv (.long (lN (a ||| b)) :: rest)) : V G Γ mt cc nL ret tb d P kc ks η pc lv (.long (lN b) :: .long (lN a) :: rest) := v_lor hdg (by rw [lN_or]; exact kk)
theorem vl_lshl5 (hdg : decode cc pc = .ok (.lshl, 1)) (kk : V G Γ mt cc nL ret tb d P kc ks η (pc + 1) lv (.long (lN (a * 2 ^ 5)) :: rest)) : V G Γ mt cc nL ret tb d P kc ks η pc lv (.int (nI 5) :: .long (lN a) :: rest) := v_lshl hdg (lN_shl5 a) kk
theorem vl_lcmp_ne {tgt : Nat} {off : Int} (hdg : decode cc pc = .ok (.lcmp, 1)) (hdg2 : decode cc (pc + 1) = .ok (.ifCond .ne off, 3)) (ht : ((pc + 1 : Nat) : Int) + off = (tgt : Int)) (ha : a < 2 ^ 63) (hb : b < 2 ^ 63) (kt : ¬ a = b → V G Γ mt cc nL ret tb d P kc ks η tgt lv rest) (kf : a = b → V G Γ mt cc nL ret tb d P kc ks η (pc + 1 + 3) lv rest) : V G Γ mt cc nL ret tb d P kc ks η pc lv (.long (lN b) :: .long (lN a) :: rest) := v_lcmp hdg (v_if_ne hdg2 ht (fun z => kt (fun e => z ((lg_cmp_eq _ _).mpr (by rw [e])))) (fun z => kf ((pk_lEQ ha hb).mp ((lg_cmp_eq _ _).mp z))))
end VL
