/-! ===== the pure side: what bars at shores, aboard, a crossing ===== -/
/-- boats at the shore s, those of gb away -/
def thereN (x gb s : Nat) : Nat → Nat
  | 0 => 0
  | b + 1 => thereN x gb s b + if bt gb b = 0 ∧ bo x b = s then 1 else 0
theorem thereN_le (x gb s : Nat) : ∀ n, thereN x gb s n ≤ n
  | 0 => Nat.le_refl _
  | n + 1 => by
    have h := thereN_le x gb s n
    unfold thereN
    split <;> omega
def lmp (lamp lg x s : Nat) : Nat := if lamp ≠ 0 ∧ lg = 0 ∧ la x = s then 1 else 0
theorem lmp_lt (lamp lg x s : Nat) : lmp lamp lg x s < 2 := by unfold lmp; split <;> decide
def bsN (bf : Nat → Nat → Nat → Nat → Nat) (T B lamp x gone gb lg : Nat) : Nat → Nat
  | 0 => 0
  | s + 1 => bsN bf T B lamp x gone gb lg s ||| bf s (thereN x gb s B) (lmp lamp lg x s) (ndf (setN x s T) gone)
theorem bsN_lt {bf : Nat → Nat → Nat → Nat → Nat} (h : ∀ sh b l s, bf sh b l s < 4096) (T B lamp x gone gb lg : Nat) : ∀ n, bsN bf T B lamp x gone gb lg n < 4096
  | 0 => by simp [bsN]
  | n + 1 => Nat.or_lt_two_pow (n := 12) (bsN_lt h T B lamp x gone gb lg n) (h _ _ _ _)
/-- one law left out (0: none) -/
def kp (w v : Nat) : Nat := if w = 0 then v else ndf v (2 ^ (w - 1))
theorem kp_le (w v : Nat) : kp w v ≤ v := by unfold kp; split; exact Nat.le_refl _; exact ndf_le _ _
/-- all laws that bar at the shores -/
def bs (bf : Nat → Nat → Nat → Nat → Nat) (S T B lamp w x gone gb lg : Nat) : Nat := kp w (bsN bf T B lamp x gone gb lg S)
/-- .. aboard -/
def ab (bf : Nat → Nat → Nat → Nat → Nat) (S lamp w s : Nat) : Nat := kp w (bf S 1 (if lamp = 0 then 0 else 1) s)
theorem ndf_256 {a b : Nat} (h : a < 256) : ndf a b < 256 := Nat.lt_of_le_of_lt (ndf_le a b) h
theorem nI_0w {a : Nat} (h : a < 4294967296) : nI a = 0 ↔ a = 0 := by
  refine ⟨fun e => ?_, fun e => by rw [e]; exact nI_0⟩
  have h2 := pk_tn h
  rw [e] at h2
  exact h2.symm
theorem nI_self (x : Int32) : nI x.toBitVec.toNat = x := i_bv (by rw [nI_bv, BitVec.ofNat_toNat, BitVec.setWidth_eq])
theorem ndf_0 {a b n : Nat} (hb : b < 2 ^ n) (h : ndf a b = 0) : a < 2 ^ n := by
  apply Nat.lt_pow_two_of_testBit
  intro i hi
  have h1 := ndf_tb a b i
  rw [h, Nat.zero_testBit] at h1
  have h2 : b.testBit i = false := Nat.testBit_lt_two_pow (Nat.lt_of_lt_of_le hb (p2_le hi))
  rw [h2] at h1
  simpa using h1.symm
section VNW2
variable {G : Gl} {Γ : Fx} {mt : MethodName} {cc : ByteArray} {nL : Nat} {ret : Option FieldType} {tb : List ExceptionTableEntry} {d : Nat} {P : Rs → AH → Prop} {kc ks : Nat} {η : AH} {pc : Nat} {lv : List (Option Value)} {rest : List Value} {a b : Nat}
theorem vn_if_eqW {off : Int} {tgt : Nat} (hdg : decode cc pc = .ok (.ifCond .eq off, 3)) (ht : (pc : Int) + off = (tgt : Int)) (ha : a < 4294967296) (kt : a = 0 → V G Γ mt cc nL ret tb d P kc ks η tgt lv rest) (kf : ¬ a = 0 → V G Γ mt cc nL ret tb d P kc ks η (pc + 3) lv rest) : V G Γ mt cc nL ret tb d P kc ks η pc lv (.int (nI a) :: rest) := v_if_eq hdg ht (fun z => kt ((nI_0w ha).mp z)) (fun z => kf (fun e => z ((nI_0w ha).mpr e)))
theorem vn_if_neW {off : Int} {tgt : Nat} (hdg : decode cc pc = .ok (.ifCond .ne off, 3)) (ht : (pc : Int) + off = (tgt : Int)) (ha : a < 4294967296) (kt : ¬ a = 0 → V G Γ mt cc nL ret tb d P kc ks η tgt lv rest) (kf : a = 0 → V G Γ mt cc nL ret tb d P kc ks η (pc + 3) lv rest) : V G Γ mt cc nL ret tb d P kc ks η pc lv (.int (nI a) :: rest) := v_if_ne hdg ht (fun z => kt (fun e => z ((nI_0w ha).mpr e))) (fun z => kf ((nI_0w ha).mp z))
end VNW2
/-- a crossing by boat b from x to the shore 'to' with the set s: what bars it but laws -/
def brN (S T lamp : Nat) (wt mn hd ld : Nat → Nat) (fl : Nat → Nat → Nat) (x b to s : Nat) : Nat := if fl (bo x b) to = 0 then 1 else if ¬ ndf s (setN x (bo x b) T) = 0 then 2 else if rowN mn s T = 0 then 3 else if hd b < popc s then 4 else if ld b < sumN wt s T then 5 else if lamp ≠ 0 ∧ ¬ la x = bo x b then 6 else 0
/-- an int that is one of the first n numbers -/
def inr (z : Int32) (n : Nat) : Prop := ∃ j, j < n ∧ z = nI j
theorem inr_neg {z : Int32} {n : Nat} (h : z < 0) (hn : n < 2147483648) : ¬ inr z n := fun ⟨j, hj, e⟩ => absurd h (by rw [e]; exact nI_pos (by omega))
theorem inr_ge {z : Int32} {n : Nat} (h : nI n ≤ z) (hn : n < 2147483648) : ¬ inr z n := fun ⟨j, hj, e⟩ => absurd h (by rw [e]; exact nI_ge hj hn)
theorem inr_of {z : Int32} {n : Nat} (h0 : ¬ z < 0) (h : ¬ nI n ≤ z) (hn : n < 2147483648) : inr z n := by
  obtain ⟨j, h1, h2, -⟩ := pk_mu h0 h hn
  exact ⟨j, h1, h2⟩
theorem rowN_le (mn : Nat → Nat) (s : Nat) : ∀ n, rowN mn s n ≤ n
  | 0 => Nat.le_refl _
  | n + 1 => by
    have h := rowN_le mn s n
    unfold rowN
    split <;> omega
theorem sumN_le {of : Nat → Nat} {M : Nat} (s : Nat) : ∀ n, (∀ t, t < n → of t ≤ M) → sumN of s n ≤ n * M
  | 0, _ => by simp [sumN]
  | n + 1, h => by
    have h1 := sumN_le s n (fun t ht => h t (by omega))
    have h2 := h n (by omega)
    unfold sumN
    rw [Nat.succ_mul]
    split <;> omega
theorem popN_le (s : Nat) : ∀ n, popN s n ≤ n
  | 0 => Nat.le_refl _
  | n + 1 => by
    have h := popN_le s n
    have : bt s n < 2 := Nat.mod_lt _ (by decide)
    unfold popN
    omega
theorem popc_le (s : Nat) : popc s ≤ 8 := popN_le s 8
theorem bo_lt (x b : Nat) : bo x b < 4 := Nat.mod_lt _ (by decide)
theorem la_lt (x : Nat) : la x < 4 := Nat.mod_lt _ (by decide)
theorem sN_sN (σ : MS) (k a b : Nat) : sN (sN σ k a) k b = sN σ k b := by
  unfold sN
  dsimp only
  congr 1
  funext j
  split <;> rfl
theorem sN_self (σ : MS) (k : Nat) : sN σ k (gN σ k) = σ := by
  obtain ⟨a, b⟩ := σ
  unfold sN gN
  dsimp only
  congr 1
  funext j
  split
  · next h => rw [h]
  · rfl
theorem sCP_sN (σ : MS) (k v : Nat) (c : Nat → Nat) (p : Nat → Int32) : sCP (sN σ k v) c p = sN (sCP σ c p) k v := rfl
/-- a crossing judged: why it's barred (0: it isn't), which laws -/
def jd (bf : Nat → Nat → Nat → Nat → Nat) (S T B lamp w : Nat) (x0 : Nat) (z x b to s : Nat) : Nat × Nat :=
  if ¬ z = 0 then (z, 0) else
  if ¬ bs bf S T B lamp w x0 0 0 0 = 0 then (7, bs bf S T B lamp w x0 0 0 0) else
  if ¬ (ab bf S lamp w s ||| bs bf S T B lamp w x s (1 * 2 ^ b) 1) = 0 then (7, ab bf S lamp w s ||| bs bf S T B lamp w x s (1 * 2 ^ b) 1) else
  if ¬ bs bf S T B lamp w (bh T lamp x b to s) 0 0 0 = 0 then (8, bs bf S T B lamp w (bh T lamp x b to s) 0 0 0) else (0, 0)
theorem bs_lt {bf : Nat → Nat → Nat → Nat → Nat} (h : ∀ sh b l s, bf sh b l s < 4096) (S T B lamp w x gone gb lg : Nat) : bs bf S T B lamp w x gone gb lg < 4096 := Nat.lt_of_le_of_lt (kp_le _ _) (bsN_lt h _ _ _ _ _ _ _ _)
theorem ab_lt {bf : Nat → Nat → Nat → Nat → Nat} (h : ∀ sh b l s, bf sh b l s < 4096) (S lamp w s : Nat) : ab bf S lamp w s < 4096 := Nat.lt_of_le_of_lt (kp_le _ _) (h _ _ _ _)
theorem or4096 {a b : Nat} (ha : a < 4096) (hb : b < 4096) : a ||| b < 4096 := Nat.or_lt_two_pow (n := 12) ha hb
theorem bhN_lt {x to s : Nat} (hx : x < 4194304) (ht : to < 4) : ∀ n, n ≤ 8 → bhN x to s n < 4194304
  | 0, _ => hx
  | n + 1, h => by
    have h1 := bhN_lt (s := s) hx ht n (by omega)
    unfold bhN
    split
    · exact set2_lt (n := 22) h1 ht (by omega)
    · exact h1
theorem bh_lt {T lamp x b to s : Nat} (hx : x < 4194304) (hT : T ≤ 8) (hb : b < 2) (ht : to < 4) : bh T lamp x b to s < 4194304 := by
  unfold bh
  have h1 : set2 x (16 + 2 * b) to < 4194304 := set2_lt (n := 22) hx ht (by omega)
  have h2 := bhN_lt (s := s) h1 ht T hT
  dsimp only
  split
  · exact h2
  · exact Nat.or_lt_two_pow (n := 22) (Nat.lt_of_le_of_lt (ndf_le _ _) h2) (by omega)
theorem stN_lt {at_ : Nat → Nat} : ∀ n, n ≤ 2 → (∀ b, b < n → at_ b < 4) → stN at_ n < 1048576
  | 0, _, _ => by simp [stN]
  | n + 1, h, ha => by
    have h1 := stN_lt n (by omega) (fun b hb => ha b (by omega))
    have h2 := ha n (by omega)
    unfold stN
    refine Nat.or_lt_two_pow (n := 20) h1 ?_
    rcases (show n = 0 ∨ n = 1 by omega) with rfl | rfl <;> omega
theorem st0_lt {at_ : Nat → Nat} {B lamp : Nat} (hB : B ≤ 2) (ha : ∀ b, b < B → at_ b < 4) (hl : lamp ≤ 4) : st0 at_ B lamp < 4194304 := by
  have h := stN_lt B hB ha
  unfold st0
  split
  · omega
  · exact Nat.or_lt_two_pow (n := 22) (by omega) (by omega)
theorem brN_0 {S T lamp : Nat} {wt mn hd ld : Nat → Nat} {fl : Nat → Nat → Nat} {x b to s : Nat} (h : brN S T lamp wt mn hd ld fl x b to s = 0) : ¬ fl (bo x b) to = 0 ∧ ndf s (setN x (bo x b) T) = 0 ∧ ¬ rowN mn s T = 0 ∧ popc s ≤ hd b ∧ sumN wt s T ≤ ld b ∧ (lamp = 0 ∨ la x = bo x b) := by
  unfold brN at h
  split at h
  · exact absurd h (by decide)
  split at h
  · exact absurd h (by decide)
  split at h
  · exact absurd h (by decide)
  split at h
  · exact absurd h (by decide)
  split at h
  · exact absurd h (by decide)
  split at h
  · exact absurd h (by decide)
  · next h1 h2 h3 h4 h5 h6 =>
    refine ⟨h1, Classical.not_not.mp h2, h3, by omega, by omega, ?_⟩
    by_cases hl : lamp = 0
    · exact Or.inl hl
    · exact Or.inr (Classical.not_not.mp fun q => h6 ⟨hl, q⟩)
theorem brN_le {S T lamp : Nat} {wt mn hd ld : Nat → Nat} {fl : Nat → Nat → Nat} {x b to s : Nat} : brN S T lamp wt mn hd ld fl x b to s ≤ 6 := by
  unfold brN
  repeat' split
  all_goals omega
