theorem inr_gt {z : Int32} {n : Nat} (h : nI n < z) (hn : n < 2147483647) : ¬ inr z (n + 1) := fun ⟨j, hj, e⟩ => absurd h (by rw [e]; exact nI_nlt (by omega) (by omega))
theorem inr_of2 {z : Int32} {n : Nat} (h0 : ¬ z < 0) (h : ¬ nI n < z) (hn : n < 2147483647) : inr z (n + 1) := inr_of h0 (fun q => h (by
  rw [i_lt]
  rw [i_le, nI_toInt (by omega)] at q
  rw [nI_toInt (by omega)]
  omega)) (by omega)
/-- byte k (0, 8, 16, 24) of v -/
def byI (v : Int32) (k : Nat) : Nat := (v >>> (nI k &&& 31)).toBitVec.toNat % 256
/-- four bytes laid -/
def layN (σ : MS) (v : Int32) : MS := sN (sA (sN (sA (sN (sA (sN (sA σ 17 (gN σ 18) (byI v 24)) 18 (gN σ 18 + 1)) 17 (gN σ 18 + 1) (byI v 16)) 18 (gN σ 18 + 2)) 17 (gN σ 18 + 2) (byI v 8)) 18 (gN σ 18 + 3)) 17 (gN σ 18 + 3) (byI v 0)) 18 (gN σ 18 + 4)
theorem layN_18 (σ : MS) (v : Int32) : gN (layN σ v) 18 = gN σ 18 + 4 := rfl
