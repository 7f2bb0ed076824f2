/-! ===== FerryHallModel: its one object and its arrays ===== -/
set_option maxRecDepth 100000
abbrev MS : Type := (Nat → Nat) × (Nat → Int32) × Nat × (Nat → Nat → Nat) × (Nat → Nat → Int32) × (Nat → Int64)
def gN (σ : MS) (k : Nat) : Nat := σ.1 k
def gI (σ : MS) (k : Nat) : Int32 := σ.2.1 k
def gW (σ : MS) : Nat := σ.2.2.1
def gA (σ : MS) (k : Nat) : Nat → Nat := σ.2.2.2.1 k
def gB (σ : MS) (k : Nat) : Nat → Int32 := σ.2.2.2.2.1 k
def gC (σ : MS) : Nat → Int64 := σ.2.2.2.2.2
def sN (σ : MS) (k v : Nat) : MS := (fun j => if j = k then v else σ.1 j, σ.2)
def sI (σ : MS) (k : Nat) (v : Int32) : MS := (σ.1, fun j => if j = k then v else σ.2.1 j, σ.2.2)
def sW (σ : MS) (v : Nat) : MS := (σ.1, σ.2.1, v, σ.2.2.2)
def sA (σ : MS) (k i v : Nat) : MS := (σ.1, σ.2.1, σ.2.2.1, fun j => if j = k then va_up (σ.2.2.2.1 k) i v else σ.2.2.2.1 j, σ.2.2.2.2)
def sB (σ : MS) (k i : Nat) (v : Int32) : MS := (σ.1, σ.2.1, σ.2.2.1, σ.2.2.2.1, fun j => if j = k then upd (σ.2.2.2.2.1 k) i v else σ.2.2.2.2.1 j, σ.2.2.2.2.2)
def sC (σ : MS) (i : Nat) (v : Int64) : MS := (σ.1, σ.2.1, σ.2.2.1, σ.2.2.2.1, σ.2.2.2.2.1, vp_updL σ.2.2.2.2.2 i v)
theorem gN_sI (σ : MS) (k : Nat) (v : Int32) (j : Nat) : gN (sI σ k v) j = gN σ j := rfl
theorem gN_sW (σ : MS) (v : Nat) (j : Nat) : gN (sW σ v) j = gN σ j := rfl
theorem gN_sA (σ : MS) (k i v : Nat) (j : Nat) : gN (sA σ k i v) j = gN σ j := rfl
theorem gN_sB (σ : MS) (k i : Nat) (v : Int32) (j : Nat) : gN (sB σ k i v) j = gN σ j := rfl
theorem gN_sC (σ : MS) (i : Nat) (v : Int64) (j : Nat) : gN (sC σ i v) j = gN σ j := rfl
theorem gI_sN (σ : MS) (k v : Nat) (j : Nat) : gI (sN σ k v) j = gI σ j := rfl
theorem gI_sW (σ : MS) (v : Nat) (j : Nat) : gI (sW σ v) j = gI σ j := rfl
theorem gI_sA (σ : MS) (k i v : Nat) (j : Nat) : gI (sA σ k i v) j = gI σ j := rfl
theorem gI_sB (σ : MS) (k i : Nat) (v : Int32) (j : Nat) : gI (sB σ k i v) j = gI σ j := rfl
theorem gI_sC (σ : MS) (i : Nat) (v : Int64) (j : Nat) : gI (sC σ i v) j = gI σ j := rfl
theorem gW_sN (σ : MS) (k v : Nat) : gW (sN σ k v) = gW σ := rfl
theorem gW_sI (σ : MS) (k : Nat) (v : Int32) : gW (sI σ k v) = gW σ := rfl
theorem gW_sA (σ : MS) (k i v : Nat) : gW (sA σ k i v) = gW σ := rfl
theorem gW_sB (σ : MS) (k i : Nat) (v : Int32) : gW (sB σ k i v) = gW σ := rfl
theorem gW_sC (σ : MS) (i : Nat) (v : Int64) : gW (sC σ i v) = gW σ := rfl
theorem gA_sN (σ : MS) (k v : Nat) (j : Nat) : gA (sN σ k v) j = gA σ j := rfl
theorem gA_sI (σ : MS) (k : Nat) (v : Int32) (j : Nat) : gA (sI σ k v) j = gA σ j := rfl
theorem gA_sW (σ : MS) (v : Nat) (j : Nat) : gA (sW σ v) j = gA σ j := rfl
theorem gA_sB (σ : MS) (k i : Nat) (v : Int32) (j : Nat) : gA (sB σ k i v) j = gA σ j := rfl
theorem gA_sC (σ : MS) (i : Nat) (v : Int64) (j : Nat) : gA (sC σ i v) j = gA σ j := rfl
theorem gB_sN (σ : MS) (k v : Nat) (j : Nat) : gB (sN σ k v) j = gB σ j := rfl
theorem gB_sI (σ : MS) (k : Nat) (v : Int32) (j : Nat) : gB (sI σ k v) j = gB σ j := rfl
theorem gB_sW (σ : MS) (v : Nat) (j : Nat) : gB (sW σ v) j = gB σ j := rfl
theorem gB_sA (σ : MS) (k i v : Nat) (j : Nat) : gB (sA σ k i v) j = gB σ j := rfl
theorem gB_sC (σ : MS) (i : Nat) (v : Int64) (j : Nat) : gB (sC σ i v) j = gB σ j := rfl
theorem gC_sN (σ : MS) (k v : Nat) : gC (sN σ k v) = gC σ := rfl
theorem gC_sI (σ : MS) (k : Nat) (v : Int32) : gC (sI σ k v) = gC σ := rfl
theorem gC_sW (σ : MS) (v : Nat) : gC (sW σ v) = gC σ := rfl
theorem gC_sA (σ : MS) (k i v : Nat) : gC (sA σ k i v) = gC σ := rfl
theorem gC_sB (σ : MS) (k i : Nat) (v : Int32) : gC (sB σ k i v) = gC σ := rfl
theorem gN_sN (σ : MS) (k v j : Nat) : gN (sN σ k v) j = if j = k then v else gN σ j := rfl
theorem gI_sI (σ : MS) (k : Nat) (v : Int32) (j : Nat) : gI (sI σ k v) j = if j = k then v else gI σ j := rfl
theorem gW_sW (σ : MS) (v : Nat) : gW (sW σ v) = v := rfl
theorem gA_sA (σ : MS) (k i v j : Nat) : gA (sA σ k i v) j = if j = k then va_up (gA σ k) i v else gA σ j := rfl
theorem gB_sB (σ : MS) (k i : Nat) (v : Int32) (j : Nat) : gB (sB σ k i v) j = if j = k then upd (gB σ k) i v else gB σ j := rfl
theorem gC_sC (σ : MS) (i : Nat) (v : Int64) : gC (sC σ i v) = vp_updL (gC σ) i v := rfl
/-- a number or -1: 0 is -1 -/
def oI (n : Nat) : Int32 := match n with
  | 0 => -1
  | k + 1 => nI k
def mT (k : Nat) : Nat := match k with
  | 5 => 1
  | 6 => 3
  | 7 => 3
  | 8 => 3
  | 9 => 3
  | 10 => 3
  | 11 => 3
  | 12 => 5
  | 14 => 4
  | 15 => 3
  | 16 => 3
  | 17 => 3
  | 20 => 1
  | 28 => 2
  | 33 => 1
  | 38 => 3
  | 39 => 3
  | 40 => 3
  | 41 => 3
  | 42 => 3
  | 43 => 3
  | 44 => 4
  | 45 => 3
  | 46 => 3
  | 47 => 3
  | 48 => 5
  | 49 => 5
  | 50 => 3
  | 51 => 4
  | 52 => 1
  | 56 => 3
  | 57 => 3
  | 58 => 3
  | 59 => 7
  | 60 => 3
  | 61 => 3
  | 62 => 3
  | 63 => 3
  | 64 => 3
  | 65 => 6
  | 68 => 3
  | 69 => 3
  | 70 => 1
  | 72 => 3
  | 73 => 3
  | 74 => 3
  | 75 => 3
  | 76 => 3
  | 77 => 3
  | 81 => 3
  | 83 => 7
  | 85 => 1
  | 86 => 3
  | 87 => 3
  | _ => 0
def mLen (k : Nat) : Nat := match k with
  | 6 => 8
  | 7 => 8
  | 8 => 8
  | 9 => 2
  | 10 => 2
  | 11 => 2
  | 12 => 16
  | 14 => 12
  | 15 => 12
  | 16 => 1200
  | 17 => 700
  | 38 => 8
  | 39 => 8
  | 40 => 8
  | 41 => 2
  | 42 => 2
  | 43 => 2
  | 44 => 12
  | 45 => 12
  | 46 => 1200
  | 47 => 720
  | 48 => 16
  | 49 => 9
  | 50 => 7680
  | 51 => 720
  | 56 => 2001
  | 57 => 2002
  | 58 => 2001
  | 59 => 2001
  | 60 => 8192
  | 61 => 40001
  | 62 => 40001
  | 63 => 40001
  | 64 => 40001
  | 65 => 2001
  | 68 => 2
  | 69 => 512
  | 72 => 2001
  | 73 => 2001
  | 74 => 2001
  | 75 => 2001
  | 76 => 2002
  | 77 => 2001
  | 81 => 2
  | 83 => 1024
  | 86 => 61
  | 87 => 61
  | _ => 0
def mL : List Nat := [6, 7, 8, 9, 10, 11, 12, 14, 15, 16, 17, 38, 39, 40, 41, 42, 43, 44, 45, 46, 47, 48, 49, 50, 51, 56, 57, 58, 59, 60, 61, 62, 63, 64, 65, 68, 69, 72, 73, 74, 75, 76, 77, 81, 83, 86, 87]
def mF (ad : Nat → Nat) (σ : MS) (k : Nat) : Value := match mT k with
  | 0 => .int (nI (gN σ k))
  | 1 => .int (oI (gN σ k))
  | 2 => .long (lN (gW σ))
  | _ => .ref (ad k)
def mC (σ : MS) (k : Nat) : CE := match mT k with
  | 3 => aI (mLen k) (fun j => nI (gA σ k j))
  | 4 => aI (mLen k) (gB σ k)
  | 5 => aZ (mLen k) (fun j => nI (gA σ k j))
  | 7 => aI (mLen k) (fun j => oI (gA σ k j))
  | _ => aL (mLen k) (gC σ)
def mHf (m : Nat) (ad : Nat → Nat) (σ : MS) (η0 : AH) : List Nat → AH
  | [], q => η0 q
  | k :: L, q => if q = ad k then some (some m, mC σ k) else mHf m ad σ η0 L q
def MH (m : Nat) (ad : Nat → Nat) (σ : MS) (η0 : AH) : AH := fun q => if q = m then some (some m, ob 9 (mF ad σ)) else mHf m ad σ η0 mL q
def Mp (m : Nat) (ad : Nat → Nat) : Prop := (∀ k ∈ mL, ad k ≠ m) ∧ ∀ j ∈ mL, ∀ k ∈ mL, ad j = ad k → j = k
theorem MH_m {m : Nat} {ad : Nat → Nat} {σ : MS} {η0 : AH} : MH m ad σ η0 m = some (some m, ob 9 (mF ad σ)) := if_pos rfl
theorem mHf_a {m : Nat} {ad : Nat → Nat} {σ : MS} {η0 : AH} : ∀ (L : List Nat), (∀ j ∈ L, j ∈ mL) → (∀ j ∈ mL, ∀ k ∈ mL, ad j = ad k → j = k) → ∀ k ∈ L, mHf m ad σ η0 L (ad k) = some (some m, mC σ k)
  | [], _, _, k, h => absurd h List.not_mem_nil
  | j :: L, hs, hi, k, h => by
    unfold mHf
    by_cases e : ad k = ad j
    · rw [if_pos e, hi k (hs k h) j (hs j List.mem_cons_self) e]
    · rw [if_neg e]
      rcases List.mem_cons.mp h with rfl | h
      · exact absurd rfl e
      · exact mHf_a L (fun i hL => hs i (List.mem_cons_of_mem _ hL)) hi k h
theorem MH_a {m : Nat} {ad : Nat → Nat} {σ : MS} {η0 : AH} (hap : Mp m ad) {k : Nat} (hk : k ∈ mL) : MH m ad σ η0 (ad k) = some (some m, mC σ k) := by
  unfold MH
  rw [if_neg (hap.1 k hk)]
  exact mHf_a mL (fun _ h => h) hap.2 k hk
theorem mHf_c {m : Nat} {ad : Nat → Nat} {σ σ' : MS} {η0 : AH} (h : ∀ k ∈ mL, mC σ k = mC σ' k) : ∀ (L : List Nat), (∀ j ∈ L, j ∈ mL) → ∀ q, mHf m ad σ η0 L q = mHf m ad σ' η0 L q
  | [], _, q => rfl
  | j :: L, hs, q => by
    unfold mHf
    rw [h j (hs j List.mem_cons_self), mHf_c h L (fun i hL => hs i (List.mem_cons_of_mem _ hL)) q]
theorem MH_um {m : Nat} {ad : Nat → Nat} {σ σ' : MS} {η0 : AH} {F : Nat → Value} (hF : F = mF ad σ') (h : ∀ k ∈ mL, mC σ k = mC σ' k) : up (MH m ad σ η0) m (some m, ob 9 F) = MH m ad σ' η0 := by
  subst hF
  funext q
  unfold up MH
  by_cases e : q = m
  · rw [if_pos e, if_pos e]
  · rw [if_neg e, if_neg e, if_neg e]
    exact mHf_c h mL (fun _ h => h) q
theorem mHf_u {m : Nat} {ad : Nat → Nat} {σ σ' : MS} {η0 : AH} {k q : Nat} (hq : q ≠ ad k) (h : ∀ j ∈ mL, j ≠ k → mC σ' j = mC σ j) : ∀ (L : List Nat), (∀ j ∈ L, j ∈ mL) → mHf m ad σ η0 L q = mHf m ad σ' η0 L q
  | [], _ => rfl
  | j :: L, hs => by
    unfold mHf
    by_cases e : q = ad j
    · rw [if_pos e, if_pos e, h j (hs j List.mem_cons_self) (fun z => hq (by rw [← z]; exact e))]
    · rw [if_neg e, if_neg e, mHf_u hq h L (fun i hL => hs i (List.mem_cons_of_mem _ hL))]
theorem MH_ua {m : Nat} {ad : Nat → Nat} {σ σ' : MS} {η0 : AH} (hap : Mp m ad) {k : Nat} {e : CE} (hk : k ∈ mL) (hF : mF ad σ' = mF ad σ) (he : mC σ' k = e) (h : ∀ j ∈ mL, j ≠ k → mC σ' j = mC σ j) : up (MH m ad σ η0) (ad k) (some m, e) = MH m ad σ' η0 := by
  subst he
  funext q
  unfold up
  by_cases e : q = ad k
  · rw [if_pos e, e, MH_a hap hk]
  · rw [if_neg e]
    unfold MH
    by_cases e2 : q = m
    · rw [if_pos e2, if_pos e2, hF]
    · rw [if_neg e2, if_neg e2]
      exact mHf_u e h mL (fun _ h => h)
theorem mC_sN (σ : MS) (k v j : Nat) : mC (sN σ k v) j = mC σ j := rfl
theorem mC_sW (σ : MS) (v j : Nat) : mC (sW σ v) j = mC σ j := rfl
theorem mF_sN {ad : Nat → Nat} (σ : MS) {k : Nat} (v : Nat) (hk : mT k = 0) : updV (mF ad σ) k (.int (nI v)) = mF ad (sN σ k v) := by
  funext j
  unfold updV
  by_cases e : j = k
  · subst e
    rw [if_pos rfl]
    unfold mF
    rw [hk]
    simp [gN_sN]
  · rw [if_neg e]
    unfold mF
    rw [gN_sN, if_neg e]
    rfl
theorem mF_sO {ad : Nat → Nat} (σ : MS) {k : Nat} (v : Nat) (hk : mT k = 1) : updV (mF ad σ) k (.int (oI v)) = mF ad (sN σ k v) := by
  funext j
  unfold updV
  by_cases e : j = k
  · subst e
    rw [if_pos rfl]
    unfold mF
    rw [hk]
    simp [gN_sN]
  · rw [if_neg e]
    unfold mF
    rw [gN_sN, if_neg e]
    rfl
theorem mT_28' (j : Nat) (h : mT j = 2) : j = 28 := by
  unfold mT at h
  split at h <;> first | rfl | (exact absurd h (by decide))
theorem mC_sA (σ : MS) {k : Nat} (i v : Nat) (j : Nat) (hj : j ≠ k) : mC (sA σ k i v) j = mC σ j := by
  unfold mC
  rw [gA_sA, if_neg hj]
  rfl
theorem mC_sB (σ : MS) {k : Nat} (i : Nat) (v : Int32) (j : Nat) (hj : j ≠ k) : mC (sB σ k i v) j = mC σ j := by
  unfold mC
  rw [gB_sB, if_neg hj]
  rfl
theorem mC_sA3 (σ : MS) {k : Nat} (i v : Nat) (hk : mT k = 3) : mC (sA σ k i v) k = aI (mLen k) (upd (fun j => nI (gA σ k j)) i (nI v)) := by
  unfold mC
  rw [hk]
  simp only [gA_sA, if_true]
  congr 3
  funext j
  unfold upd va_up
  split <;> rfl
theorem mC_sA5 (σ : MS) {k : Nat} (i v : Nat) (hk : mT k = 5) : mC (sA σ k i v) k = aZ (mLen k) (upd (fun j => nI (gA σ k j)) i (nI v)) := by
  unfold mC
  rw [hk]
  simp only [gA_sA, if_true]
  congr 3
  funext j
  unfold upd va_up
  split <;> rfl
theorem mC_sA7 (σ : MS) {k : Nat} (i v : Nat) (hk : mT k = 7) : mC (sA σ k i v) k = aI (mLen k) (upd (fun j => oI (gA σ k j)) i (oI v)) := by
  unfold mC
  rw [hk]
  simp only [gA_sA, if_true]
  congr 3
  funext j
  unfold upd va_up
  split <;> rfl
theorem mC_sB4 (σ : MS) {k : Nat} (i : Nat) (v : Int32) (hk : mT k = 4) : mC (sB σ k i v) k = aI (mLen k) (upd (gB σ k) i v) := by
  unfold mC
  rw [hk]
  simp only [gB_sB, if_true]
theorem mC_sC6 (σ : MS) (i : Nat) (v : Int64) : ∀ j ∈ mL, j ≠ 65 → mC (sC σ i v) j = mC σ j := by
  intro j hj hn
  have h : mT j = 3 ∨ mT j = 4 ∨ mT j = 5 ∨ mT j = 7 := (by decide : ∀ j ∈ mL, j ≠ 65 → mT j = 3 ∨ mT j = 4 ∨ mT j = 5 ∨ mT j = 7) j hj hn
  unfold mC
  rcases h with h | h | h | h <;> rw [h] <;> rfl
section VM
variable {G : Gl} {Γ : Fx} {mt : MethodName} {cc : ByteArray} {nL : Nat} {ret : Option FieldType} {tb : List ExceptionTableEntry} {d : Nat} {P : Rs → AH → Prop} {kc ks : Nat} {pc : Nat} {lv : List (Option Value)} {rest : List Value} {m : Nat} {ad : Nat → Nat} {σ : MS} {η0 : AH} {i : Nat}
theorem zb : ∀ {v : Nat}, v < 2 → narrow .boolean (.int (nI v)) = .int (nI v) ∧ fits .boolean (.int (nI v)) = true
  | 0, _ => ⟨rfl, rfl⟩
  | 1, _ => ⟨rfl, rfl⟩
  | v + 2, h => absurd h (by omega)
theorem v_eq {η η' : AH} (h : η = η') (kk : V G Γ mt cc nL ret tb d P kc ks η' pc lv rest) : V G Γ mt cc nL ret tb d P kc ks η pc lv rest := by rw [h]; exact kk
theorem MH_um2 (σ : MS) (v : Nat) : up (MH m ad σ η0) m (some m, ob 9 (updV (mF ad σ) 28 (.long (lN v)))) = MH m ad (sW σ v) η0 := by
  funext q
  unfold up
  by_cases e : q = m
  · rw [if_pos e, e]
    unfold MH
    rw [if_pos rfl]
    congr 4
    funext j
    unfold updV
    by_cases e : j = 28
    · subst e; rfl
    · rw [if_neg e]
      unfold mF
      split <;> first | rfl | (exfalso; rename_i h; exact e (mT_28' j h))
  · rw [if_neg e]
    unfold MH
    rw [if_neg e, if_neg e]
    exact mHf_c (fun j _ => (mC_sW σ v j).symm) mL (fun _ h => h) q
theorem mg_thrown (hmt : mt.cls = RX8) (hdg : decode cc pc = .ok (.getfield 173, 3)) (kk : V G Γ mt cc nL ret tb d P kc ks (MH m ad σ η0) (pc + 3) lv (.int (nI (gN σ 0)) :: rest)) : V G Γ mt cc nL ret tb d P kc ks (MH m ad σ η0) pc lv (.ref m :: rest) := v_get MH_m KX8 0 (by decide) (by rw [hmt]; exact q1916) rfl hdg kk
theorem mp_thrown {v : Nat} (hmt : mt.cls = RX8) (hdg : decode cc pc = .ok (.putfield 173, 3)) (kk : V G Γ mt cc nL ret tb d P kc ks (MH m ad (sN σ 0 v) η0) (pc + 3) lv rest) : V G Γ mt cc nL ret tb d P kc ks (MH m ad σ η0) pc lv (.int (nI v) :: .ref m :: rest) := v_put MH_m KX8 0 (by decide) (by rw [hmt]; exact q1916) rfl rfl rfl hdg (by rw [mF_sN σ v rfl, MH_um rfl (fun j _ => (mC_sN σ 0 v j).symm)]; exact kk)
theorem mg_shores (hmt : mt.cls = RX8) (hdg : decode cc pc = .ok (.getfield 7, 3)) (kk : V G Γ mt cc nL ret tb d P kc ks (MH m ad σ η0) (pc + 3) lv (.int (nI (gN σ 1)) :: rest)) : V G Γ mt cc nL ret tb d P kc ks (MH m ad σ η0) pc lv (.ref m :: rest) := v_get MH_m KX8 1 (by decide) (by rw [hmt]; exact q1917) rfl hdg kk
theorem mp_shores {v : Nat} (hmt : mt.cls = RX8) (hdg : decode cc pc = .ok (.putfield 7, 3)) (kk : V G Γ mt cc nL ret tb d P kc ks (MH m ad (sN σ 1 v) η0) (pc + 3) lv rest) : V G Γ mt cc nL ret tb d P kc ks (MH m ad σ η0) pc lv (.int (nI v) :: .ref m :: rest) := v_put MH_m KX8 1 (by decide) (by rw [hmt]; exact q1917) rfl rfl rfl hdg (by rw [mF_sN σ v rfl, MH_um rfl (fun j _ => (mC_sN σ 1 v j).symm)]; exact kk)
theorem mg_things (hmt : mt.cls = RX8) (hdg : decode cc pc = .ok (.getfield 338, 3)) (kk : V G Γ mt cc nL ret tb d P kc ks (MH m ad σ η0) (pc + 3) lv (.int (nI (gN σ 2)) :: rest)) : V G Γ mt cc nL ret tb d P kc ks (MH m ad σ η0) pc lv (.ref m :: rest) := v_get MH_m KX8 2 (by decide) (by rw [hmt]; exact q1918) rfl hdg kk
theorem mp_things {v : Nat} (hmt : mt.cls = RX8) (hdg : decode cc pc = .ok (.putfield 338, 3)) (kk : V G Γ mt cc nL ret tb d P kc ks (MH m ad (sN σ 2 v) η0) (pc + 3) lv rest) : V G Γ mt cc nL ret tb d P kc ks (MH m ad σ η0) pc lv (.int (nI v) :: .ref m :: rest) := v_put MH_m KX8 2 (by decide) (by rw [hmt]; exact q1918) rfl rfl rfl hdg (by rw [mF_sN σ v rfl, MH_um rfl (fun j _ => (mC_sN σ 2 v j).symm)]; exact kk)
theorem mg_boats (hmt : mt.cls = RX8) (hdg : decode cc pc = .ok (.getfield 341, 3)) (kk : V G Γ mt cc nL ret tb d P kc ks (MH m ad σ η0) (pc + 3) lv (.int (nI (gN σ 3)) :: rest)) : V G Γ mt cc nL ret tb d P kc ks (MH m ad σ η0) pc lv (.ref m :: rest) := v_get MH_m KX8 3 (by decide) (by rw [hmt]; exact q1919) rfl hdg kk
theorem mp_boats {v : Nat} (hmt : mt.cls = RX8) (hdg : decode cc pc = .ok (.putfield 341, 3)) (kk : V G Γ mt cc nL ret tb d P kc ks (MH m ad (sN σ 3 v) η0) (pc + 3) lv rest) : V G Γ mt cc nL ret tb d P kc ks (MH m ad σ η0) pc lv (.int (nI v) :: .ref m :: rest) := v_put MH_m KX8 3 (by decide) (by rw [hmt]; exact q1919) rfl rfl rfl hdg (by rw [mF_sN σ v rfl, MH_um rfl (fun j _ => (mC_sN σ 3 v j).symm)]; exact kk)
theorem mg_laws (hmt : mt.cls = RX8) (hdg : decode cc pc = .ok (.getfield 344, 3)) (kk : V G Γ mt cc nL ret tb d P kc ks (MH m ad σ η0) (pc + 3) lv (.int (nI (gN σ 4)) :: rest)) : V G Γ mt cc nL ret tb d P kc ks (MH m ad σ η0) pc lv (.ref m :: rest) := v_get MH_m KX8 4 (by decide) (by rw [hmt]; exact q1920) rfl hdg kk
theorem mp_laws {v : Nat} (hmt : mt.cls = RX8) (hdg : decode cc pc = .ok (.putfield 344, 3)) (kk : V G Γ mt cc nL ret tb d P kc ks (MH m ad (sN σ 4 v) η0) (pc + 3) lv rest) : V G Γ mt cc nL ret tb d P kc ks (MH m ad σ η0) pc lv (.int (nI v) :: .ref m :: rest) := v_put MH_m KX8 4 (by decide) (by rw [hmt]; exact q1920) rfl rfl rfl hdg (by rw [mF_sN σ v rfl, MH_um rfl (fun j _ => (mC_sN σ 4 v j).symm)]; exact kk)
theorem mg_lampAt (hmt : mt.cls = RX8) (hdg : decode cc pc = .ok (.getfield 13, 3)) (kk : V G Γ mt cc nL ret tb d P kc ks (MH m ad σ η0) (pc + 3) lv (.int (oI (gN σ 5)) :: rest)) : V G Γ mt cc nL ret tb d P kc ks (MH m ad σ η0) pc lv (.ref m :: rest) := v_get MH_m KX8 5 (by decide) (by rw [hmt]; exact q1921) rfl hdg kk
theorem mp_lampAt_o {v : Nat} (hmt : mt.cls = RX8) (hdg : decode cc pc = .ok (.putfield 13, 3)) (kk : V G Γ mt cc nL ret tb d P kc ks (MH m ad (sN σ 5 v) η0) (pc + 3) lv rest) : V G Γ mt cc nL ret tb d P kc ks (MH m ad σ η0) pc lv (.int (oI v) :: .ref m :: rest) := v_put MH_m KX8 5 (by decide) (by rw [hmt]; exact q1921) rfl rfl rfl hdg (v_eq (by rw [show (oI v : Int32) = oI v from rfl, mF_sO σ v rfl, MH_um rfl (fun j _ => (mC_sN σ 5 v j).symm)]) kk)
theorem mp_lampAt_n {v : Nat} (hmt : mt.cls = RX8) (hdg : decode cc pc = .ok (.putfield 13, 3)) (kk : V G Γ mt cc nL ret tb d P kc ks (MH m ad (sN σ 5 (v + 1)) η0) (pc + 3) lv rest) : V G Γ mt cc nL ret tb d P kc ks (MH m ad σ η0) pc lv (.int (nI v) :: .ref m :: rest) := v_put MH_m KX8 5 (by decide) (by rw [hmt]; exact q1921) rfl rfl rfl hdg (v_eq (by rw [show (nI v : Int32) = oI (v + 1) from rfl, mF_sO σ (v + 1) rfl, MH_um rfl (fun j _ => (mC_sN σ 5 (v + 1) j).symm)]) kk)
theorem mp_lampAt_m (hmt : mt.cls = RX8) (hdg : decode cc pc = .ok (.putfield 13, 3)) (kk : V G Γ mt cc nL ret tb d P kc ks (MH m ad (sN σ 5 0) η0) (pc + 3) lv rest) : V G Γ mt cc nL ret tb d P kc ks (MH m ad σ η0) pc lv (.int (-1) :: .ref m :: rest) := v_put MH_m KX8 5 (by decide) (by rw [hmt]; exact q1921) rfl rfl rfl hdg (v_eq (by rw [show (-1 : Int32) = oI 0 from rfl, mF_sO σ 0 rfl, MH_um rfl (fun j _ => (mC_sN σ 5 0 j).symm)]) kk)
theorem mg_weight (hmt : mt.cls = RX8) (hdg : decode cc pc = .ok (.getfield 16, 3)) (kk : V G Γ mt cc nL ret tb d P kc ks (MH m ad σ η0) (pc + 3) lv (.ref (ad 6) :: rest)) : V G Γ mt cc nL ret tb d P kc ks (MH m ad σ η0) pc lv (.ref m :: rest) := v_get MH_m KX8 6 (by decide) (by rw [hmt]; exact q1922) rfl hdg kk
theorem ma_weight (hap : Mp m ad) : MH m ad σ η0 (ad 6) = some (some m, aI 8 (fun j => nI (gA σ 6 j))) := MH_a hap (by decide : 6 ∈ mL)
theorem ml_weight (hap : Mp m ad) (h : i < 8) (hdg : decode cc pc = .ok (.iaload, 1)) (kk : V G Γ mt cc nL ret tb d P kc ks (MH m ad σ η0) (pc + 1) lv (.int (nI (gA σ 6 i)) :: rest)) : V G Γ mt cc nL ret tb d P kc ks (MH m ad σ η0) pc lv (.int (nI i) :: .ref (ad 6) :: rest) := v_iald (ma_weight hap) (vp_in_nI h (by decide)) hdg (by rw [nI_clamp (Nat.lt_of_lt_of_le h (by decide))]; exact kk)
theorem ms_weight {v : Nat} (hap : Mp m ad) (h : i < 8) (hdg : decode cc pc = .ok (.iastore, 1)) (kk : V G Γ mt cc nL ret tb d P kc ks (MH m ad (sA σ 6 i v) η0) (pc + 1) lv rest) : V G Γ mt cc nL ret tb d P kc ks (MH m ad σ η0) pc lv (.int (nI v) :: .int (nI i) :: .ref (ad 6) :: rest) := v_iast (ma_weight hap) (vp_in_nI h (by decide)) hdg (v_eq (by rw [nI_clamp (Nat.lt_of_lt_of_le h (by decide))]; exact MH_ua (σ := σ) (σ' := sA σ 6 i v) hap (by decide : 6 ∈ mL) rfl (mC_sA3 σ (k := 6) i v rfl) (fun j _ hj => mC_sA σ i v j hj)) kk)
theorem mg_minutes (hmt : mt.cls = RX8) (hdg : decode cc pc = .ok (.getfield 20, 3)) (kk : V G Γ mt cc nL ret tb d P kc ks (MH m ad σ η0) (pc + 3) lv (.ref (ad 7) :: rest)) : V G Γ mt cc nL ret tb d P kc ks (MH m ad σ η0) pc lv (.ref m :: rest) := v_get MH_m KX8 7 (by decide) (by rw [hmt]; exact q1923) rfl hdg kk
theorem ma_minutes (hap : Mp m ad) : MH m ad σ η0 (ad 7) = some (some m, aI 8 (fun j => nI (gA σ 7 j))) := MH_a hap (by decide : 7 ∈ mL)
theorem ml_minutes (hap : Mp m ad) (h : i < 8) (hdg : decode cc pc = .ok (.iaload, 1)) (kk : V G Γ mt cc nL ret tb d P kc ks (MH m ad σ η0) (pc + 1) lv (.int (nI (gA σ 7 i)) :: rest)) : V G Γ mt cc nL ret tb d P kc ks (MH m ad σ η0) pc lv (.int (nI i) :: .ref (ad 7) :: rest) := v_iald (ma_minutes hap) (vp_in_nI h (by decide)) hdg (by rw [nI_clamp (Nat.lt_of_lt_of_le h (by decide))]; exact kk)
theorem ms_minutes {v : Nat} (hap : Mp m ad) (h : i < 8) (hdg : decode cc pc = .ok (.iastore, 1)) (kk : V G Γ mt cc nL ret tb d P kc ks (MH m ad (sA σ 7 i v) η0) (pc + 1) lv rest) : V G Γ mt cc nL ret tb d P kc ks (MH m ad σ η0) pc lv (.int (nI v) :: .int (nI i) :: .ref (ad 7) :: rest) := v_iast (ma_minutes hap) (vp_in_nI h (by decide)) hdg (v_eq (by rw [nI_clamp (Nat.lt_of_lt_of_le h (by decide))]; exact MH_ua (σ := σ) (σ' := sA σ 7 i v) hap (by decide : 7 ∈ mL) rfl (mC_sA3 σ (k := 7) i v rfl) (fun j _ hj => mC_sA σ i v j hj)) kk)
theorem mg_letter (hmt : mt.cls = RX8) (hdg : decode cc pc = .ok (.getfield 23, 3)) (kk : V G Γ mt cc nL ret tb d P kc ks (MH m ad σ η0) (pc + 3) lv (.ref (ad 8) :: rest)) : V G Γ mt cc nL ret tb d P kc ks (MH m ad σ η0) pc lv (.ref m :: rest) := v_get MH_m KX8 8 (by decide) (by rw [hmt]; exact q1924) rfl hdg kk
theorem ma_letter (hap : Mp m ad) : MH m ad σ η0 (ad 8) = some (some m, aI 8 (fun j => nI (gA σ 8 j))) := MH_a hap (by decide : 8 ∈ mL)
theorem ml_letter (hap : Mp m ad) (h : i < 8) (hdg : decode cc pc = .ok (.iaload, 1)) (kk : V G Γ mt cc nL ret tb d P kc ks (MH m ad σ η0) (pc + 1) lv (.int (nI (gA σ 8 i)) :: rest)) : V G Γ mt cc nL ret tb d P kc ks (MH m ad σ η0) pc lv (.int (nI i) :: .ref (ad 8) :: rest) := v_iald (ma_letter hap) (vp_in_nI h (by decide)) hdg (by rw [nI_clamp (Nat.lt_of_lt_of_le h (by decide))]; exact kk)
theorem ms_letter {v : Nat} (hap : Mp m ad) (h : i < 8) (hdg : decode cc pc = .ok (.iastore, 1)) (kk : V G Γ mt cc nL ret tb d P kc ks (MH m ad (sA σ 8 i v) η0) (pc + 1) lv rest) : V G Γ mt cc nL ret tb d P kc ks (MH m ad σ η0) pc lv (.int (nI v) :: .int (nI i) :: .ref (ad 8) :: rest) := v_iast (ma_letter hap) (vp_in_nI h (by decide)) hdg (v_eq (by rw [nI_clamp (Nat.lt_of_lt_of_le h (by decide))]; exact MH_ua (σ := σ) (σ' := sA σ 8 i v) hap (by decide : 8 ∈ mL) rfl (mC_sA3 σ (k := 8) i v rfl) (fun j _ hj => mC_sA σ i v j hj)) kk)
theorem mg_holds (hmt : mt.cls = RX8) (hdg : decode cc pc = .ok (.getfield 26, 3)) (kk : V G Γ mt cc nL ret tb d P kc ks (MH m ad σ η0) (pc + 3) lv (.ref (ad 9) :: rest)) : V G Γ mt cc nL ret tb d P kc ks (MH m ad σ η0) pc lv (.ref m :: rest) := v_get MH_m KX8 9 (by decide) (by rw [hmt]; exact q1925) rfl hdg kk
theorem ma_holds (hap : Mp m ad) : MH m ad σ η0 (ad 9) = some (some m, aI 2 (fun j => nI (gA σ 9 j))) := MH_a hap (by decide : 9 ∈ mL)
theorem ml_holds (hap : Mp m ad) (h : i < 2) (hdg : decode cc pc = .ok (.iaload, 1)) (kk : V G Γ mt cc nL ret tb d P kc ks (MH m ad σ η0) (pc + 1) lv (.int (nI (gA σ 9 i)) :: rest)) : V G Γ mt cc nL ret tb d P kc ks (MH m ad σ η0) pc lv (.int (nI i) :: .ref (ad 9) :: rest) := v_iald (ma_holds hap) (vp_in_nI h (by decide)) hdg (by rw [nI_clamp (Nat.lt_of_lt_of_le h (by decide))]; exact kk)
theorem ms_holds {v : Nat} (hap : Mp m ad) (h : i < 2) (hdg : decode cc pc = .ok (.iastore, 1)) (kk : V G Γ mt cc nL ret tb d P kc ks (MH m ad (sA σ 9 i v) η0) (pc + 1) lv rest) : V G Γ mt cc nL ret tb d P kc ks (MH m ad σ η0) pc lv (.int (nI v) :: .int (nI i) :: .ref (ad 9) :: rest) := v_iast (ma_holds hap) (vp_in_nI h (by decide)) hdg (v_eq (by rw [nI_clamp (Nat.lt_of_lt_of_le h (by decide))]; exact MH_ua (σ := σ) (σ' := sA σ 9 i v) hap (by decide : 9 ∈ mL) rfl (mC_sA3 σ (k := 9) i v rfl) (fun j _ hj => mC_sA σ i v j hj)) kk)
theorem mg_loads (hmt : mt.cls = RX8) (hdg : decode cc pc = .ok (.getfield 29, 3)) (kk : V G Γ mt cc nL ret tb d P kc ks (MH m ad σ η0) (pc + 3) lv (.ref (ad 10) :: rest)) : V G Γ mt cc nL ret tb d P kc ks (MH m ad σ η0) pc lv (.ref m :: rest) := v_get MH_m KX8 10 (by decide) (by rw [hmt]; exact q1926) rfl hdg kk
theorem ma_loads (hap : Mp m ad) : MH m ad σ η0 (ad 10) = some (some m, aI 2 (fun j => nI (gA σ 10 j))) := MH_a hap (by decide : 10 ∈ mL)
theorem ml_loads (hap : Mp m ad) (h : i < 2) (hdg : decode cc pc = .ok (.iaload, 1)) (kk : V G Γ mt cc nL ret tb d P kc ks (MH m ad σ η0) (pc + 1) lv (.int (nI (gA σ 10 i)) :: rest)) : V G Γ mt cc nL ret tb d P kc ks (MH m ad σ η0) pc lv (.int (nI i) :: .ref (ad 10) :: rest) := v_iald (ma_loads hap) (vp_in_nI h (by decide)) hdg (by rw [nI_clamp (Nat.lt_of_lt_of_le h (by decide))]; exact kk)
theorem ms_loads {v : Nat} (hap : Mp m ad) (h : i < 2) (hdg : decode cc pc = .ok (.iastore, 1)) (kk : V G Γ mt cc nL ret tb d P kc ks (MH m ad (sA σ 10 i v) η0) (pc + 1) lv rest) : V G Γ mt cc nL ret tb d P kc ks (MH m ad σ η0) pc lv (.int (nI v) :: .int (nI i) :: .ref (ad 10) :: rest) := v_iast (ma_loads hap) (vp_in_nI h (by decide)) hdg (v_eq (by rw [nI_clamp (Nat.lt_of_lt_of_le h (by decide))]; exact MH_ua (σ := σ) (σ' := sA σ 10 i v) hap (by decide : 10 ∈ mL) rfl (mC_sA3 σ (k := 10) i v rfl) (fun j _ hj => mC_sA σ i v j hj)) kk)
theorem mg_boatAt (hmt : mt.cls = RX8) (hdg : decode cc pc = .ok (.getfield 32, 3)) (kk : V G Γ mt cc nL ret tb d P kc ks (MH m ad σ η0) (pc + 3) lv (.ref (ad 11) :: rest)) : V G Γ mt cc nL ret tb d P kc ks (MH m ad σ η0) pc lv (.ref m :: rest) := v_get MH_m KX8 11 (by decide) (by rw [hmt]; exact q1927) rfl hdg kk
theorem ma_boatAt (hap : Mp m ad) : MH m ad σ η0 (ad 11) = some (some m, aI 2 (fun j => nI (gA σ 11 j))) := MH_a hap (by decide : 11 ∈ mL)
theorem ml_boatAt (hap : Mp m ad) (h : i < 2) (hdg : decode cc pc = .ok (.iaload, 1)) (kk : V G Γ mt cc nL ret tb d P kc ks (MH m ad σ η0) (pc + 1) lv (.int (nI (gA σ 11 i)) :: rest)) : V G Γ mt cc nL ret tb d P kc ks (MH m ad σ η0) pc lv (.int (nI i) :: .ref (ad 11) :: rest) := v_iald (ma_boatAt hap) (vp_in_nI h (by decide)) hdg (by rw [nI_clamp (Nat.lt_of_lt_of_le h (by decide))]; exact kk)
theorem ms_boatAt {v : Nat} (hap : Mp m ad) (h : i < 2) (hdg : decode cc pc = .ok (.iastore, 1)) (kk : V G Γ mt cc nL ret tb d P kc ks (MH m ad (sA σ 11 i v) η0) (pc + 1) lv rest) : V G Γ mt cc nL ret tb d P kc ks (MH m ad σ η0) pc lv (.int (nI v) :: .int (nI i) :: .ref (ad 11) :: rest) := v_iast (ma_boatAt hap) (vp_in_nI h (by decide)) hdg (v_eq (by rw [nI_clamp (Nat.lt_of_lt_of_le h (by decide))]; exact MH_ua (σ := σ) (σ' := sA σ 11 i v) hap (by decide : 11 ∈ mL) rfl (mC_sA3 σ (k := 11) i v rfl) (fun j _ hj => mC_sA σ i v j hj)) kk)
theorem mg_wet (hmt : mt.cls = RX8) (hdg : decode cc pc = .ok (.getfield 35, 3)) (kk : V G Γ mt cc nL ret tb d P kc ks (MH m ad σ η0) (pc + 3) lv (.ref (ad 12) :: rest)) : V G Γ mt cc nL ret tb d P kc ks (MH m ad σ η0) pc lv (.ref m :: rest) := v_get MH_m KX8 12 (by decide) (by rw [hmt]; exact q1928) rfl hdg kk
theorem ma_wet (hap : Mp m ad) : MH m ad σ η0 (ad 12) = some (some m, aZ 16 (fun j => nI (gA σ 12 j))) := MH_a hap (by decide : 12 ∈ mL)
theorem ml_wet (hap : Mp m ad) (h : i < 16) (hdg : decode cc pc = .ok (.baload, 1)) (kk : V G Γ mt cc nL ret tb d P kc ks (MH m ad σ η0) (pc + 1) lv (.int (nI (gA σ 12 i)) :: rest)) : V G Γ mt cc nL ret tb d P kc ks (MH m ad σ η0) pc lv (.int (nI i) :: .ref (ad 12) :: rest) := v_zald (ma_wet hap) (vp_in_nI h (by decide)) hdg (by rw [nI_clamp (Nat.lt_of_lt_of_le h (by decide))]; exact kk)
theorem ms_wet {v : Nat} (hap : Mp m ad) (h : i < 16) (hv : v < 2) (hdg : decode cc pc = .ok (.bastore, 1)) (kk : V G Γ mt cc nL ret tb d P kc ks (MH m ad (sA σ 12 i v) η0) (pc + 1) lv rest) : V G Γ mt cc nL ret tb d P kc ks (MH m ad σ η0) pc lv (.int (nI v) :: .int (nI i) :: .ref (ad 12) :: rest) := v_zast (ma_wet hap) (vp_in_nI h (by decide)) (zb hv).1 hdg (v_eq (by rw [nI_clamp (Nat.lt_of_lt_of_le h (by decide))]; exact MH_ua (σ := σ) (σ' := sA σ 12 i v) hap (by decide : 12 ∈ mL) rfl (mC_sA5 σ (k := 12) i v rfl) (fun j _ hj => mC_sA σ i v j hj)) kk)
theorem mg_anyWet (hmt : mt.cls = RX8) (hdg : decode cc pc = .ok (.getfield 347, 3)) (kk : V G Γ mt cc nL ret tb d P kc ks (MH m ad σ η0) (pc + 3) lv (.int (nI (gN σ 13)) :: rest)) : V G Γ mt cc nL ret tb d P kc ks (MH m ad σ η0) pc lv (.ref m :: rest) := v_get MH_m KX8 13 (by decide) (by rw [hmt]; exact q1929) rfl hdg kk
theorem mp_anyWet {v : Nat} (hmt : mt.cls = RX8) (hv : v < 2) (hdg : decode cc pc = .ok (.putfield 347, 3)) (kk : V G Γ mt cc nL ret tb d P kc ks (MH m ad (sN σ 13 v) η0) (pc + 3) lv rest) : V G Γ mt cc nL ret tb d P kc ks (MH m ad σ η0) pc lv (.int (nI v) :: .ref m :: rest) := v_put MH_m KX8 13 (by decide) (by rw [hmt]; exact q1929) rfl (zb hv).1 (zb hv).2 hdg (by rw [mF_sN σ v rfl, MH_um rfl (fun j _ => (mC_sN σ 13 v j).symm)]; exact kk)
theorem mg_scope (hmt : mt.cls = RX8) (hdg : decode cc pc = .ok (.getfield 39, 3)) (kk : V G Γ mt cc nL ret tb d P kc ks (MH m ad σ η0) (pc + 3) lv (.ref (ad 14) :: rest)) : V G Γ mt cc nL ret tb d P kc ks (MH m ad σ η0) pc lv (.ref m :: rest) := v_get MH_m KX8 14 (by decide) (by rw [hmt]; exact q1930) rfl hdg kk
theorem ma_scope (hap : Mp m ad) : MH m ad σ η0 (ad 14) = some (some m, aI 12 (gB σ 14)) := MH_a hap (by decide : 14 ∈ mL)
theorem ml_scope (hap : Mp m ad) (h : i < 12) (hdg : decode cc pc = .ok (.iaload, 1)) (kk : V G Γ mt cc nL ret tb d P kc ks (MH m ad σ η0) (pc + 1) lv (.int (gB σ 14 i) :: rest)) : V G Γ mt cc nL ret tb d P kc ks (MH m ad σ η0) pc lv (.int (nI i) :: .ref (ad 14) :: rest) := v_iald (ma_scope hap) (vp_in_nI h (by decide)) hdg (by rw [nI_clamp (Nat.lt_of_lt_of_le h (by decide))]; exact kk)
theorem ms_scope {v : Int32} (hap : Mp m ad) (h : i < 12) (hdg : decode cc pc = .ok (.iastore, 1)) (kk : V G Γ mt cc nL ret tb d P kc ks (MH m ad (sB σ 14 i v) η0) (pc + 1) lv rest) : V G Γ mt cc nL ret tb d P kc ks (MH m ad σ η0) pc lv (.int v :: .int (nI i) :: .ref (ad 14) :: rest) := v_iast (ma_scope hap) (vp_in_nI h (by decide)) hdg (v_eq (by rw [nI_clamp (Nat.lt_of_lt_of_le h (by decide))]; exact MH_ua (σ := σ) (σ' := sB σ 14 i v) hap (by decide : 14 ∈ mL) rfl (mC_sB4 σ (k := 14) i v rfl) (fun j _ hj => mC_sB σ i v j hj)) kk)
theorem mg_lawAt (hmt : mt.cls = RX8) (hdg : decode cc pc = .ok (.getfield 42, 3)) (kk : V G Γ mt cc nL ret tb d P kc ks (MH m ad σ η0) (pc + 3) lv (.ref (ad 15) :: rest)) : V G Γ mt cc nL ret tb d P kc ks (MH m ad σ η0) pc lv (.ref m :: rest) := v_get MH_m KX8 15 (by decide) (by rw [hmt]; exact q1931) rfl hdg kk
theorem ma_lawAt (hap : Mp m ad) : MH m ad σ η0 (ad 15) = some (some m, aI 12 (fun j => nI (gA σ 15 j))) := MH_a hap (by decide : 15 ∈ mL)
theorem ml_lawAt (hap : Mp m ad) (h : i < 12) (hdg : decode cc pc = .ok (.iaload, 1)) (kk : V G Γ mt cc nL ret tb d P kc ks (MH m ad σ η0) (pc + 1) lv (.int (nI (gA σ 15 i)) :: rest)) : V G Γ mt cc nL ret tb d P kc ks (MH m ad σ η0) pc lv (.int (nI i) :: .ref (ad 15) :: rest) := v_iald (ma_lawAt hap) (vp_in_nI h (by decide)) hdg (by rw [nI_clamp (Nat.lt_of_lt_of_le h (by decide))]; exact kk)
theorem ms_lawAt {v : Nat} (hap : Mp m ad) (h : i < 12) (hdg : decode cc pc = .ok (.iastore, 1)) (kk : V G Γ mt cc nL ret tb d P kc ks (MH m ad (sA σ 15 i v) η0) (pc + 1) lv rest) : V G Γ mt cc nL ret tb d P kc ks (MH m ad σ η0) pc lv (.int (nI v) :: .int (nI i) :: .ref (ad 15) :: rest) := v_iast (ma_lawAt hap) (vp_in_nI h (by decide)) hdg (v_eq (by rw [nI_clamp (Nat.lt_of_lt_of_le h (by decide))]; exact MH_ua (σ := σ) (σ' := sA σ 15 i v) hap (by decide : 15 ∈ mL) rfl (mC_sA3 σ (k := 15) i v rfl) (fun j _ hj => mC_sA σ i v j hj)) kk)
theorem mg_code (hmt : mt.cls = RX8) (hdg : decode cc pc = .ok (.getfield 45, 3)) (kk : V G Γ mt cc nL ret tb d P kc ks (MH m ad σ η0) (pc + 3) lv (.ref (ad 16) :: rest)) : V G Γ mt cc nL ret tb d P kc ks (MH m ad σ η0) pc lv (.ref m :: rest) := v_get MH_m KX8 16 (by decide) (by rw [hmt]; exact q1932) rfl hdg kk
theorem ma_code (hap : Mp m ad) : MH m ad σ η0 (ad 16) = some (some m, aI 1200 (fun j => nI (gA σ 16 j))) := MH_a hap (by decide : 16 ∈ mL)
theorem ml_code (hap : Mp m ad) (h : i < 1200) (hdg : decode cc pc = .ok (.iaload, 1)) (kk : V G Γ mt cc nL ret tb d P kc ks (MH m ad σ η0) (pc + 1) lv (.int (nI (gA σ 16 i)) :: rest)) : V G Γ mt cc nL ret tb d P kc ks (MH m ad σ η0) pc lv (.int (nI i) :: .ref (ad 16) :: rest) := v_iald (ma_code hap) (vp_in_nI h (by decide)) hdg (by rw [nI_clamp (Nat.lt_of_lt_of_le h (by decide))]; exact kk)
theorem ms_code {v : Nat} (hap : Mp m ad) (h : i < 1200) (hdg : decode cc pc = .ok (.iastore, 1)) (kk : V G Γ mt cc nL ret tb d P kc ks (MH m ad (sA σ 16 i v) η0) (pc + 1) lv rest) : V G Γ mt cc nL ret tb d P kc ks (MH m ad σ η0) pc lv (.int (nI v) :: .int (nI i) :: .ref (ad 16) :: rest) := v_iast (ma_code hap) (vp_in_nI h (by decide)) hdg (v_eq (by rw [nI_clamp (Nat.lt_of_lt_of_le h (by decide))]; exact MH_ua (σ := σ) (σ' := sA σ 16 i v) hap (by decide : 16 ∈ mL) rfl (mC_sA3 σ (k := 16) i v rfl) (fun j _ hj => mC_sA σ i v j hj)) kk)
theorem mg_tape (hmt : mt.cls = RX8) (hdg : decode cc pc = .ok (.getfield 48, 3)) (kk : V G Γ mt cc nL ret tb d P kc ks (MH m ad σ η0) (pc + 3) lv (.ref (ad 17) :: rest)) : V G Γ mt cc nL ret tb d P kc ks (MH m ad σ η0) pc lv (.ref m :: rest) := v_get MH_m KX8 17 (by decide) (by rw [hmt]; exact q1933) rfl hdg kk
theorem ma_tape (hap : Mp m ad) : MH m ad σ η0 (ad 17) = some (some m, aI 700 (fun j => nI (gA σ 17 j))) := MH_a hap (by decide : 17 ∈ mL)
theorem ml_tape (hap : Mp m ad) (h : i < 700) (hdg : decode cc pc = .ok (.iaload, 1)) (kk : V G Γ mt cc nL ret tb d P kc ks (MH m ad σ η0) (pc + 1) lv (.int (nI (gA σ 17 i)) :: rest)) : V G Γ mt cc nL ret tb d P kc ks (MH m ad σ η0) pc lv (.int (nI i) :: .ref (ad 17) :: rest) := v_iald (ma_tape hap) (vp_in_nI h (by decide)) hdg (by rw [nI_clamp (Nat.lt_of_lt_of_le h (by decide))]; exact kk)
theorem ms_tape {v : Nat} (hap : Mp m ad) (h : i < 700) (hdg : decode cc pc = .ok (.iastore, 1)) (kk : V G Γ mt cc nL ret tb d P kc ks (MH m ad (sA σ 17 i v) η0) (pc + 1) lv rest) : V G Γ mt cc nL ret tb d P kc ks (MH m ad σ η0) pc lv (.int (nI v) :: .int (nI i) :: .ref (ad 17) :: rest) := v_iast (ma_tape hap) (vp_in_nI h (by decide)) hdg (v_eq (by rw [nI_clamp (Nat.lt_of_lt_of_le h (by decide))]; exact MH_ua (σ := σ) (σ' := sA σ 17 i v) hap (by decide : 17 ∈ mL) rfl (mC_sA3 σ (k := 17) i v rfl) (fun j _ hj => mC_sA σ i v j hj)) kk)
theorem mg_taped (hmt : mt.cls = RX8) (hdg : decode cc pc = .ok (.getfield 176, 3)) (kk : V G Γ mt cc nL ret tb d P kc ks (MH m ad σ η0) (pc + 3) lv (.int (nI (gN σ 18)) :: rest)) : V G Γ mt cc nL ret tb d P kc ks (MH m ad σ η0) pc lv (.ref m :: rest) := v_get MH_m KX8 18 (by decide) (by rw [hmt]; exact q1934) rfl hdg kk
theorem mp_taped {v : Nat} (hmt : mt.cls = RX8) (hdg : decode cc pc = .ok (.putfield 176, 3)) (kk : V G Γ mt cc nL ret tb d P kc ks (MH m ad (sN σ 18 v) η0) (pc + 3) lv rest) : V G Γ mt cc nL ret tb d P kc ks (MH m ad σ η0) pc lv (.int (nI v) :: .ref m :: rest) := v_put MH_m KX8 18 (by decide) (by rw [hmt]; exact q1934) rfl rfl rfl hdg (by rw [mF_sN σ v rfl, MH_um rfl (fun j _ => (mC_sN σ 18 v j).symm)]; exact kk)
theorem mg_faultKind (hmt : mt.cls = RX8) (hdg : decode cc pc = .ok (.getfield 227, 3)) (kk : V G Γ mt cc nL ret tb d P kc ks (MH m ad σ η0) (pc + 3) lv (.int (nI (gN σ 19)) :: rest)) : V G Γ mt cc nL ret tb d P kc ks (MH m ad σ η0) pc lv (.ref m :: rest) := v_get MH_m KX8 19 (by decide) (by rw [hmt]; exact q1935) rfl hdg kk
theorem mp_faultKind {v : Nat} (hmt : mt.cls = RX8) (hdg : decode cc pc = .ok (.putfield 227, 3)) (kk : V G Γ mt cc nL ret tb d P kc ks (MH m ad (sN σ 19 v) η0) (pc + 3) lv rest) : V G Γ mt cc nL ret tb d P kc ks (MH m ad σ η0) pc lv (.int (nI v) :: .ref m :: rest) := v_put MH_m KX8 19 (by decide) (by rw [hmt]; exact q1935) rfl rfl rfl hdg (by rw [mF_sN σ v rfl, MH_um rfl (fun j _ => (mC_sN σ 19 v j).symm)]; exact kk)
theorem mg_faultPlace (hmt : mt.cls = RX8) (hdg : decode cc pc = .ok (.getfield 51, 3)) (kk : V G Γ mt cc nL ret tb d P kc ks (MH m ad σ η0) (pc + 3) lv (.int (oI (gN σ 20)) :: rest)) : V G Γ mt cc nL ret tb d P kc ks (MH m ad σ η0) pc lv (.ref m :: rest) := v_get MH_m KX8 20 (by decide) (by rw [hmt]; exact q1936) rfl hdg kk
theorem mp_faultPlace_o {v : Nat} (hmt : mt.cls = RX8) (hdg : decode cc pc = .ok (.putfield 51, 3)) (kk : V G Γ mt cc nL ret tb d P kc ks (MH m ad (sN σ 20 v) η0) (pc + 3) lv rest) : V G Γ mt cc nL ret tb d P kc ks (MH m ad σ η0) pc lv (.int (oI v) :: .ref m :: rest) := v_put MH_m KX8 20 (by decide) (by rw [hmt]; exact q1936) rfl rfl rfl hdg (v_eq (by rw [show (oI v : Int32) = oI v from rfl, mF_sO σ v rfl, MH_um rfl (fun j _ => (mC_sN σ 20 v j).symm)]) kk)
theorem mp_faultPlace_n {v : Nat} (hmt : mt.cls = RX8) (hdg : decode cc pc = .ok (.putfield 51, 3)) (kk : V G Γ mt cc nL ret tb d P kc ks (MH m ad (sN σ 20 (v + 1)) η0) (pc + 3) lv rest) : V G Γ mt cc nL ret tb d P kc ks (MH m ad σ η0) pc lv (.int (nI v) :: .ref m :: rest) := v_put MH_m KX8 20 (by decide) (by rw [hmt]; exact q1936) rfl rfl rfl hdg (v_eq (by rw [show (nI v : Int32) = oI (v + 1) from rfl, mF_sO σ (v + 1) rfl, MH_um rfl (fun j _ => (mC_sN σ 20 (v + 1) j).symm)]) kk)
theorem mp_faultPlace_m (hmt : mt.cls = RX8) (hdg : decode cc pc = .ok (.putfield 51, 3)) (kk : V G Γ mt cc nL ret tb d P kc ks (MH m ad (sN σ 20 0) η0) (pc + 3) lv rest) : V G Γ mt cc nL ret tb d P kc ks (MH m ad σ η0) pc lv (.int (-1) :: .ref m :: rest) := v_put MH_m KX8 20 (by decide) (by rw [hmt]; exact q1936) rfl rfl rfl hdg (v_eq (by rw [show (-1 : Int32) = oI 0 from rfl, mF_sO σ 0 rfl, MH_um rfl (fun j _ => (mC_sN σ 20 0 j).symm)]) kk)
theorem mg_size (hmt : mt.cls = RX8) (hdg : decode cc pc = .ok (.getfield 183, 3)) (kk : V G Γ mt cc nL ret tb d P kc ks (MH m ad σ η0) (pc + 3) lv (.int (nI (gN σ 21)) :: rest)) : V G Γ mt cc nL ret tb d P kc ks (MH m ad σ η0) pc lv (.ref m :: rest) := v_get MH_m KX8 21 (by decide) (by rw [hmt]; exact q1937) rfl hdg kk
theorem mp_size {v : Nat} (hmt : mt.cls = RX8) (hdg : decode cc pc = .ok (.putfield 183, 3)) (kk : V G Γ mt cc nL ret tb d P kc ks (MH m ad (sN σ 21 v) η0) (pc + 3) lv rest) : V G Γ mt cc nL ret tb d P kc ks (MH m ad σ η0) pc lv (.int (nI v) :: .ref m :: rest) := v_put MH_m KX8 21 (by decide) (by rw [hmt]; exact q1937) rfl rfl rfl hdg (by rw [mF_sN σ v rfl, MH_um rfl (fun j _ => (mC_sN σ 21 v j).symm)]; exact kk)
theorem mg_next (hmt : mt.cls = RX8) (hdg : decode cc pc = .ok (.getfield 186, 3)) (kk : V G Γ mt cc nL ret tb d P kc ks (MH m ad σ η0) (pc + 3) lv (.int (nI (gN σ 22)) :: rest)) : V G Γ mt cc nL ret tb d P kc ks (MH m ad σ η0) pc lv (.ref m :: rest) := v_get MH_m KX8 22 (by decide) (by rw [hmt]; exact q1938) rfl hdg kk
theorem mp_next {v : Nat} (hmt : mt.cls = RX8) (hdg : decode cc pc = .ok (.putfield 186, 3)) (kk : V G Γ mt cc nL ret tb d P kc ks (MH m ad (sN σ 22 v) η0) (pc + 3) lv rest) : V G Γ mt cc nL ret tb d P kc ks (MH m ad σ η0) pc lv (.int (nI v) :: .ref m :: rest) := v_put MH_m KX8 22 (by decide) (by rw [hmt]; exact q1938) rfl rfl rfl hdg (by rw [mF_sN σ v rfl, MH_um rfl (fun j _ => (mC_sN σ 22 v j).symm)]; exact kk)
theorem mg_sort (hmt : mt.cls = RX8) (hdg : decode cc pc = .ok (.getfield 206, 3)) (kk : V G Γ mt cc nL ret tb d P kc ks (MH m ad σ η0) (pc + 3) lv (.int (nI (gN σ 23)) :: rest)) : V G Γ mt cc nL ret tb d P kc ks (MH m ad σ η0) pc lv (.ref m :: rest) := v_get MH_m KX8 23 (by decide) (by rw [hmt]; exact q1939) rfl hdg kk
theorem mp_sort {v : Nat} (hmt : mt.cls = RX8) (hdg : decode cc pc = .ok (.putfield 206, 3)) (kk : V G Γ mt cc nL ret tb d P kc ks (MH m ad (sN σ 23 v) η0) (pc + 3) lv rest) : V G Γ mt cc nL ret tb d P kc ks (MH m ad σ η0) pc lv (.int (nI v) :: .ref m :: rest) := v_put MH_m KX8 23 (by decide) (by rw [hmt]; exact q1939) rfl rfl rfl hdg (by rw [mF_sN σ v rfl, MH_um rfl (fun j _ => (mC_sN σ 23 v j).symm)]; exact kk)
theorem mg_place (hmt : mt.cls = RX8) (hdg : decode cc pc = .ok (.getfield 193, 3)) (kk : V G Γ mt cc nL ret tb d P kc ks (MH m ad σ η0) (pc + 3) lv (.int (nI (gN σ 24)) :: rest)) : V G Γ mt cc nL ret tb d P kc ks (MH m ad σ η0) pc lv (.ref m :: rest) := v_get MH_m KX8 24 (by decide) (by rw [hmt]; exact q1940) rfl hdg kk
theorem mp_place {v : Nat} (hmt : mt.cls = RX8) (hdg : decode cc pc = .ok (.putfield 193, 3)) (kk : V G Γ mt cc nL ret tb d P kc ks (MH m ad (sN σ 24 v) η0) (pc + 3) lv rest) : V G Γ mt cc nL ret tb d P kc ks (MH m ad σ η0) pc lv (.int (nI v) :: .ref m :: rest) := v_put MH_m KX8 24 (by decide) (by rw [hmt]; exact q1940) rfl rfl rfl hdg (by rw [mF_sN σ v rfl, MH_um rfl (fun j _ => (mC_sN σ 24 v j).symm)]; exact kk)
theorem mg_long0 (hmt : mt.cls = RX8) (hdg : decode cc pc = .ok (.getfield 216, 3)) (kk : V G Γ mt cc nL ret tb d P kc ks (MH m ad σ η0) (pc + 3) lv (.int (nI (gN σ 25)) :: rest)) : V G Γ mt cc nL ret tb d P kc ks (MH m ad σ η0) pc lv (.ref m :: rest) := v_get MH_m KX8 25 (by decide) (by rw [hmt]; exact q1941) rfl hdg kk
theorem mp_long0 {v : Nat} (hmt : mt.cls = RX8) (hdg : decode cc pc = .ok (.putfield 216, 3)) (kk : V G Γ mt cc nL ret tb d P kc ks (MH m ad (sN σ 25 v) η0) (pc + 3) lv rest) : V G Γ mt cc nL ret tb d P kc ks (MH m ad σ η0) pc lv (.int (nI v) :: .ref m :: rest) := v_put MH_m KX8 25 (by decide) (by rw [hmt]; exact q1941) rfl rfl rfl hdg (by rw [mF_sN σ v rfl, MH_um rfl (fun j _ => (mC_sN σ 25 v j).symm)]; exact kk)
theorem mg_value (hmt : mt.cls = RX8) (hdg : decode cc pc = .ok (.getfield 200, 3)) (kk : V G Γ mt cc nL ret tb d P kc ks (MH m ad σ η0) (pc + 3) lv (.int (nI (gN σ 26)) :: rest)) : V G Γ mt cc nL ret tb d P kc ks (MH m ad σ η0) pc lv (.ref m :: rest) := v_get MH_m KX8 26 (by decide) (by rw [hmt]; exact q1942) rfl hdg kk
theorem mp_value {v : Nat} (hmt : mt.cls = RX8) (hdg : decode cc pc = .ok (.putfield 200, 3)) (kk : V G Γ mt cc nL ret tb d P kc ks (MH m ad (sN σ 26 v) η0) (pc + 3) lv rest) : V G Γ mt cc nL ret tb d P kc ks (MH m ad σ η0) pc lv (.int (nI v) :: .ref m :: rest) := v_put MH_m KX8 26 (by decide) (by rw [hmt]; exact q1942) rfl rfl rfl hdg (by rw [mF_sN σ v rfl, MH_um rfl (fun j _ => (mC_sN σ 26 v j).symm)]; exact kk)
theorem mg_sign (hmt : mt.cls = RX8) (hdg : decode cc pc = .ok (.getfield 203, 3)) (kk : V G Γ mt cc nL ret tb d P kc ks (MH m ad σ η0) (pc + 3) lv (.int (nI (gN σ 27)) :: rest)) : V G Γ mt cc nL ret tb d P kc ks (MH m ad σ η0) pc lv (.ref m :: rest) := v_get MH_m KX8 27 (by decide) (by rw [hmt]; exact q1943) rfl hdg kk
theorem mp_sign {v : Nat} (hmt : mt.cls = RX8) (hdg : decode cc pc = .ok (.putfield 203, 3)) (kk : V G Γ mt cc nL ret tb d P kc ks (MH m ad (sN σ 27 v) η0) (pc + 3) lv rest) : V G Γ mt cc nL ret tb d P kc ks (MH m ad σ η0) pc lv (.int (nI v) :: .ref m :: rest) := v_put MH_m KX8 27 (by decide) (by rw [hmt]; exact q1943) rfl rfl rfl hdg (by rw [mF_sN σ v rfl, MH_um rfl (fun j _ => (mC_sN σ 27 v j).symm)]; exact kk)
theorem mg_word (hmt : mt.cls = RX8) (hdg : decode cc pc = .ok (.getfield 196, 3)) (kk : V G Γ mt cc nL ret tb d P kc ks (MH m ad σ η0) (pc + 3) lv (.long (lN (gW σ)) :: rest)) : V G Γ mt cc nL ret tb d P kc ks (MH m ad σ η0) pc lv (.ref m :: rest) := v_get MH_m KX8 28 (by decide) (by rw [hmt]; exact q1944) rfl hdg kk
theorem mp_word {v : Nat} (hmt : mt.cls = RX8) (hdg : decode cc pc = .ok (.putfield 196, 3)) (kk : V G Γ mt cc nL ret tb d P kc ks (MH m ad (sW σ v) η0) (pc + 3) lv rest) : V G Γ mt cc nL ret tb d P kc ks (MH m ad σ η0) pc lv (.long (lN v) :: .ref m :: rest) := v_put MH_m KX8 28 (by decide) (by rw [hmt]; exact q1944) rfl rfl rfl hdg (v_eq (MH_um2 σ v) kk)
theorem mg_readShores (hmt : mt.cls = RX8) (hdg : decode cc pc = .ok (.getfield 244, 3)) (kk : V G Γ mt cc nL ret tb d P kc ks (MH m ad σ η0) (pc + 3) lv (.int (nI (gN σ 29)) :: rest)) : V G Γ mt cc nL ret tb d P kc ks (MH m ad σ η0) pc lv (.ref m :: rest) := v_get MH_m KX8 29 (by decide) (by rw [hmt]; exact q1945) rfl hdg kk
theorem mp_readShores {v : Nat} (hmt : mt.cls = RX8) (hdg : decode cc pc = .ok (.putfield 244, 3)) (kk : V G Γ mt cc nL ret tb d P kc ks (MH m ad (sN σ 29 v) η0) (pc + 3) lv rest) : V G Γ mt cc nL ret tb d P kc ks (MH m ad σ η0) pc lv (.int (nI v) :: .ref m :: rest) := v_put MH_m KX8 29 (by decide) (by rw [hmt]; exact q1945) rfl rfl rfl hdg (by rw [mF_sN σ v rfl, MH_um rfl (fun j _ => (mC_sN σ 29 v j).symm)]; exact kk)
theorem mg_readThings (hmt : mt.cls = RX8) (hdg : decode cc pc = .ok (.getfield 247, 3)) (kk : V G Γ mt cc nL ret tb d P kc ks (MH m ad σ η0) (pc + 3) lv (.int (nI (gN σ 30)) :: rest)) : V G Γ mt cc nL ret tb d P kc ks (MH m ad σ η0) pc lv (.ref m :: rest) := v_get MH_m KX8 30 (by decide) (by rw [hmt]; exact q1946) rfl hdg kk
theorem mp_readThings {v : Nat} (hmt : mt.cls = RX8) (hdg : decode cc pc = .ok (.putfield 247, 3)) (kk : V G Γ mt cc nL ret tb d P kc ks (MH m ad (sN σ 30 v) η0) (pc + 3) lv rest) : V G Γ mt cc nL ret tb d P kc ks (MH m ad σ η0) pc lv (.int (nI v) :: .ref m :: rest) := v_put MH_m KX8 30 (by decide) (by rw [hmt]; exact q1946) rfl rfl rfl hdg (by rw [mF_sN σ v rfl, MH_um rfl (fun j _ => (mC_sN σ 30 v j).symm)]; exact kk)
theorem mg_readBoats (hmt : mt.cls = RX8) (hdg : decode cc pc = .ok (.getfield 260, 3)) (kk : V G Γ mt cc nL ret tb d P kc ks (MH m ad σ η0) (pc + 3) lv (.int (nI (gN σ 31)) :: rest)) : V G Γ mt cc nL ret tb d P kc ks (MH m ad σ η0) pc lv (.ref m :: rest) := v_get MH_m KX8 31 (by decide) (by rw [hmt]; exact q1947) rfl hdg kk
theorem mp_readBoats {v : Nat} (hmt : mt.cls = RX8) (hdg : decode cc pc = .ok (.putfield 260, 3)) (kk : V G Γ mt cc nL ret tb d P kc ks (MH m ad (sN σ 31 v) η0) (pc + 3) lv rest) : V G Γ mt cc nL ret tb d P kc ks (MH m ad σ η0) pc lv (.int (nI v) :: .ref m :: rest) := v_put MH_m KX8 31 (by decide) (by rw [hmt]; exact q1947) rfl rfl rfl hdg (by rw [mF_sN σ v rfl, MH_um rfl (fun j _ => (mC_sN σ 31 v j).symm)]; exact kk)
theorem mg_readLaws (hmt : mt.cls = RX8) (hdg : decode cc pc = .ok (.getfield 273, 3)) (kk : V G Γ mt cc nL ret tb d P kc ks (MH m ad σ η0) (pc + 3) lv (.int (nI (gN σ 32)) :: rest)) : V G Γ mt cc nL ret tb d P kc ks (MH m ad σ η0) pc lv (.ref m :: rest) := v_get MH_m KX8 32 (by decide) (by rw [hmt]; exact q1948) rfl hdg kk
theorem mp_readLaws {v : Nat} (hmt : mt.cls = RX8) (hdg : decode cc pc = .ok (.putfield 273, 3)) (kk : V G Γ mt cc nL ret tb d P kc ks (MH m ad (sN σ 32 v) η0) (pc + 3) lv rest) : V G Γ mt cc nL ret tb d P kc ks (MH m ad σ η0) pc lv (.int (nI v) :: .ref m :: rest) := v_put MH_m KX8 32 (by decide) (by rw [hmt]; exact q1948) rfl rfl rfl hdg (by rw [mF_sN σ v rfl, MH_um rfl (fun j _ => (mC_sN σ 32 v j).symm)]; exact kk)
theorem mg_readLamp (hmt : mt.cls = RX8) (hdg : decode cc pc = .ok (.getfield 270, 3)) (kk : V G Γ mt cc nL ret tb d P kc ks (MH m ad σ η0) (pc + 3) lv (.int (oI (gN σ 33)) :: rest)) : V G Γ mt cc nL ret tb d P kc ks (MH m ad σ η0) pc lv (.ref m :: rest) := v_get MH_m KX8 33 (by decide) (by rw [hmt]; exact q1949) rfl hdg kk
theorem mp_readLamp_o {v : Nat} (hmt : mt.cls = RX8) (hdg : decode cc pc = .ok (.putfield 270, 3)) (kk : V G Γ mt cc nL ret tb d P kc ks (MH m ad (sN σ 33 v) η0) (pc + 3) lv rest) : V G Γ mt cc nL ret tb d P kc ks (MH m ad σ η0) pc lv (.int (oI v) :: .ref m :: rest) := v_put MH_m KX8 33 (by decide) (by rw [hmt]; exact q1949) rfl rfl rfl hdg (v_eq (by rw [show (oI v : Int32) = oI v from rfl, mF_sO σ v rfl, MH_um rfl (fun j _ => (mC_sN σ 33 v j).symm)]) kk)
theorem mp_readLamp_n {v : Nat} (hmt : mt.cls = RX8) (hdg : decode cc pc = .ok (.putfield 270, 3)) (kk : V G Γ mt cc nL ret tb d P kc ks (MH m ad (sN σ 33 (v + 1)) η0) (pc + 3) lv rest) : V G Γ mt cc nL ret tb d P kc ks (MH m ad σ η0) pc lv (.int (nI v) :: .ref m :: rest) := v_put MH_m KX8 33 (by decide) (by rw [hmt]; exact q1949) rfl rfl rfl hdg (v_eq (by rw [show (nI v : Int32) = oI (v + 1) from rfl, mF_sO σ (v + 1) rfl, MH_um rfl (fun j _ => (mC_sN σ 33 (v + 1) j).symm)]) kk)
theorem mp_readLamp_m (hmt : mt.cls = RX8) (hdg : decode cc pc = .ok (.putfield 270, 3)) (kk : V G Γ mt cc nL ret tb d P kc ks (MH m ad (sN σ 33 0) η0) (pc + 3) lv rest) : V G Γ mt cc nL ret tb d P kc ks (MH m ad σ η0) pc lv (.int (-1) :: .ref m :: rest) := v_put MH_m KX8 33 (by decide) (by rw [hmt]; exact q1949) rfl rfl rfl hdg (v_eq (by rw [show (-1 : Int32) = oI 0 from rfl, mF_sO σ 0 rfl, MH_um rfl (fun j _ => (mC_sN σ 33 0 j).symm)]) kk)
theorem mg_top (hmt : mt.cls = RX8) (hdg : decode cc pc = .ok (.getfield 298, 3)) (kk : V G Γ mt cc nL ret tb d P kc ks (MH m ad σ η0) (pc + 3) lv (.int (nI (gN σ 34)) :: rest)) : V G Γ mt cc nL ret tb d P kc ks (MH m ad σ η0) pc lv (.ref m :: rest) := v_get MH_m KX8 34 (by decide) (by rw [hmt]; exact q1950) rfl hdg kk
theorem mp_top {v : Nat} (hmt : mt.cls = RX8) (hdg : decode cc pc = .ok (.putfield 298, 3)) (kk : V G Γ mt cc nL ret tb d P kc ks (MH m ad (sN σ 34 v) η0) (pc + 3) lv rest) : V G Γ mt cc nL ret tb d P kc ks (MH m ad σ η0) pc lv (.int (nI v) :: .ref m :: rest) := v_put MH_m KX8 34 (by decide) (by rw [hmt]; exact q1950) rfl rfl rfl hdg (by rw [mF_sN σ v rfl, MH_um rfl (fun j _ => (mC_sN σ 34 v j).symm)]; exact kk)
theorem mg_waiting (hmt : mt.cls = RX8) (hdg : decode cc pc = .ok (.getfield 301, 3)) (kk : V G Γ mt cc nL ret tb d P kc ks (MH m ad σ η0) (pc + 3) lv (.int (nI (gN σ 35)) :: rest)) : V G Γ mt cc nL ret tb d P kc ks (MH m ad σ η0) pc lv (.ref m :: rest) := v_get MH_m KX8 35 (by decide) (by rw [hmt]; exact q1951) rfl hdg kk
theorem mp_waiting {v : Nat} (hmt : mt.cls = RX8) (hdg : decode cc pc = .ok (.putfield 301, 3)) (kk : V G Γ mt cc nL ret tb d P kc ks (MH m ad (sN σ 35 v) η0) (pc + 3) lv rest) : V G Γ mt cc nL ret tb d P kc ks (MH m ad σ η0) pc lv (.int (nI v) :: .ref m :: rest) := v_put MH_m KX8 35 (by decide) (by rw [hmt]; exact q1951) rfl rfl rfl hdg (by rw [mF_sN σ v rfl, MH_um rfl (fun j _ => (mC_sN σ 35 v j).symm)]; exact kk)
theorem mg_depth (hmt : mt.cls = RX8) (hdg : decode cc pc = .ok (.getfield 310, 3)) (kk : V G Γ mt cc nL ret tb d P kc ks (MH m ad σ η0) (pc + 3) lv (.int (nI (gN σ 36)) :: rest)) : V G Γ mt cc nL ret tb d P kc ks (MH m ad σ η0) pc lv (.ref m :: rest) := v_get MH_m KX8 36 (by decide) (by rw [hmt]; exact q1952) rfl hdg kk
theorem mp_depth {v : Nat} (hmt : mt.cls = RX8) (hdg : decode cc pc = .ok (.putfield 310, 3)) (kk : V G Γ mt cc nL ret tb d P kc ks (MH m ad (sN σ 36 v) η0) (pc + 3) lv rest) : V G Γ mt cc nL ret tb d P kc ks (MH m ad σ η0) pc lv (.int (nI v) :: .ref m :: rest) := v_put MH_m KX8 36 (by decide) (by rw [hmt]; exact q1952) rfl rfl rfl hdg (by rw [mF_sN σ v rfl, MH_um rfl (fun j _ => (mC_sN σ 36 v j).symm)]; exact kk)
theorem mg_readWet (hmt : mt.cls = RX8) (hdg : decode cc pc = .ok (.getfield 266, 3)) (kk : V G Γ mt cc nL ret tb d P kc ks (MH m ad σ η0) (pc + 3) lv (.int (nI (gN σ 37)) :: rest)) : V G Γ mt cc nL ret tb d P kc ks (MH m ad σ η0) pc lv (.ref m :: rest) := v_get MH_m KX8 37 (by decide) (by rw [hmt]; exact q1953) rfl hdg kk
theorem mp_readWet {v : Nat} (hmt : mt.cls = RX8) (hv : v < 2) (hdg : decode cc pc = .ok (.putfield 266, 3)) (kk : V G Γ mt cc nL ret tb d P kc ks (MH m ad (sN σ 37 v) η0) (pc + 3) lv rest) : V G Γ mt cc nL ret tb d P kc ks (MH m ad σ η0) pc lv (.int (nI v) :: .ref m :: rest) := v_put MH_m KX8 37 (by decide) (by rw [hmt]; exact q1953) rfl (zb hv).1 (zb hv).2 hdg (by rw [mF_sN σ v rfl, MH_um rfl (fun j _ => (mC_sN σ 37 v j).symm)]; exact kk)
theorem mg_readWeight (hmt : mt.cls = RX8) (hdg : decode cc pc = .ok (.getfield 54, 3)) (kk : V G Γ mt cc nL ret tb d P kc ks (MH m ad σ η0) (pc + 3) lv (.ref (ad 38) :: rest)) : V G Γ mt cc nL ret tb d P kc ks (MH m ad σ η0) pc lv (.ref m :: rest) := v_get MH_m KX8 38 (by decide) (by rw [hmt]; exact q1954) rfl hdg kk
theorem ma_readWeight (hap : Mp m ad) : MH m ad σ η0 (ad 38) = some (some m, aI 8 (fun j => nI (gA σ 38 j))) := MH_a hap (by decide : 38 ∈ mL)
theorem ml_readWeight (hap : Mp m ad) (h : i < 8) (hdg : decode cc pc = .ok (.iaload, 1)) (kk : V G Γ mt cc nL ret tb d P kc ks (MH m ad σ η0) (pc + 1) lv (.int (nI (gA σ 38 i)) :: rest)) : V G Γ mt cc nL ret tb d P kc ks (MH m ad σ η0) pc lv (.int (nI i) :: .ref (ad 38) :: rest) := v_iald (ma_readWeight hap) (vp_in_nI h (by decide)) hdg (by rw [nI_clamp (Nat.lt_of_lt_of_le h (by decide))]; exact kk)
theorem ms_readWeight {v : Nat} (hap : Mp m ad) (h : i < 8) (hdg : decode cc pc = .ok (.iastore, 1)) (kk : V G Γ mt cc nL ret tb d P kc ks (MH m ad (sA σ 38 i v) η0) (pc + 1) lv rest) : V G Γ mt cc nL ret tb d P kc ks (MH m ad σ η0) pc lv (.int (nI v) :: .int (nI i) :: .ref (ad 38) :: rest) := v_iast (ma_readWeight hap) (vp_in_nI h (by decide)) hdg (v_eq (by rw [nI_clamp (Nat.lt_of_lt_of_le h (by decide))]; exact MH_ua (σ := σ) (σ' := sA σ 38 i v) hap (by decide : 38 ∈ mL) rfl (mC_sA3 σ (k := 38) i v rfl) (fun j _ hj => mC_sA σ i v j hj)) kk)
theorem mg_readMinutes (hmt : mt.cls = RX8) (hdg : decode cc pc = .ok (.getfield 57, 3)) (kk : V G Γ mt cc nL ret tb d P kc ks (MH m ad σ η0) (pc + 3) lv (.ref (ad 39) :: rest)) : V G Γ mt cc nL ret tb d P kc ks (MH m ad σ η0) pc lv (.ref m :: rest) := v_get MH_m KX8 39 (by decide) (by rw [hmt]; exact q1955) rfl hdg kk
theorem ma_readMinutes (hap : Mp m ad) : MH m ad σ η0 (ad 39) = some (some m, aI 8 (fun j => nI (gA σ 39 j))) := MH_a hap (by decide : 39 ∈ mL)
theorem ml_readMinutes (hap : Mp m ad) (h : i < 8) (hdg : decode cc pc = .ok (.iaload, 1)) (kk : V G Γ mt cc nL ret tb d P kc ks (MH m ad σ η0) (pc + 1) lv (.int (nI (gA σ 39 i)) :: rest)) : V G Γ mt cc nL ret tb d P kc ks (MH m ad σ η0) pc lv (.int (nI i) :: .ref (ad 39) :: rest) := v_iald (ma_readMinutes hap) (vp_in_nI h (by decide)) hdg (by rw [nI_clamp (Nat.lt_of_lt_of_le h (by decide))]; exact kk)
theorem ms_readMinutes {v : Nat} (hap : Mp m ad) (h : i < 8) (hdg : decode cc pc = .ok (.iastore, 1)) (kk : V G Γ mt cc nL ret tb d P kc ks (MH m ad (sA σ 39 i v) η0) (pc + 1) lv rest) : V G Γ mt cc nL ret tb d P kc ks (MH m ad σ η0) pc lv (.int (nI v) :: .int (nI i) :: .ref (ad 39) :: rest) := v_iast (ma_readMinutes hap) (vp_in_nI h (by decide)) hdg (v_eq (by rw [nI_clamp (Nat.lt_of_lt_of_le h (by decide))]; exact MH_ua (σ := σ) (σ' := sA σ 39 i v) hap (by decide : 39 ∈ mL) rfl (mC_sA3 σ (k := 39) i v rfl) (fun j _ hj => mC_sA σ i v j hj)) kk)
theorem mg_readLetter (hmt : mt.cls = RX8) (hdg : decode cc pc = .ok (.getfield 60, 3)) (kk : V G Γ mt cc nL ret tb d P kc ks (MH m ad σ η0) (pc + 3) lv (.ref (ad 40) :: rest)) : V G Γ mt cc nL ret tb d P kc ks (MH m ad σ η0) pc lv (.ref m :: rest) := v_get MH_m KX8 40 (by decide) (by rw [hmt]; exact q1956) rfl hdg kk
theorem ma_readLetter (hap : Mp m ad) : MH m ad σ η0 (ad 40) = some (some m, aI 8 (fun j => nI (gA σ 40 j))) := MH_a hap (by decide : 40 ∈ mL)
theorem ml_readLetter (hap : Mp m ad) (h : i < 8) (hdg : decode cc pc = .ok (.iaload, 1)) (kk : V G Γ mt cc nL ret tb d P kc ks (MH m ad σ η0) (pc + 1) lv (.int (nI (gA σ 40 i)) :: rest)) : V G Γ mt cc nL ret tb d P kc ks (MH m ad σ η0) pc lv (.int (nI i) :: .ref (ad 40) :: rest) := v_iald (ma_readLetter hap) (vp_in_nI h (by decide)) hdg (by rw [nI_clamp (Nat.lt_of_lt_of_le h (by decide))]; exact kk)
theorem ms_readLetter {v : Nat} (hap : Mp m ad) (h : i < 8) (hdg : decode cc pc = .ok (.iastore, 1)) (kk : V G Γ mt cc nL ret tb d P kc ks (MH m ad (sA σ 40 i v) η0) (pc + 1) lv rest) : V G Γ mt cc nL ret tb d P kc ks (MH m ad σ η0) pc lv (.int (nI v) :: .int (nI i) :: .ref (ad 40) :: rest) := v_iast (ma_readLetter hap) (vp_in_nI h (by decide)) hdg (v_eq (by rw [nI_clamp (Nat.lt_of_lt_of_le h (by decide))]; exact MH_ua (σ := σ) (σ' := sA σ 40 i v) hap (by decide : 40 ∈ mL) rfl (mC_sA3 σ (k := 40) i v rfl) (fun j _ hj => mC_sA σ i v j hj)) kk)
theorem mg_readHolds (hmt : mt.cls = RX8) (hdg : decode cc pc = .ok (.getfield 63, 3)) (kk : V G Γ mt cc nL ret tb d P kc ks (MH m ad σ η0) (pc + 3) lv (.ref (ad 41) :: rest)) : V G Γ mt cc nL ret tb d P kc ks (MH m ad σ η0) pc lv (.ref m :: rest) := v_get MH_m KX8 41 (by decide) (by rw [hmt]; exact q1957) rfl hdg kk
theorem ma_readHolds (hap : Mp m ad) : MH m ad σ η0 (ad 41) = some (some m, aI 2 (fun j => nI (gA σ 41 j))) := MH_a hap (by decide : 41 ∈ mL)
theorem ml_readHolds (hap : Mp m ad) (h : i < 2) (hdg : decode cc pc = .ok (.iaload, 1)) (kk : V G Γ mt cc nL ret tb d P kc ks (MH m ad σ η0) (pc + 1) lv (.int (nI (gA σ 41 i)) :: rest)) : V G Γ mt cc nL ret tb d P kc ks (MH m ad σ η0) pc lv (.int (nI i) :: .ref (ad 41) :: rest) := v_iald (ma_readHolds hap) (vp_in_nI h (by decide)) hdg (by rw [nI_clamp (Nat.lt_of_lt_of_le h (by decide))]; exact kk)
theorem ms_readHolds {v : Nat} (hap : Mp m ad) (h : i < 2) (hdg : decode cc pc = .ok (.iastore, 1)) (kk : V G Γ mt cc nL ret tb d P kc ks (MH m ad (sA σ 41 i v) η0) (pc + 1) lv rest) : V G Γ mt cc nL ret tb d P kc ks (MH m ad σ η0) pc lv (.int (nI v) :: .int (nI i) :: .ref (ad 41) :: rest) := v_iast (ma_readHolds hap) (vp_in_nI h (by decide)) hdg (v_eq (by rw [nI_clamp (Nat.lt_of_lt_of_le h (by decide))]; exact MH_ua (σ := σ) (σ' := sA σ 41 i v) hap (by decide : 41 ∈ mL) rfl (mC_sA3 σ (k := 41) i v rfl) (fun j _ hj => mC_sA σ i v j hj)) kk)
theorem mg_readLoads (hmt : mt.cls = RX8) (hdg : decode cc pc = .ok (.getfield 66, 3)) (kk : V G Γ mt cc nL ret tb d P kc ks (MH m ad σ η0) (pc + 3) lv (.ref (ad 42) :: rest)) : V G Γ mt cc nL ret tb d P kc ks (MH m ad σ η0) pc lv (.ref m :: rest) := v_get MH_m KX8 42 (by decide) (by rw [hmt]; exact q1958) rfl hdg kk
theorem ma_readLoads (hap : Mp m ad) : MH m ad σ η0 (ad 42) = some (some m, aI 2 (fun j => nI (gA σ 42 j))) := MH_a hap (by decide : 42 ∈ mL)
theorem ml_readLoads (hap : Mp m ad) (h : i < 2) (hdg : decode cc pc = .ok (.iaload, 1)) (kk : V G Γ mt cc nL ret tb d P kc ks (MH m ad σ η0) (pc + 1) lv (.int (nI (gA σ 42 i)) :: rest)) : V G Γ mt cc nL ret tb d P kc ks (MH m ad σ η0) pc lv (.int (nI i) :: .ref (ad 42) :: rest) := v_iald (ma_readLoads hap) (vp_in_nI h (by decide)) hdg (by rw [nI_clamp (Nat.lt_of_lt_of_le h (by decide))]; exact kk)
theorem ms_readLoads {v : Nat} (hap : Mp m ad) (h : i < 2) (hdg : decode cc pc = .ok (.iastore, 1)) (kk : V G Γ mt cc nL ret tb d P kc ks (MH m ad (sA σ 42 i v) η0) (pc + 1) lv rest) : V G Γ mt cc nL ret tb d P kc ks (MH m ad σ η0) pc lv (.int (nI v) :: .int (nI i) :: .ref (ad 42) :: rest) := v_iast (ma_readLoads hap) (vp_in_nI h (by decide)) hdg (v_eq (by rw [nI_clamp (Nat.lt_of_lt_of_le h (by decide))]; exact MH_ua (σ := σ) (σ' := sA σ 42 i v) hap (by decide : 42 ∈ mL) rfl (mC_sA3 σ (k := 42) i v rfl) (fun j _ hj => mC_sA σ i v j hj)) kk)
theorem mg_readBoatAt (hmt : mt.cls = RX8) (hdg : decode cc pc = .ok (.getfield 69, 3)) (kk : V G Γ mt cc nL ret tb d P kc ks (MH m ad σ η0) (pc + 3) lv (.ref (ad 43) :: rest)) : V G Γ mt cc nL ret tb d P kc ks (MH m ad σ η0) pc lv (.ref m :: rest) := v_get MH_m KX8 43 (by decide) (by rw [hmt]; exact q1959) rfl hdg kk
theorem ma_readBoatAt (hap : Mp m ad) : MH m ad σ η0 (ad 43) = some (some m, aI 2 (fun j => nI (gA σ 43 j))) := MH_a hap (by decide : 43 ∈ mL)
theorem ml_readBoatAt (hap : Mp m ad) (h : i < 2) (hdg : decode cc pc = .ok (.iaload, 1)) (kk : V G Γ mt cc nL ret tb d P kc ks (MH m ad σ η0) (pc + 1) lv (.int (nI (gA σ 43 i)) :: rest)) : V G Γ mt cc nL ret tb d P kc ks (MH m ad σ η0) pc lv (.int (nI i) :: .ref (ad 43) :: rest) := v_iald (ma_readBoatAt hap) (vp_in_nI h (by decide)) hdg (by rw [nI_clamp (Nat.lt_of_lt_of_le h (by decide))]; exact kk)
theorem ms_readBoatAt {v : Nat} (hap : Mp m ad) (h : i < 2) (hdg : decode cc pc = .ok (.iastore, 1)) (kk : V G Γ mt cc nL ret tb d P kc ks (MH m ad (sA σ 43 i v) η0) (pc + 1) lv rest) : V G Γ mt cc nL ret tb d P kc ks (MH m ad σ η0) pc lv (.int (nI v) :: .int (nI i) :: .ref (ad 43) :: rest) := v_iast (ma_readBoatAt hap) (vp_in_nI h (by decide)) hdg (v_eq (by rw [nI_clamp (Nat.lt_of_lt_of_le h (by decide))]; exact MH_ua (σ := σ) (σ' := sA σ 43 i v) hap (by decide : 43 ∈ mL) rfl (mC_sA3 σ (k := 43) i v rfl) (fun j _ hj => mC_sA σ i v j hj)) kk)
theorem mg_readScope (hmt : mt.cls = RX8) (hdg : decode cc pc = .ok (.getfield 72, 3)) (kk : V G Γ mt cc nL ret tb d P kc ks (MH m ad σ η0) (pc + 3) lv (.ref (ad 44) :: rest)) : V G Γ mt cc nL ret tb d P kc ks (MH m ad σ η0) pc lv (.ref m :: rest) := v_get MH_m KX8 44 (by decide) (by rw [hmt]; exact q1960) rfl hdg kk
theorem ma_readScope (hap : Mp m ad) : MH m ad σ η0 (ad 44) = some (some m, aI 12 (gB σ 44)) := MH_a hap (by decide : 44 ∈ mL)
theorem ml_readScope (hap : Mp m ad) (h : i < 12) (hdg : decode cc pc = .ok (.iaload, 1)) (kk : V G Γ mt cc nL ret tb d P kc ks (MH m ad σ η0) (pc + 1) lv (.int (gB σ 44 i) :: rest)) : V G Γ mt cc nL ret tb d P kc ks (MH m ad σ η0) pc lv (.int (nI i) :: .ref (ad 44) :: rest) := v_iald (ma_readScope hap) (vp_in_nI h (by decide)) hdg (by rw [nI_clamp (Nat.lt_of_lt_of_le h (by decide))]; exact kk)
theorem ms_readScope {v : Int32} (hap : Mp m ad) (h : i < 12) (hdg : decode cc pc = .ok (.iastore, 1)) (kk : V G Γ mt cc nL ret tb d P kc ks (MH m ad (sB σ 44 i v) η0) (pc + 1) lv rest) : V G Γ mt cc nL ret tb d P kc ks (MH m ad σ η0) pc lv (.int v :: .int (nI i) :: .ref (ad 44) :: rest) := v_iast (ma_readScope hap) (vp_in_nI h (by decide)) hdg (v_eq (by rw [nI_clamp (Nat.lt_of_lt_of_le h (by decide))]; exact MH_ua (σ := σ) (σ' := sB σ 44 i v) hap (by decide : 44 ∈ mL) rfl (mC_sB4 σ (k := 44) i v rfl) (fun j _ hj => mC_sB σ i v j hj)) kk)
theorem mg_readLawAt (hmt : mt.cls = RX8) (hdg : decode cc pc = .ok (.getfield 75, 3)) (kk : V G Γ mt cc nL ret tb d P kc ks (MH m ad σ η0) (pc + 3) lv (.ref (ad 45) :: rest)) : V G Γ mt cc nL ret tb d P kc ks (MH m ad σ η0) pc lv (.ref m :: rest) := v_get MH_m KX8 45 (by decide) (by rw [hmt]; exact q1961) rfl hdg kk
theorem ma_readLawAt (hap : Mp m ad) : MH m ad σ η0 (ad 45) = some (some m, aI 12 (fun j => nI (gA σ 45 j))) := MH_a hap (by decide : 45 ∈ mL)
theorem ml_readLawAt (hap : Mp m ad) (h : i < 12) (hdg : decode cc pc = .ok (.iaload, 1)) (kk : V G Γ mt cc nL ret tb d P kc ks (MH m ad σ η0) (pc + 1) lv (.int (nI (gA σ 45 i)) :: rest)) : V G Γ mt cc nL ret tb d P kc ks (MH m ad σ η0) pc lv (.int (nI i) :: .ref (ad 45) :: rest) := v_iald (ma_readLawAt hap) (vp_in_nI h (by decide)) hdg (by rw [nI_clamp (Nat.lt_of_lt_of_le h (by decide))]; exact kk)
theorem ms_readLawAt {v : Nat} (hap : Mp m ad) (h : i < 12) (hdg : decode cc pc = .ok (.iastore, 1)) (kk : V G Γ mt cc nL ret tb d P kc ks (MH m ad (sA σ 45 i v) η0) (pc + 1) lv rest) : V G Γ mt cc nL ret tb d P kc ks (MH m ad σ η0) pc lv (.int (nI v) :: .int (nI i) :: .ref (ad 45) :: rest) := v_iast (ma_readLawAt hap) (vp_in_nI h (by decide)) hdg (v_eq (by rw [nI_clamp (Nat.lt_of_lt_of_le h (by decide))]; exact MH_ua (σ := σ) (σ' := sA σ 45 i v) hap (by decide : 45 ∈ mL) rfl (mC_sA3 σ (k := 45) i v rfl) (fun j _ hj => mC_sA σ i v j hj)) kk)
theorem mg_read (hmt : mt.cls = RX8) (hdg : decode cc pc = .ok (.getfield 78, 3)) (kk : V G Γ mt cc nL ret tb d P kc ks (MH m ad σ η0) (pc + 3) lv (.ref (ad 46) :: rest)) : V G Γ mt cc nL ret tb d P kc ks (MH m ad σ η0) pc lv (.ref m :: rest) := v_get MH_m KX8 46 (by decide) (by rw [hmt]; exact q1962) rfl hdg kk
theorem ma_read (hap : Mp m ad) : MH m ad σ η0 (ad 46) = some (some m, aI 1200 (fun j => nI (gA σ 46 j))) := MH_a hap (by decide : 46 ∈ mL)
theorem ml_read (hap : Mp m ad) (h : i < 1200) (hdg : decode cc pc = .ok (.iaload, 1)) (kk : V G Γ mt cc nL ret tb d P kc ks (MH m ad σ η0) (pc + 1) lv (.int (nI (gA σ 46 i)) :: rest)) : V G Γ mt cc nL ret tb d P kc ks (MH m ad σ η0) pc lv (.int (nI i) :: .ref (ad 46) :: rest) := v_iald (ma_read hap) (vp_in_nI h (by decide)) hdg (by rw [nI_clamp (Nat.lt_of_lt_of_le h (by decide))]; exact kk)
theorem ms_read {v : Nat} (hap : Mp m ad) (h : i < 1200) (hdg : decode cc pc = .ok (.iastore, 1)) (kk : V G Γ mt cc nL ret tb d P kc ks (MH m ad (sA σ 46 i v) η0) (pc + 1) lv rest) : V G Γ mt cc nL ret tb d P kc ks (MH m ad σ η0) pc lv (.int (nI v) :: .int (nI i) :: .ref (ad 46) :: rest) := v_iast (ma_read hap) (vp_in_nI h (by decide)) hdg (v_eq (by rw [nI_clamp (Nat.lt_of_lt_of_le h (by decide))]; exact MH_ua (σ := σ) (σ' := sA σ 46 i v) hap (by decide : 46 ∈ mL) rfl (mC_sA3 σ (k := 46) i v rfl) (fun j _ hj => mC_sA σ i v j hj)) kk)
theorem mg_waits (hmt : mt.cls = RX8) (hdg : decode cc pc = .ok (.getfield 81, 3)) (kk : V G Γ mt cc nL ret tb d P kc ks (MH m ad σ η0) (pc + 3) lv (.ref (ad 47) :: rest)) : V G Γ mt cc nL ret tb d P kc ks (MH m ad σ η0) pc lv (.ref m :: rest) := v_get MH_m KX8 47 (by decide) (by rw [hmt]; exact q1963) rfl hdg kk
theorem ma_waits (hap : Mp m ad) : MH m ad σ η0 (ad 47) = some (some m, aI 720 (fun j => nI (gA σ 47 j))) := MH_a hap (by decide : 47 ∈ mL)
theorem ml_waits (hap : Mp m ad) (h : i < 720) (hdg : decode cc pc = .ok (.iaload, 1)) (kk : V G Γ mt cc nL ret tb d P kc ks (MH m ad σ η0) (pc + 1) lv (.int (nI (gA σ 47 i)) :: rest)) : V G Γ mt cc nL ret tb d P kc ks (MH m ad σ η0) pc lv (.int (nI i) :: .ref (ad 47) :: rest) := v_iald (ma_waits hap) (vp_in_nI h (by decide)) hdg (by rw [nI_clamp (Nat.lt_of_lt_of_le h (by decide))]; exact kk)
theorem ms_waits {v : Nat} (hap : Mp m ad) (h : i < 720) (hdg : decode cc pc = .ok (.iastore, 1)) (kk : V G Γ mt cc nL ret tb d P kc ks (MH m ad (sA σ 47 i v) η0) (pc + 1) lv rest) : V G Γ mt cc nL ret tb d P kc ks (MH m ad σ η0) pc lv (.int (nI v) :: .int (nI i) :: .ref (ad 47) :: rest) := v_iast (ma_waits hap) (vp_in_nI h (by decide)) hdg (v_eq (by rw [nI_clamp (Nat.lt_of_lt_of_le h (by decide))]; exact MH_ua (σ := σ) (σ' := sA σ 47 i v) hap (by decide : 47 ∈ mL) rfl (mC_sA3 σ (k := 47) i v rfl) (fun j _ hj => mC_sA σ i v j hj)) kk)
theorem mg_readWater (hmt : mt.cls = RX8) (hdg : decode cc pc = .ok (.getfield 84, 3)) (kk : V G Γ mt cc nL ret tb d P kc ks (MH m ad σ η0) (pc + 3) lv (.ref (ad 48) :: rest)) : V G Γ mt cc nL ret tb d P kc ks (MH m ad σ η0) pc lv (.ref m :: rest) := v_get MH_m KX8 48 (by decide) (by rw [hmt]; exact q1964) rfl hdg kk
theorem ma_readWater (hap : Mp m ad) : MH m ad σ η0 (ad 48) = some (some m, aZ 16 (fun j => nI (gA σ 48 j))) := MH_a hap (by decide : 48 ∈ mL)
theorem ml_readWater (hap : Mp m ad) (h : i < 16) (hdg : decode cc pc = .ok (.baload, 1)) (kk : V G Γ mt cc nL ret tb d P kc ks (MH m ad σ η0) (pc + 1) lv (.int (nI (gA σ 48 i)) :: rest)) : V G Γ mt cc nL ret tb d P kc ks (MH m ad σ η0) pc lv (.int (nI i) :: .ref (ad 48) :: rest) := v_zald (ma_readWater hap) (vp_in_nI h (by decide)) hdg (by rw [nI_clamp (Nat.lt_of_lt_of_le h (by decide))]; exact kk)
theorem ms_readWater {v : Nat} (hap : Mp m ad) (h : i < 16) (hv : v < 2) (hdg : decode cc pc = .ok (.bastore, 1)) (kk : V G Γ mt cc nL ret tb d P kc ks (MH m ad (sA σ 48 i v) η0) (pc + 1) lv rest) : V G Γ mt cc nL ret tb d P kc ks (MH m ad σ η0) pc lv (.int (nI v) :: .int (nI i) :: .ref (ad 48) :: rest) := v_zast (ma_readWater hap) (vp_in_nI h (by decide)) (zb hv).1 hdg (v_eq (by rw [nI_clamp (Nat.lt_of_lt_of_le h (by decide))]; exact MH_ua (σ := σ) (σ' := sA σ 48 i v) hap (by decide : 48 ∈ mL) rfl (mC_sA5 σ (k := 48) i v rfl) (fun j _ hj => mC_sA σ i v j hj)) kk)
theorem mg_tested (hmt : mt.cls = RX8) (hdg : decode cc pc = .ok (.getfield 87, 3)) (kk : V G Γ mt cc nL ret tb d P kc ks (MH m ad σ η0) (pc + 3) lv (.ref (ad 49) :: rest)) : V G Γ mt cc nL ret tb d P kc ks (MH m ad σ η0) pc lv (.ref m :: rest) := v_get MH_m KX8 49 (by decide) (by rw [hmt]; exact q1965) rfl hdg kk
theorem ma_tested (hap : Mp m ad) : MH m ad σ η0 (ad 49) = some (some m, aZ 9 (fun j => nI (gA σ 49 j))) := MH_a hap (by decide : 49 ∈ mL)
theorem ml_tested (hap : Mp m ad) (h : i < 9) (hdg : decode cc pc = .ok (.baload, 1)) (kk : V G Γ mt cc nL ret tb d P kc ks (MH m ad σ η0) (pc + 1) lv (.int (nI (gA σ 49 i)) :: rest)) : V G Γ mt cc nL ret tb d P kc ks (MH m ad σ η0) pc lv (.int (nI i) :: .ref (ad 49) :: rest) := v_zald (ma_tested hap) (vp_in_nI h (by decide)) hdg (by rw [nI_clamp (Nat.lt_of_lt_of_le h (by decide))]; exact kk)
theorem ms_tested {v : Nat} (hap : Mp m ad) (h : i < 9) (hv : v < 2) (hdg : decode cc pc = .ok (.bastore, 1)) (kk : V G Γ mt cc nL ret tb d P kc ks (MH m ad (sA σ 49 i v) η0) (pc + 1) lv rest) : V G Γ mt cc nL ret tb d P kc ks (MH m ad σ η0) pc lv (.int (nI v) :: .int (nI i) :: .ref (ad 49) :: rest) := v_zast (ma_tested hap) (vp_in_nI h (by decide)) (zb hv).1 hdg (v_eq (by rw [nI_clamp (Nat.lt_of_lt_of_le h (by decide))]; exact MH_ua (σ := σ) (σ' := sA σ 49 i v) hap (by decide : 49 ∈ mL) rfl (mC_sA5 σ (k := 49) i v rfl) (fun j _ hj => mC_sA σ i v j hj)) kk)
theorem mg_barred (hmt : mt.cls = RX8) (hdg : decode cc pc = .ok (.getfield 90, 3)) (kk : V G Γ mt cc nL ret tb d P kc ks (MH m ad σ η0) (pc + 3) lv (.ref (ad 50) :: rest)) : V G Γ mt cc nL ret tb d P kc ks (MH m ad σ η0) pc lv (.ref m :: rest) := v_get MH_m KX8 50 (by decide) (by rw [hmt]; exact q1966) rfl hdg kk
theorem ma_barred (hap : Mp m ad) : MH m ad σ η0 (ad 50) = some (some m, aI 7680 (fun j => nI (gA σ 50 j))) := MH_a hap (by decide : 50 ∈ mL)
theorem ml_barred (hap : Mp m ad) (h : i < 7680) (hdg : decode cc pc = .ok (.iaload, 1)) (kk : V G Γ mt cc nL ret tb d P kc ks (MH m ad σ η0) (pc + 1) lv (.int (nI (gA σ 50 i)) :: rest)) : V G Γ mt cc nL ret tb d P kc ks (MH m ad σ η0) pc lv (.int (nI i) :: .ref (ad 50) :: rest) := v_iald (ma_barred hap) (vp_in_nI h (by decide)) hdg (by rw [nI_clamp (Nat.lt_of_lt_of_le h (by decide))]; exact kk)
theorem ms_barred {v : Nat} (hap : Mp m ad) (h : i < 7680) (hdg : decode cc pc = .ok (.iastore, 1)) (kk : V G Γ mt cc nL ret tb d P kc ks (MH m ad (sA σ 50 i v) η0) (pc + 1) lv rest) : V G Γ mt cc nL ret tb d P kc ks (MH m ad σ η0) pc lv (.int (nI v) :: .int (nI i) :: .ref (ad 50) :: rest) := v_iast (ma_barred hap) (vp_in_nI h (by decide)) hdg (v_eq (by rw [nI_clamp (Nat.lt_of_lt_of_le h (by decide))]; exact MH_ua (σ := σ) (σ' := sA σ 50 i v) hap (by decide : 50 ∈ mL) rfl (mC_sA3 σ (k := 50) i v rfl) (fun j _ hj => mC_sA σ i v j hj)) kk)
theorem mg_pile (hmt : mt.cls = RX8) (hdg : decode cc pc = .ok (.getfield 93, 3)) (kk : V G Γ mt cc nL ret tb d P kc ks (MH m ad σ η0) (pc + 3) lv (.ref (ad 51) :: rest)) : V G Γ mt cc nL ret tb d P kc ks (MH m ad σ η0) pc lv (.ref m :: rest) := v_get MH_m KX8 51 (by decide) (by rw [hmt]; exact q1967) rfl hdg kk
theorem ma_pile (hap : Mp m ad) : MH m ad σ η0 (ad 51) = some (some m, aI 720 (gB σ 51)) := MH_a hap (by decide : 51 ∈ mL)
theorem ml_pile (hap : Mp m ad) (h : i < 720) (hdg : decode cc pc = .ok (.iaload, 1)) (kk : V G Γ mt cc nL ret tb d P kc ks (MH m ad σ η0) (pc + 1) lv (.int (gB σ 51 i) :: rest)) : V G Γ mt cc nL ret tb d P kc ks (MH m ad σ η0) pc lv (.int (nI i) :: .ref (ad 51) :: rest) := v_iald (ma_pile hap) (vp_in_nI h (by decide)) hdg (by rw [nI_clamp (Nat.lt_of_lt_of_le h (by decide))]; exact kk)
theorem ms_pile {v : Int32} (hap : Mp m ad) (h : i < 720) (hdg : decode cc pc = .ok (.iastore, 1)) (kk : V G Γ mt cc nL ret tb d P kc ks (MH m ad (sB σ 51 i v) η0) (pc + 1) lv rest) : V G Γ mt cc nL ret tb d P kc ks (MH m ad σ η0) pc lv (.int v :: .int (nI i) :: .ref (ad 51) :: rest) := v_iast (ma_pile hap) (vp_in_nI h (by decide)) hdg (v_eq (by rw [nI_clamp (Nat.lt_of_lt_of_le h (by decide))]; exact MH_ua (σ := σ) (σ' := sB σ 51 i v) hap (by decide : 51 ∈ mL) rfl (mC_sB4 σ (k := 51) i v rfl) (fun j _ hj => mC_sB σ i v j hj)) kk)
theorem mg_without (hmt : mt.cls = RX8) (hdg : decode cc pc = .ok (.getfield 96, 3)) (kk : V G Γ mt cc nL ret tb d P kc ks (MH m ad σ η0) (pc + 3) lv (.int (oI (gN σ 52)) :: rest)) : V G Γ mt cc nL ret tb d P kc ks (MH m ad σ η0) pc lv (.ref m :: rest) := v_get MH_m KX8 52 (by decide) (by rw [hmt]; exact q1968) rfl hdg kk
theorem mp_without_o {v : Nat} (hmt : mt.cls = RX8) (hdg : decode cc pc = .ok (.putfield 96, 3)) (kk : V G Γ mt cc nL ret tb d P kc ks (MH m ad (sN σ 52 v) η0) (pc + 3) lv rest) : V G Γ mt cc nL ret tb d P kc ks (MH m ad σ η0) pc lv (.int (oI v) :: .ref m :: rest) := v_put MH_m KX8 52 (by decide) (by rw [hmt]; exact q1968) rfl rfl rfl hdg (v_eq (by rw [show (oI v : Int32) = oI v from rfl, mF_sO σ v rfl, MH_um rfl (fun j _ => (mC_sN σ 52 v j).symm)]) kk)
theorem mp_without_n {v : Nat} (hmt : mt.cls = RX8) (hdg : decode cc pc = .ok (.putfield 96, 3)) (kk : V G Γ mt cc nL ret tb d P kc ks (MH m ad (sN σ 52 (v + 1)) η0) (pc + 3) lv rest) : V G Γ mt cc nL ret tb d P kc ks (MH m ad σ η0) pc lv (.int (nI v) :: .ref m :: rest) := v_put MH_m KX8 52 (by decide) (by rw [hmt]; exact q1968) rfl rfl rfl hdg (v_eq (by rw [show (nI v : Int32) = oI (v + 1) from rfl, mF_sO σ (v + 1) rfl, MH_um rfl (fun j _ => (mC_sN σ 52 (v + 1) j).symm)]) kk)
theorem mp_without_m (hmt : mt.cls = RX8) (hdg : decode cc pc = .ok (.putfield 96, 3)) (kk : V G Γ mt cc nL ret tb d P kc ks (MH m ad (sN σ 52 0) η0) (pc + 3) lv rest) : V G Γ mt cc nL ret tb d P kc ks (MH m ad σ η0) pc lv (.int (-1) :: .ref m :: rest) := v_put MH_m KX8 52 (by decide) (by rw [hmt]; exact q1968) rfl rfl rfl hdg (v_eq (by rw [show (-1 : Int32) = oI 0 from rfl, mF_sO σ 0 rfl, MH_um rfl (fun j _ => (mC_sN σ 52 0 j).symm)]) kk)
theorem mg_barring (hmt : mt.cls = RX8) (hdg : decode cc pc = .ok (.getfield 401, 3)) (kk : V G Γ mt cc nL ret tb d P kc ks (MH m ad σ η0) (pc + 3) lv (.int (nI (gN σ 53)) :: rest)) : V G Γ mt cc nL ret tb d P kc ks (MH m ad σ η0) pc lv (.ref m :: rest) := v_get MH_m KX8 53 (by decide) (by rw [hmt]; exact q1969) rfl hdg kk
theorem mp_barring {v : Nat} (hmt : mt.cls = RX8) (hdg : decode cc pc = .ok (.putfield 401, 3)) (kk : V G Γ mt cc nL ret tb d P kc ks (MH m ad (sN σ 53 v) η0) (pc + 3) lv rest) : V G Γ mt cc nL ret tb d P kc ks (MH m ad σ η0) pc lv (.int (nI v) :: .ref m :: rest) := v_put MH_m KX8 53 (by decide) (by rw [hmt]; exact q1969) rfl rfl rfl hdg (by rw [mF_sN σ v rfl, MH_um rfl (fun j _ => (mC_sN σ 53 v j).symm)]; exact kk)
theorem mg_states (hmt : mt.cls = RX8) (hdg : decode cc pc = .ok (.getfield 420, 3)) (kk : V G Γ mt cc nL ret tb d P kc ks (MH m ad σ η0) (pc + 3) lv (.int (nI (gN σ 54)) :: rest)) : V G Γ mt cc nL ret tb d P kc ks (MH m ad σ η0) pc lv (.ref m :: rest) := v_get MH_m KX8 54 (by decide) (by rw [hmt]; exact q1970) rfl hdg kk
theorem mp_states {v : Nat} (hmt : mt.cls = RX8) (hdg : decode cc pc = .ok (.putfield 420, 3)) (kk : V G Γ mt cc nL ret tb d P kc ks (MH m ad (sN σ 54 v) η0) (pc + 3) lv rest) : V G Γ mt cc nL ret tb d P kc ks (MH m ad σ η0) pc lv (.int (nI v) :: .ref m :: rest) := v_put MH_m KX8 54 (by decide) (by rw [hmt]; exact q1970) rfl rfl rfl hdg (by rw [mF_sN σ v rfl, MH_um rfl (fun j _ => (mC_sN σ 54 v j).symm)]; exact kk)
theorem mg_crossings (hmt : mt.cls = RX8) (hdg : decode cc pc = .ok (.getfield 426, 3)) (kk : V G Γ mt cc nL ret tb d P kc ks (MH m ad σ η0) (pc + 3) lv (.int (nI (gN σ 55)) :: rest)) : V G Γ mt cc nL ret tb d P kc ks (MH m ad σ η0) pc lv (.ref m :: rest) := v_get MH_m KX8 55 (by decide) (by rw [hmt]; exact q1971) rfl hdg kk
theorem mp_crossings {v : Nat} (hmt : mt.cls = RX8) (hdg : decode cc pc = .ok (.putfield 426, 3)) (kk : V G Γ mt cc nL ret tb d P kc ks (MH m ad (sN σ 55 v) η0) (pc + 3) lv rest) : V G Γ mt cc nL ret tb d P kc ks (MH m ad σ η0) pc lv (.int (nI v) :: .ref m :: rest) := v_put MH_m KX8 55 (by decide) (by rw [hmt]; exact q1971) rfl rfl rfl hdg (by rw [mF_sN σ v rfl, MH_um rfl (fun j _ => (mC_sN σ 55 v j).symm)]; exact kk)
theorem mg_stateOf (hmt : mt.cls = RX8) (hdg : decode cc pc = .ok (.getfield 99, 3)) (kk : V G Γ mt cc nL ret tb d P kc ks (MH m ad σ η0) (pc + 3) lv (.ref (ad 56) :: rest)) : V G Γ mt cc nL ret tb d P kc ks (MH m ad σ η0) pc lv (.ref m :: rest) := v_get MH_m KX8 56 (by decide) (by rw [hmt]; exact q1972) rfl hdg kk
theorem ma_stateOf (hap : Mp m ad) : MH m ad σ η0 (ad 56) = some (some m, aI 2001 (fun j => nI (gA σ 56 j))) := MH_a hap (by decide : 56 ∈ mL)
theorem ml_stateOf (hap : Mp m ad) (h : i < 2001) (hdg : decode cc pc = .ok (.iaload, 1)) (kk : V G Γ mt cc nL ret tb d P kc ks (MH m ad σ η0) (pc + 1) lv (.int (nI (gA σ 56 i)) :: rest)) : V G Γ mt cc nL ret tb d P kc ks (MH m ad σ η0) pc lv (.int (nI i) :: .ref (ad 56) :: rest) := v_iald (ma_stateOf hap) (vp_in_nI h (by decide)) hdg (by rw [nI_clamp (Nat.lt_of_lt_of_le h (by decide))]; exact kk)
theorem ms_stateOf {v : Nat} (hap : Mp m ad) (h : i < 2001) (hdg : decode cc pc = .ok (.iastore, 1)) (kk : V G Γ mt cc nL ret tb d P kc ks (MH m ad (sA σ 56 i v) η0) (pc + 1) lv rest) : V G Γ mt cc nL ret tb d P kc ks (MH m ad σ η0) pc lv (.int (nI v) :: .int (nI i) :: .ref (ad 56) :: rest) := v_iast (ma_stateOf hap) (vp_in_nI h (by decide)) hdg (v_eq (by rw [nI_clamp (Nat.lt_of_lt_of_le h (by decide))]; exact MH_ua (σ := σ) (σ' := sA σ 56 i v) hap (by decide : 56 ∈ mL) rfl (mC_sA3 σ (k := 56) i v rfl) (fun j _ hj => mC_sA σ i v j hj)) kk)
theorem mg_firstOf (hmt : mt.cls = RX8) (hdg : decode cc pc = .ok (.getfield 102, 3)) (kk : V G Γ mt cc nL ret tb d P kc ks (MH m ad σ η0) (pc + 3) lv (.ref (ad 57) :: rest)) : V G Γ mt cc nL ret tb d P kc ks (MH m ad σ η0) pc lv (.ref m :: rest) := v_get MH_m KX8 57 (by decide) (by rw [hmt]; exact q1973) rfl hdg kk
theorem ma_firstOf (hap : Mp m ad) : MH m ad σ η0 (ad 57) = some (some m, aI 2002 (fun j => nI (gA σ 57 j))) := MH_a hap (by decide : 57 ∈ mL)
theorem ml_firstOf (hap : Mp m ad) (h : i < 2002) (hdg : decode cc pc = .ok (.iaload, 1)) (kk : V G Γ mt cc nL ret tb d P kc ks (MH m ad σ η0) (pc + 1) lv (.int (nI (gA σ 57 i)) :: rest)) : V G Γ mt cc nL ret tb d P kc ks (MH m ad σ η0) pc lv (.int (nI i) :: .ref (ad 57) :: rest) := v_iald (ma_firstOf hap) (vp_in_nI h (by decide)) hdg (by rw [nI_clamp (Nat.lt_of_lt_of_le h (by decide))]; exact kk)
theorem ms_firstOf {v : Nat} (hap : Mp m ad) (h : i < 2002) (hdg : decode cc pc = .ok (.iastore, 1)) (kk : V G Γ mt cc nL ret tb d P kc ks (MH m ad (sA σ 57 i v) η0) (pc + 1) lv rest) : V G Γ mt cc nL ret tb d P kc ks (MH m ad σ η0) pc lv (.int (nI v) :: .int (nI i) :: .ref (ad 57) :: rest) := v_iast (ma_firstOf hap) (vp_in_nI h (by decide)) hdg (v_eq (by rw [nI_clamp (Nat.lt_of_lt_of_le h (by decide))]; exact MH_ua (σ := σ) (σ' := sA σ 57 i v) hap (by decide : 57 ∈ mL) rfl (mC_sA3 σ (k := 57) i v rfl) (fun j _ hj => mC_sA σ i v j hj)) kk)
theorem mg_far (hmt : mt.cls = RX8) (hdg : decode cc pc = .ok (.getfield 105, 3)) (kk : V G Γ mt cc nL ret tb d P kc ks (MH m ad σ η0) (pc + 3) lv (.ref (ad 58) :: rest)) : V G Γ mt cc nL ret tb d P kc ks (MH m ad σ η0) pc lv (.ref m :: rest) := v_get MH_m KX8 58 (by decide) (by rw [hmt]; exact q1974) rfl hdg kk
theorem ma_far (hap : Mp m ad) : MH m ad σ η0 (ad 58) = some (some m, aI 2001 (fun j => nI (gA σ 58 j))) := MH_a hap (by decide : 58 ∈ mL)
theorem ml_far (hap : Mp m ad) (h : i < 2001) (hdg : decode cc pc = .ok (.iaload, 1)) (kk : V G Γ mt cc nL ret tb d P kc ks (MH m ad σ η0) (pc + 1) lv (.int (nI (gA σ 58 i)) :: rest)) : V G Γ mt cc nL ret tb d P kc ks (MH m ad σ η0) pc lv (.int (nI i) :: .ref (ad 58) :: rest) := v_iald (ma_far hap) (vp_in_nI h (by decide)) hdg (by rw [nI_clamp (Nat.lt_of_lt_of_le h (by decide))]; exact kk)
theorem ms_far {v : Nat} (hap : Mp m ad) (h : i < 2001) (hdg : decode cc pc = .ok (.iastore, 1)) (kk : V G Γ mt cc nL ret tb d P kc ks (MH m ad (sA σ 58 i v) η0) (pc + 1) lv rest) : V G Γ mt cc nL ret tb d P kc ks (MH m ad σ η0) pc lv (.int (nI v) :: .int (nI i) :: .ref (ad 58) :: rest) := v_iast (ma_far hap) (vp_in_nI h (by decide)) hdg (v_eq (by rw [nI_clamp (Nat.lt_of_lt_of_le h (by decide))]; exact MH_ua (σ := σ) (σ' := sA σ 58 i v) hap (by decide : 58 ∈ mL) rfl (mC_sA3 σ (k := 58) i v rfl) (fun j _ hj => mC_sA σ i v j hj)) kk)
theorem mg_toGoal (hmt : mt.cls = RX8) (hdg : decode cc pc = .ok (.getfield 108, 3)) (kk : V G Γ mt cc nL ret tb d P kc ks (MH m ad σ η0) (pc + 3) lv (.ref (ad 59) :: rest)) : V G Γ mt cc nL ret tb d P kc ks (MH m ad σ η0) pc lv (.ref m :: rest) := v_get MH_m KX8 59 (by decide) (by rw [hmt]; exact q1975) rfl hdg kk
theorem ma_toGoal (hap : Mp m ad) : MH m ad σ η0 (ad 59) = some (some m, aI 2001 (fun j => oI (gA σ 59 j))) := MH_a hap (by decide : 59 ∈ mL)
theorem ml_toGoal (hap : Mp m ad) (h : i < 2001) (hdg : decode cc pc = .ok (.iaload, 1)) (kk : V G Γ mt cc nL ret tb d P kc ks (MH m ad σ η0) (pc + 1) lv (.int (oI (gA σ 59 i)) :: rest)) : V G Γ mt cc nL ret tb d P kc ks (MH m ad σ η0) pc lv (.int (nI i) :: .ref (ad 59) :: rest) := v_iald (ma_toGoal hap) (vp_in_nI h (by decide)) hdg (by rw [nI_clamp (Nat.lt_of_lt_of_le h (by decide))]; exact kk)
theorem ms_toGoal_o {v : Nat} (hap : Mp m ad) (h : i < 2001) (hdg : decode cc pc = .ok (.iastore, 1)) (kk : V G Γ mt cc nL ret tb d P kc ks (MH m ad (sA σ 59 i v) η0) (pc + 1) lv rest) : V G Γ mt cc nL ret tb d P kc ks (MH m ad σ η0) pc lv (.int (oI v) :: .int (nI i) :: .ref (ad 59) :: rest) := v_iast (ma_toGoal hap) (vp_in_nI h (by decide)) hdg (v_eq (by rw [nI_clamp (Nat.lt_of_lt_of_le h (by decide))]; exact MH_ua (σ := σ) (σ' := sA σ 59 i v) hap (by decide : 59 ∈ mL) rfl (mC_sA7 σ (k := 59) i v rfl) (fun j _ hj => mC_sA σ i v j hj)) kk)
theorem ms_toGoal_n {v : Nat} (hap : Mp m ad) (h : i < 2001) (hdg : decode cc pc = .ok (.iastore, 1)) (kk : V G Γ mt cc nL ret tb d P kc ks (MH m ad (sA σ 59 i (v + 1)) η0) (pc + 1) lv rest) : V G Γ mt cc nL ret tb d P kc ks (MH m ad σ η0) pc lv (.int (nI v) :: .int (nI i) :: .ref (ad 59) :: rest) := v_iast (ma_toGoal hap) (vp_in_nI h (by decide)) hdg (v_eq (by rw [nI_clamp (Nat.lt_of_lt_of_le h (by decide))]; exact MH_ua (σ := σ) (σ' := sA σ 59 i (v + 1)) hap (by decide : 59 ∈ mL) rfl (mC_sA7 σ (k := 59) i (v + 1) rfl) (fun j _ hj => mC_sA σ i (v + 1) j hj)) kk)
theorem ms_toGoal_m (hap : Mp m ad) (h : i < 2001) (hdg : decode cc pc = .ok (.iastore, 1)) (kk : V G Γ mt cc nL ret tb d P kc ks (MH m ad (sA σ 59 i 0) η0) (pc + 1) lv rest) : V G Γ mt cc nL ret tb d P kc ks (MH m ad σ η0) pc lv (.int (-1) :: .int (nI i) :: .ref (ad 59) :: rest) := v_iast (ma_toGoal hap) (vp_in_nI h (by decide)) hdg (v_eq (by rw [nI_clamp (Nat.lt_of_lt_of_le h (by decide))]; exact MH_ua (σ := σ) (σ' := sA σ 59 i 0) hap (by decide : 59 ∈ mL) rfl (mC_sA7 σ (k := 59) i 0 rfl) (fun j _ hj => mC_sA σ i 0 j hj)) kk)
theorem mg_slot (hmt : mt.cls = RX8) (hdg : decode cc pc = .ok (.getfield 111, 3)) (kk : V G Γ mt cc nL ret tb d P kc ks (MH m ad σ η0) (pc + 3) lv (.ref (ad 60) :: rest)) : V G Γ mt cc nL ret tb d P kc ks (MH m ad σ η0) pc lv (.ref m :: rest) := v_get MH_m KX8 60 (by decide) (by rw [hmt]; exact q1976) rfl hdg kk
theorem ma_slot (hap : Mp m ad) : MH m ad σ η0 (ad 60) = some (some m, aI 8192 (fun j => nI (gA σ 60 j))) := MH_a hap (by decide : 60 ∈ mL)
theorem ml_slot (hap : Mp m ad) (h : i < 8192) (hdg : decode cc pc = .ok (.iaload, 1)) (kk : V G Γ mt cc nL ret tb d P kc ks (MH m ad σ η0) (pc + 1) lv (.int (nI (gA σ 60 i)) :: rest)) : V G Γ mt cc nL ret tb d P kc ks (MH m ad σ η0) pc lv (.int (nI i) :: .ref (ad 60) :: rest) := v_iald (ma_slot hap) (vp_in_nI h (by decide)) hdg (by rw [nI_clamp (Nat.lt_of_lt_of_le h (by decide))]; exact kk)
theorem ms_slot {v : Nat} (hap : Mp m ad) (h : i < 8192) (hdg : decode cc pc = .ok (.iastore, 1)) (kk : V G Γ mt cc nL ret tb d P kc ks (MH m ad (sA σ 60 i v) η0) (pc + 1) lv rest) : V G Γ mt cc nL ret tb d P kc ks (MH m ad σ η0) pc lv (.int (nI v) :: .int (nI i) :: .ref (ad 60) :: rest) := v_iast (ma_slot hap) (vp_in_nI h (by decide)) hdg (v_eq (by rw [nI_clamp (Nat.lt_of_lt_of_le h (by decide))]; exact MH_ua (σ := σ) (σ' := sA σ 60 i v) hap (by decide : 60 ∈ mL) rfl (mC_sA3 σ (k := 60) i v rfl) (fun j _ hj => mC_sA σ i v j hj)) kk)
theorem mg_edgeBoat (hmt : mt.cls = RX8) (hdg : decode cc pc = .ok (.getfield 115, 3)) (kk : V G Γ mt cc nL ret tb d P kc ks (MH m ad σ η0) (pc + 3) lv (.ref (ad 61) :: rest)) : V G Γ mt cc nL ret tb d P kc ks (MH m ad σ η0) pc lv (.ref m :: rest) := v_get MH_m KX8 61 (by decide) (by rw [hmt]; exact q1977) rfl hdg kk
theorem ma_edgeBoat (hap : Mp m ad) : MH m ad σ η0 (ad 61) = some (some m, aI 40001 (fun j => nI (gA σ 61 j))) := MH_a hap (by decide : 61 ∈ mL)
theorem ml_edgeBoat (hap : Mp m ad) (h : i < 40001) (hdg : decode cc pc = .ok (.iaload, 1)) (kk : V G Γ mt cc nL ret tb d P kc ks (MH m ad σ η0) (pc + 1) lv (.int (nI (gA σ 61 i)) :: rest)) : V G Γ mt cc nL ret tb d P kc ks (MH m ad σ η0) pc lv (.int (nI i) :: .ref (ad 61) :: rest) := v_iald (ma_edgeBoat hap) (vp_in_nI h (by decide)) hdg (by rw [nI_clamp (Nat.lt_of_lt_of_le h (by decide))]; exact kk)
theorem ms_edgeBoat {v : Nat} (hap : Mp m ad) (h : i < 40001) (hdg : decode cc pc = .ok (.iastore, 1)) (kk : V G Γ mt cc nL ret tb d P kc ks (MH m ad (sA σ 61 i v) η0) (pc + 1) lv rest) : V G Γ mt cc nL ret tb d P kc ks (MH m ad σ η0) pc lv (.int (nI v) :: .int (nI i) :: .ref (ad 61) :: rest) := v_iast (ma_edgeBoat hap) (vp_in_nI h (by decide)) hdg (v_eq (by rw [nI_clamp (Nat.lt_of_lt_of_le h (by decide))]; exact MH_ua (σ := σ) (σ' := sA σ 61 i v) hap (by decide : 61 ∈ mL) rfl (mC_sA3 σ (k := 61) i v rfl) (fun j _ hj => mC_sA σ i v j hj)) kk)
theorem mg_edgeTo (hmt : mt.cls = RX8) (hdg : decode cc pc = .ok (.getfield 118, 3)) (kk : V G Γ mt cc nL ret tb d P kc ks (MH m ad σ η0) (pc + 3) lv (.ref (ad 62) :: rest)) : V G Γ mt cc nL ret tb d P kc ks (MH m ad σ η0) pc lv (.ref m :: rest) := v_get MH_m KX8 62 (by decide) (by rw [hmt]; exact q1978) rfl hdg kk
theorem ma_edgeTo (hap : Mp m ad) : MH m ad σ η0 (ad 62) = some (some m, aI 40001 (fun j => nI (gA σ 62 j))) := MH_a hap (by decide : 62 ∈ mL)
theorem ml_edgeTo (hap : Mp m ad) (h : i < 40001) (hdg : decode cc pc = .ok (.iaload, 1)) (kk : V G Γ mt cc nL ret tb d P kc ks (MH m ad σ η0) (pc + 1) lv (.int (nI (gA σ 62 i)) :: rest)) : V G Γ mt cc nL ret tb d P kc ks (MH m ad σ η0) pc lv (.int (nI i) :: .ref (ad 62) :: rest) := v_iald (ma_edgeTo hap) (vp_in_nI h (by decide)) hdg (by rw [nI_clamp (Nat.lt_of_lt_of_le h (by decide))]; exact kk)
theorem ms_edgeTo {v : Nat} (hap : Mp m ad) (h : i < 40001) (hdg : decode cc pc = .ok (.iastore, 1)) (kk : V G Γ mt cc nL ret tb d P kc ks (MH m ad (sA σ 62 i v) η0) (pc + 1) lv rest) : V G Γ mt cc nL ret tb d P kc ks (MH m ad σ η0) pc lv (.int (nI v) :: .int (nI i) :: .ref (ad 62) :: rest) := v_iast (ma_edgeTo hap) (vp_in_nI h (by decide)) hdg (v_eq (by rw [nI_clamp (Nat.lt_of_lt_of_le h (by decide))]; exact MH_ua (σ := σ) (σ' := sA σ 62 i v) hap (by decide : 62 ∈ mL) rfl (mC_sA3 σ (k := 62) i v rfl) (fun j _ hj => mC_sA σ i v j hj)) kk)
theorem mg_edgeSet (hmt : mt.cls = RX8) (hdg : decode cc pc = .ok (.getfield 121, 3)) (kk : V G Γ mt cc nL ret tb d P kc ks (MH m ad σ η0) (pc + 3) lv (.ref (ad 63) :: rest)) : V G Γ mt cc nL ret tb d P kc ks (MH m ad σ η0) pc lv (.ref m :: rest) := v_get MH_m KX8 63 (by decide) (by rw [hmt]; exact q1979) rfl hdg kk
theorem ma_edgeSet (hap : Mp m ad) : MH m ad σ η0 (ad 63) = some (some m, aI 40001 (fun j => nI (gA σ 63 j))) := MH_a hap (by decide : 63 ∈ mL)
theorem ml_edgeSet (hap : Mp m ad) (h : i < 40001) (hdg : decode cc pc = .ok (.iaload, 1)) (kk : V G Γ mt cc nL ret tb d P kc ks (MH m ad σ η0) (pc + 1) lv (.int (nI (gA σ 63 i)) :: rest)) : V G Γ mt cc nL ret tb d P kc ks (MH m ad σ η0) pc lv (.int (nI i) :: .ref (ad 63) :: rest) := v_iald (ma_edgeSet hap) (vp_in_nI h (by decide)) hdg (by rw [nI_clamp (Nat.lt_of_lt_of_le h (by decide))]; exact kk)
theorem ms_edgeSet {v : Nat} (hap : Mp m ad) (h : i < 40001) (hdg : decode cc pc = .ok (.iastore, 1)) (kk : V G Γ mt cc nL ret tb d P kc ks (MH m ad (sA σ 63 i v) η0) (pc + 1) lv rest) : V G Γ mt cc nL ret tb d P kc ks (MH m ad σ η0) pc lv (.int (nI v) :: .int (nI i) :: .ref (ad 63) :: rest) := v_iast (ma_edgeSet hap) (vp_in_nI h (by decide)) hdg (v_eq (by rw [nI_clamp (Nat.lt_of_lt_of_le h (by decide))]; exact MH_ua (σ := σ) (σ' := sA σ 63 i v) hap (by decide : 63 ∈ mL) rfl (mC_sA3 σ (k := 63) i v rfl) (fun j _ hj => mC_sA σ i v j hj)) kk)
theorem mg_edgeState (hmt : mt.cls = RX8) (hdg : decode cc pc = .ok (.getfield 124, 3)) (kk : V G Γ mt cc nL ret tb d P kc ks (MH m ad σ η0) (pc + 3) lv (.ref (ad 64) :: rest)) : V G Γ mt cc nL ret tb d P kc ks (MH m ad σ η0) pc lv (.ref m :: rest) := v_get MH_m KX8 64 (by decide) (by rw [hmt]; exact q1980) rfl hdg kk
theorem ma_edgeState (hap : Mp m ad) : MH m ad σ η0 (ad 64) = some (some m, aI 40001 (fun j => nI (gA σ 64 j))) := MH_a hap (by decide : 64 ∈ mL)
theorem ml_edgeState (hap : Mp m ad) (h : i < 40001) (hdg : decode cc pc = .ok (.iaload, 1)) (kk : V G Γ mt cc nL ret tb d P kc ks (MH m ad σ η0) (pc + 1) lv (.int (nI (gA σ 64 i)) :: rest)) : V G Γ mt cc nL ret tb d P kc ks (MH m ad σ η0) pc lv (.int (nI i) :: .ref (ad 64) :: rest) := v_iald (ma_edgeState hap) (vp_in_nI h (by decide)) hdg (by rw [nI_clamp (Nat.lt_of_lt_of_le h (by decide))]; exact kk)
theorem ms_edgeState {v : Nat} (hap : Mp m ad) (h : i < 40001) (hdg : decode cc pc = .ok (.iastore, 1)) (kk : V G Γ mt cc nL ret tb d P kc ks (MH m ad (sA σ 64 i v) η0) (pc + 1) lv rest) : V G Γ mt cc nL ret tb d P kc ks (MH m ad σ η0) pc lv (.int (nI v) :: .int (nI i) :: .ref (ad 64) :: rest) := v_iast (ma_edgeState hap) (vp_in_nI h (by decide)) hdg (v_eq (by rw [nI_clamp (Nat.lt_of_lt_of_le h (by decide))]; exact MH_ua (σ := σ) (σ' := sA σ 64 i v) hap (by decide : 64 ∈ mL) rfl (mC_sA3 σ (k := 64) i v rfl) (fun j _ hj => mC_sA σ i v j hj)) kk)
theorem mg_cheap (hmt : mt.cls = RX8) (hdg : decode cc pc = .ok (.getfield 127, 3)) (kk : V G Γ mt cc nL ret tb d P kc ks (MH m ad σ η0) (pc + 3) lv (.ref (ad 65) :: rest)) : V G Γ mt cc nL ret tb d P kc ks (MH m ad σ η0) pc lv (.ref m :: rest) := v_get MH_m KX8 65 (by decide) (by rw [hmt]; exact q1981) rfl hdg kk
theorem ma_cheap (hap : Mp m ad) : MH m ad σ η0 (ad 65) = some (some m, aL 2001 (gC σ)) := MH_a hap (by decide : 65 ∈ mL)
theorem ml_cheap (hap : Mp m ad) (h : i < 2001) (hdg : decode cc pc = .ok (.laload, 1)) (kk : V G Γ mt cc nL ret tb d P kc ks (MH m ad σ η0) (pc + 1) lv (.long (gC σ i) :: rest)) : V G Γ mt cc nL ret tb d P kc ks (MH m ad σ η0) pc lv (.int (nI i) :: .ref (ad 65) :: rest) := v_lald (ma_cheap hap) (vp_in_nI h (by decide)) hdg (by rw [nI_clamp (Nat.lt_of_lt_of_le h (by decide))]; exact kk)
theorem ms_cheap {v : Int64} (hap : Mp m ad) (h : i < 2001) (hdg : decode cc pc = .ok (.lastore, 1)) (kk : V G Γ mt cc nL ret tb d P kc ks (MH m ad (sC σ i v) η0) (pc + 1) lv rest) : V G Γ mt cc nL ret tb d P kc ks (MH m ad σ η0) pc lv (.long v :: .int (nI i) :: .ref (ad 65) :: rest) := v_last (ma_cheap hap) (vp_in_nI h (by decide)) hdg (v_eq (by rw [nI_clamp (Nat.lt_of_lt_of_le h (by decide))]; exact MH_ua (σ := σ) (σ' := sC σ i v) hap (by decide : 65 ∈ mL) rfl (show mC (sC σ i v) 65 = aL 2001 (vp_updL (gC σ) i v) from rfl) (mC_sC6 σ i v)) kk)
theorem mg_isSpent (hmt : mt.cls = RX8) (hdg : decode cc pc = .ok (.getfield 429, 3)) (kk : V G Γ mt cc nL ret tb d P kc ks (MH m ad σ η0) (pc + 3) lv (.int (nI (gN σ 66)) :: rest)) : V G Γ mt cc nL ret tb d P kc ks (MH m ad σ η0) pc lv (.ref m :: rest) := v_get MH_m KX8 66 (by decide) (by rw [hmt]; exact q1982) rfl hdg kk
theorem mp_isSpent {v : Nat} (hmt : mt.cls = RX8) (hv : v < 2) (hdg : decode cc pc = .ok (.putfield 429, 3)) (kk : V G Γ mt cc nL ret tb d P kc ks (MH m ad (sN σ 66 v) η0) (pc + 3) lv rest) : V G Γ mt cc nL ret tb d P kc ks (MH m ad σ η0) pc lv (.int (nI v) :: .ref m :: rest) := v_put MH_m KX8 66 (by decide) (by rw [hmt]; exact q1982) rfl (zb hv).1 (zb hv).2 hdg (by rw [mF_sN σ v rfl, MH_um rfl (fun j _ => (mC_sN σ 66 v j).symm)]; exact kk)
theorem mg_isFirst (hmt : mt.cls = RX8) (hdg : decode cc pc = .ok (.getfield 423, 3)) (kk : V G Γ mt cc nL ret tb d P kc ks (MH m ad σ η0) (pc + 3) lv (.int (nI (gN σ 67)) :: rest)) : V G Γ mt cc nL ret tb d P kc ks (MH m ad σ η0) pc lv (.ref m :: rest) := v_get MH_m KX8 67 (by decide) (by rw [hmt]; exact q1983) rfl hdg kk
theorem mp_isFirst {v : Nat} (hmt : mt.cls = RX8) (hv : v < 2) (hdg : decode cc pc = .ok (.putfield 423, 3)) (kk : V G Γ mt cc nL ret tb d P kc ks (MH m ad (sN σ 67 v) η0) (pc + 3) lv rest) : V G Γ mt cc nL ret tb d P kc ks (MH m ad σ η0) pc lv (.int (nI v) :: .ref m :: rest) := v_put MH_m KX8 67 (by decide) (by rw [hmt]; exact q1983) rfl (zb hv).1 (zb hv).2 hdg (by rw [mF_sN σ v rfl, MH_um rfl (fun j _ => (mC_sN σ 67 v j).symm)]; exact kk)
theorem mg_mayMany (hmt : mt.cls = RX8) (hdg : decode cc pc = .ok (.getfield 131, 3)) (kk : V G Γ mt cc nL ret tb d P kc ks (MH m ad σ η0) (pc + 3) lv (.ref (ad 68) :: rest)) : V G Γ mt cc nL ret tb d P kc ks (MH m ad σ η0) pc lv (.ref m :: rest) := v_get MH_m KX8 68 (by decide) (by rw [hmt]; exact q1984) rfl hdg kk
theorem ma_mayMany (hap : Mp m ad) : MH m ad σ η0 (ad 68) = some (some m, aI 2 (fun j => nI (gA σ 68 j))) := MH_a hap (by decide : 68 ∈ mL)
theorem ml_mayMany (hap : Mp m ad) (h : i < 2) (hdg : decode cc pc = .ok (.iaload, 1)) (kk : V G Γ mt cc nL ret tb d P kc ks (MH m ad σ η0) (pc + 1) lv (.int (nI (gA σ 68 i)) :: rest)) : V G Γ mt cc nL ret tb d P kc ks (MH m ad σ η0) pc lv (.int (nI i) :: .ref (ad 68) :: rest) := v_iald (ma_mayMany hap) (vp_in_nI h (by decide)) hdg (by rw [nI_clamp (Nat.lt_of_lt_of_le h (by decide))]; exact kk)
theorem ms_mayMany {v : Nat} (hap : Mp m ad) (h : i < 2) (hdg : decode cc pc = .ok (.iastore, 1)) (kk : V G Γ mt cc nL ret tb d P kc ks (MH m ad (sA σ 68 i v) η0) (pc + 1) lv rest) : V G Γ mt cc nL ret tb d P kc ks (MH m ad σ η0) pc lv (.int (nI v) :: .int (nI i) :: .ref (ad 68) :: rest) := v_iast (ma_mayMany hap) (vp_in_nI h (by decide)) hdg (v_eq (by rw [nI_clamp (Nat.lt_of_lt_of_le h (by decide))]; exact MH_ua (σ := σ) (σ' := sA σ 68 i v) hap (by decide : 68 ∈ mL) rfl (mC_sA3 σ (k := 68) i v rfl) (fun j _ hj => mC_sA σ i v j hj)) kk)
theorem mg_may (hmt : mt.cls = RX8) (hdg : decode cc pc = .ok (.getfield 134, 3)) (kk : V G Γ mt cc nL ret tb d P kc ks (MH m ad σ η0) (pc + 3) lv (.ref (ad 69) :: rest)) : V G Γ mt cc nL ret tb d P kc ks (MH m ad σ η0) pc lv (.ref m :: rest) := v_get MH_m KX8 69 (by decide) (by rw [hmt]; exact q1985) rfl hdg kk
theorem ma_may (hap : Mp m ad) : MH m ad σ η0 (ad 69) = some (some m, aI 512 (fun j => nI (gA σ 69 j))) := MH_a hap (by decide : 69 ∈ mL)
theorem ml_may (hap : Mp m ad) (h : i < 512) (hdg : decode cc pc = .ok (.iaload, 1)) (kk : V G Γ mt cc nL ret tb d P kc ks (MH m ad σ η0) (pc + 1) lv (.int (nI (gA σ 69 i)) :: rest)) : V G Γ mt cc nL ret tb d P kc ks (MH m ad σ η0) pc lv (.int (nI i) :: .ref (ad 69) :: rest) := v_iald (ma_may hap) (vp_in_nI h (by decide)) hdg (by rw [nI_clamp (Nat.lt_of_lt_of_le h (by decide))]; exact kk)
theorem ms_may {v : Nat} (hap : Mp m ad) (h : i < 512) (hdg : decode cc pc = .ok (.iastore, 1)) (kk : V G Γ mt cc nL ret tb d P kc ks (MH m ad (sA σ 69 i v) η0) (pc + 1) lv rest) : V G Γ mt cc nL ret tb d P kc ks (MH m ad σ η0) pc lv (.int (nI v) :: .int (nI i) :: .ref (ad 69) :: rest) := v_iast (ma_may hap) (vp_in_nI h (by decide)) hdg (v_eq (by rw [nI_clamp (Nat.lt_of_lt_of_le h (by decide))]; exact MH_ua (σ := σ) (σ' := sA σ 69 i v) hap (by decide : 69 ∈ mL) rfl (mC_sA3 σ (k := 69) i v rfl) (fun j _ hj => mC_sA σ i v j hj)) kk)
theorem mg_keptMany (hmt : mt.cls = RX8) (hdg : decode cc pc = .ok (.getfield 455, 3)) (kk : V G Γ mt cc nL ret tb d P kc ks (MH m ad σ η0) (pc + 3) lv (.int (oI (gN σ 70)) :: rest)) : V G Γ mt cc nL ret tb d P kc ks (MH m ad σ η0) pc lv (.ref m :: rest) := v_get MH_m KX8 70 (by decide) (by rw [hmt]; exact q1986) rfl hdg kk
theorem mp_keptMany_o {v : Nat} (hmt : mt.cls = RX8) (hdg : decode cc pc = .ok (.putfield 455, 3)) (kk : V G Γ mt cc nL ret tb d P kc ks (MH m ad (sN σ 70 v) η0) (pc + 3) lv rest) : V G Γ mt cc nL ret tb d P kc ks (MH m ad σ η0) pc lv (.int (oI v) :: .ref m :: rest) := v_put MH_m KX8 70 (by decide) (by rw [hmt]; exact q1986) rfl rfl rfl hdg (v_eq (by rw [show (oI v : Int32) = oI v from rfl, mF_sO σ v rfl, MH_um rfl (fun j _ => (mC_sN σ 70 v j).symm)]) kk)
theorem mp_keptMany_n {v : Nat} (hmt : mt.cls = RX8) (hdg : decode cc pc = .ok (.putfield 455, 3)) (kk : V G Γ mt cc nL ret tb d P kc ks (MH m ad (sN σ 70 (v + 1)) η0) (pc + 3) lv rest) : V G Γ mt cc nL ret tb d P kc ks (MH m ad σ η0) pc lv (.int (nI v) :: .ref m :: rest) := v_put MH_m KX8 70 (by decide) (by rw [hmt]; exact q1986) rfl rfl rfl hdg (v_eq (by rw [show (nI v : Int32) = oI (v + 1) from rfl, mF_sO σ (v + 1) rfl, MH_um rfl (fun j _ => (mC_sN σ 70 (v + 1) j).symm)]) kk)
theorem mp_keptMany_m (hmt : mt.cls = RX8) (hdg : decode cc pc = .ok (.putfield 455, 3)) (kk : V G Γ mt cc nL ret tb d P kc ks (MH m ad (sN σ 70 0) η0) (pc + 3) lv rest) : V G Γ mt cc nL ret tb d P kc ks (MH m ad σ η0) pc lv (.int (-1) :: .ref m :: rest) := v_put MH_m KX8 70 (by decide) (by rw [hmt]; exact q1986) rfl rfl rfl hdg (v_eq (by rw [show (-1 : Int32) = oI 0 from rfl, mF_sO σ 0 rfl, MH_um rfl (fun j _ => (mC_sN σ 70 0 j).symm)]) kk)
theorem mg_keptThings (hmt : mt.cls = RX8) (hdg : decode cc pc = .ok (.getfield 458, 3)) (kk : V G Γ mt cc nL ret tb d P kc ks (MH m ad σ η0) (pc + 3) lv (.int (nI (gN σ 71)) :: rest)) : V G Γ mt cc nL ret tb d P kc ks (MH m ad σ η0) pc lv (.ref m :: rest) := v_get MH_m KX8 71 (by decide) (by rw [hmt]; exact q1987) rfl hdg kk
theorem mp_keptThings {v : Nat} (hmt : mt.cls = RX8) (hdg : decode cc pc = .ok (.putfield 458, 3)) (kk : V G Γ mt cc nL ret tb d P kc ks (MH m ad (sN σ 71 v) η0) (pc + 3) lv rest) : V G Γ mt cc nL ret tb d P kc ks (MH m ad σ η0) pc lv (.int (nI v) :: .ref m :: rest) := v_put MH_m KX8 71 (by decide) (by rw [hmt]; exact q1987) rfl rfl rfl hdg (by rw [mF_sN σ v rfl, MH_um rfl (fun j _ => (mC_sN σ 71 v j).symm)]; exact kk)
theorem mg_keptBoat (hmt : mt.cls = RX8) (hdg : decode cc pc = .ok (.getfield 137, 3)) (kk : V G Γ mt cc nL ret tb d P kc ks (MH m ad σ η0) (pc + 3) lv (.ref (ad 72) :: rest)) : V G Γ mt cc nL ret tb d P kc ks (MH m ad σ η0) pc lv (.ref m :: rest) := v_get MH_m KX8 72 (by decide) (by rw [hmt]; exact q1988) rfl hdg kk
theorem ma_keptBoat (hap : Mp m ad) : MH m ad σ η0 (ad 72) = some (some m, aI 2001 (fun j => nI (gA σ 72 j))) := MH_a hap (by decide : 72 ∈ mL)
theorem ml_keptBoat (hap : Mp m ad) (h : i < 2001) (hdg : decode cc pc = .ok (.iaload, 1)) (kk : V G Γ mt cc nL ret tb d P kc ks (MH m ad σ η0) (pc + 1) lv (.int (nI (gA σ 72 i)) :: rest)) : V G Γ mt cc nL ret tb d P kc ks (MH m ad σ η0) pc lv (.int (nI i) :: .ref (ad 72) :: rest) := v_iald (ma_keptBoat hap) (vp_in_nI h (by decide)) hdg (by rw [nI_clamp (Nat.lt_of_lt_of_le h (by decide))]; exact kk)
theorem ms_keptBoat {v : Nat} (hap : Mp m ad) (h : i < 2001) (hdg : decode cc pc = .ok (.iastore, 1)) (kk : V G Γ mt cc nL ret tb d P kc ks (MH m ad (sA σ 72 i v) η0) (pc + 1) lv rest) : V G Γ mt cc nL ret tb d P kc ks (MH m ad σ η0) pc lv (.int (nI v) :: .int (nI i) :: .ref (ad 72) :: rest) := v_iast (ma_keptBoat hap) (vp_in_nI h (by decide)) hdg (v_eq (by rw [nI_clamp (Nat.lt_of_lt_of_le h (by decide))]; exact MH_ua (σ := σ) (σ' := sA σ 72 i v) hap (by decide : 72 ∈ mL) rfl (mC_sA3 σ (k := 72) i v rfl) (fun j _ hj => mC_sA σ i v j hj)) kk)
theorem mg_keptTo (hmt : mt.cls = RX8) (hdg : decode cc pc = .ok (.getfield 140, 3)) (kk : V G Γ mt cc nL ret tb d P kc ks (MH m ad σ η0) (pc + 3) lv (.ref (ad 73) :: rest)) : V G Γ mt cc nL ret tb d P kc ks (MH m ad σ η0) pc lv (.ref m :: rest) := v_get MH_m KX8 73 (by decide) (by rw [hmt]; exact q1989) rfl hdg kk
theorem ma_keptTo (hap : Mp m ad) : MH m ad σ η0 (ad 73) = some (some m, aI 2001 (fun j => nI (gA σ 73 j))) := MH_a hap (by decide : 73 ∈ mL)
theorem ml_keptTo (hap : Mp m ad) (h : i < 2001) (hdg : decode cc pc = .ok (.iaload, 1)) (kk : V G Γ mt cc nL ret tb d P kc ks (MH m ad σ η0) (pc + 1) lv (.int (nI (gA σ 73 i)) :: rest)) : V G Γ mt cc nL ret tb d P kc ks (MH m ad σ η0) pc lv (.int (nI i) :: .ref (ad 73) :: rest) := v_iald (ma_keptTo hap) (vp_in_nI h (by decide)) hdg (by rw [nI_clamp (Nat.lt_of_lt_of_le h (by decide))]; exact kk)
theorem ms_keptTo {v : Nat} (hap : Mp m ad) (h : i < 2001) (hdg : decode cc pc = .ok (.iastore, 1)) (kk : V G Γ mt cc nL ret tb d P kc ks (MH m ad (sA σ 73 i v) η0) (pc + 1) lv rest) : V G Γ mt cc nL ret tb d P kc ks (MH m ad σ η0) pc lv (.int (nI v) :: .int (nI i) :: .ref (ad 73) :: rest) := v_iast (ma_keptTo hap) (vp_in_nI h (by decide)) hdg (v_eq (by rw [nI_clamp (Nat.lt_of_lt_of_le h (by decide))]; exact MH_ua (σ := σ) (σ' := sA σ 73 i v) hap (by decide : 73 ∈ mL) rfl (mC_sA3 σ (k := 73) i v rfl) (fun j _ hj => mC_sA σ i v j hj)) kk)
theorem mg_keptSet (hmt : mt.cls = RX8) (hdg : decode cc pc = .ok (.getfield 143, 3)) (kk : V G Γ mt cc nL ret tb d P kc ks (MH m ad σ η0) (pc + 3) lv (.ref (ad 74) :: rest)) : V G Γ mt cc nL ret tb d P kc ks (MH m ad σ η0) pc lv (.ref m :: rest) := v_get MH_m KX8 74 (by decide) (by rw [hmt]; exact q1990) rfl hdg kk
theorem ma_keptSet (hap : Mp m ad) : MH m ad σ η0 (ad 74) = some (some m, aI 2001 (fun j => nI (gA σ 74 j))) := MH_a hap (by decide : 74 ∈ mL)
theorem ml_keptSet (hap : Mp m ad) (h : i < 2001) (hdg : decode cc pc = .ok (.iaload, 1)) (kk : V G Γ mt cc nL ret tb d P kc ks (MH m ad σ η0) (pc + 1) lv (.int (nI (gA σ 74 i)) :: rest)) : V G Γ mt cc nL ret tb d P kc ks (MH m ad σ η0) pc lv (.int (nI i) :: .ref (ad 74) :: rest) := v_iald (ma_keptSet hap) (vp_in_nI h (by decide)) hdg (by rw [nI_clamp (Nat.lt_of_lt_of_le h (by decide))]; exact kk)
theorem ms_keptSet {v : Nat} (hap : Mp m ad) (h : i < 2001) (hdg : decode cc pc = .ok (.iastore, 1)) (kk : V G Γ mt cc nL ret tb d P kc ks (MH m ad (sA σ 74 i v) η0) (pc + 1) lv rest) : V G Γ mt cc nL ret tb d P kc ks (MH m ad σ η0) pc lv (.int (nI v) :: .int (nI i) :: .ref (ad 74) :: rest) := v_iast (ma_keptSet hap) (vp_in_nI h (by decide)) hdg (v_eq (by rw [nI_clamp (Nat.lt_of_lt_of_le h (by decide))]; exact MH_ua (σ := σ) (σ' := sA σ 74 i v) hap (by decide : 74 ∈ mL) rfl (mC_sA3 σ (k := 74) i v rfl) (fun j _ hj => mC_sA σ i v j hj)) kk)
theorem mg_keptMinutes (hmt : mt.cls = RX8) (hdg : decode cc pc = .ok (.getfield 146, 3)) (kk : V G Γ mt cc nL ret tb d P kc ks (MH m ad σ η0) (pc + 3) lv (.ref (ad 75) :: rest)) : V G Γ mt cc nL ret tb d P kc ks (MH m ad σ η0) pc lv (.ref m :: rest) := v_get MH_m KX8 75 (by decide) (by rw [hmt]; exact q1991) rfl hdg kk
theorem ma_keptMinutes (hap : Mp m ad) : MH m ad σ η0 (ad 75) = some (some m, aI 2001 (fun j => nI (gA σ 75 j))) := MH_a hap (by decide : 75 ∈ mL)
theorem ml_keptMinutes (hap : Mp m ad) (h : i < 2001) (hdg : decode cc pc = .ok (.iaload, 1)) (kk : V G Γ mt cc nL ret tb d P kc ks (MH m ad σ η0) (pc + 1) lv (.int (nI (gA σ 75 i)) :: rest)) : V G Γ mt cc nL ret tb d P kc ks (MH m ad σ η0) pc lv (.int (nI i) :: .ref (ad 75) :: rest) := v_iald (ma_keptMinutes hap) (vp_in_nI h (by decide)) hdg (by rw [nI_clamp (Nat.lt_of_lt_of_le h (by decide))]; exact kk)
theorem ms_keptMinutes {v : Nat} (hap : Mp m ad) (h : i < 2001) (hdg : decode cc pc = .ok (.iastore, 1)) (kk : V G Γ mt cc nL ret tb d P kc ks (MH m ad (sA σ 75 i v) η0) (pc + 1) lv rest) : V G Γ mt cc nL ret tb d P kc ks (MH m ad σ η0) pc lv (.int (nI v) :: .int (nI i) :: .ref (ad 75) :: rest) := v_iast (ma_keptMinutes hap) (vp_in_nI h (by decide)) hdg (v_eq (by rw [nI_clamp (Nat.lt_of_lt_of_le h (by decide))]; exact MH_ua (σ := σ) (σ' := sA σ 75 i v) hap (by decide : 75 ∈ mL) rfl (mC_sA3 σ (k := 75) i v rfl) (fun j _ hj => mC_sA σ i v j hj)) kk)
theorem mg_keptState (hmt : mt.cls = RX8) (hdg : decode cc pc = .ok (.getfield 149, 3)) (kk : V G Γ mt cc nL ret tb d P kc ks (MH m ad σ η0) (pc + 3) lv (.ref (ad 76) :: rest)) : V G Γ mt cc nL ret tb d P kc ks (MH m ad σ η0) pc lv (.ref m :: rest) := v_get MH_m KX8 76 (by decide) (by rw [hmt]; exact q1992) rfl hdg kk
theorem ma_keptState (hap : Mp m ad) : MH m ad σ η0 (ad 76) = some (some m, aI 2002 (fun j => nI (gA σ 76 j))) := MH_a hap (by decide : 76 ∈ mL)
theorem ml_keptState (hap : Mp m ad) (h : i < 2002) (hdg : decode cc pc = .ok (.iaload, 1)) (kk : V G Γ mt cc nL ret tb d P kc ks (MH m ad σ η0) (pc + 1) lv (.int (nI (gA σ 76 i)) :: rest)) : V G Γ mt cc nL ret tb d P kc ks (MH m ad σ η0) pc lv (.int (nI i) :: .ref (ad 76) :: rest) := v_iald (ma_keptState hap) (vp_in_nI h (by decide)) hdg (by rw [nI_clamp (Nat.lt_of_lt_of_le h (by decide))]; exact kk)
theorem ms_keptState {v : Nat} (hap : Mp m ad) (h : i < 2002) (hdg : decode cc pc = .ok (.iastore, 1)) (kk : V G Γ mt cc nL ret tb d P kc ks (MH m ad (sA σ 76 i v) η0) (pc + 1) lv rest) : V G Γ mt cc nL ret tb d P kc ks (MH m ad σ η0) pc lv (.int (nI v) :: .int (nI i) :: .ref (ad 76) :: rest) := v_iast (ma_keptState hap) (vp_in_nI h (by decide)) hdg (v_eq (by rw [nI_clamp (Nat.lt_of_lt_of_le h (by decide))]; exact MH_ua (σ := σ) (σ' := sA σ 76 i v) hap (by decide : 76 ∈ mL) rfl (mC_sA3 σ (k := 76) i v rfl) (fun j _ hj => mC_sA σ i v j hj)) kk)
theorem mg_waysOf (hmt : mt.cls = RX8) (hdg : decode cc pc = .ok (.getfield 152, 3)) (kk : V G Γ mt cc nL ret tb d P kc ks (MH m ad σ η0) (pc + 3) lv (.ref (ad 77) :: rest)) : V G Γ mt cc nL ret tb d P kc ks (MH m ad σ η0) pc lv (.ref m :: rest) := v_get MH_m KX8 77 (by decide) (by rw [hmt]; exact q1993) rfl hdg kk
theorem ma_waysOf (hap : Mp m ad) : MH m ad σ η0 (ad 77) = some (some m, aI 2001 (fun j => nI (gA σ 77 j))) := MH_a hap (by decide : 77 ∈ mL)
theorem ml_waysOf (hap : Mp m ad) (h : i < 2001) (hdg : decode cc pc = .ok (.iaload, 1)) (kk : V G Γ mt cc nL ret tb d P kc ks (MH m ad σ η0) (pc + 1) lv (.int (nI (gA σ 77 i)) :: rest)) : V G Γ mt cc nL ret tb d P kc ks (MH m ad σ η0) pc lv (.int (nI i) :: .ref (ad 77) :: rest) := v_iald (ma_waysOf hap) (vp_in_nI h (by decide)) hdg (by rw [nI_clamp (Nat.lt_of_lt_of_le h (by decide))]; exact kk)
theorem ms_waysOf {v : Nat} (hap : Mp m ad) (h : i < 2001) (hdg : decode cc pc = .ok (.iastore, 1)) (kk : V G Γ mt cc nL ret tb d P kc ks (MH m ad (sA σ 77 i v) η0) (pc + 1) lv rest) : V G Γ mt cc nL ret tb d P kc ks (MH m ad σ η0) pc lv (.int (nI v) :: .int (nI i) :: .ref (ad 77) :: rest) := v_iast (ma_waysOf hap) (vp_in_nI h (by decide)) hdg (v_eq (by rw [nI_clamp (Nat.lt_of_lt_of_le h (by decide))]; exact MH_ua (σ := σ) (σ' := sA σ 77 i v) hap (by decide : 77 ∈ mL) rfl (mC_sA3 σ (k := 77) i v rfl) (fun j _ hj => mC_sA σ i v j hj)) kk)
theorem mg_lawsKnown (hmt : mt.cls = RX8) (hdg : decode cc pc = .ok (.getfield 478, 3)) (kk : V G Γ mt cc nL ret tb d P kc ks (MH m ad σ η0) (pc + 3) lv (.int (nI (gN σ 78)) :: rest)) : V G Γ mt cc nL ret tb d P kc ks (MH m ad σ η0) pc lv (.ref m :: rest) := v_get MH_m KX8 78 (by decide) (by rw [hmt]; exact q1994) rfl hdg kk
theorem mp_lawsKnown {v : Nat} (hmt : mt.cls = RX8) (hdg : decode cc pc = .ok (.putfield 478, 3)) (kk : V G Γ mt cc nL ret tb d P kc ks (MH m ad (sN σ 78 v) η0) (pc + 3) lv rest) : V G Γ mt cc nL ret tb d P kc ks (MH m ad σ η0) pc lv (.int (nI v) :: .ref m :: rest) := v_put MH_m KX8 78 (by decide) (by rw [hmt]; exact q1994) rfl rfl rfl hdg (by rw [mF_sN σ v rfl, MH_um rfl (fun j _ => (mC_sN σ 78 v j).symm)]; exact kk)
theorem mg_freeLaws (hmt : mt.cls = RX8) (hdg : decode cc pc = .ok (.getfield 484, 3)) (kk : V G Γ mt cc nL ret tb d P kc ks (MH m ad σ η0) (pc + 3) lv (.int (nI (gN σ 79)) :: rest)) : V G Γ mt cc nL ret tb d P kc ks (MH m ad σ η0) pc lv (.ref m :: rest) := v_get MH_m KX8 79 (by decide) (by rw [hmt]; exact q1995) rfl hdg kk
theorem mp_freeLaws {v : Nat} (hmt : mt.cls = RX8) (hdg : decode cc pc = .ok (.putfield 484, 3)) (kk : V G Γ mt cc nL ret tb d P kc ks (MH m ad (sN σ 79 v) η0) (pc + 3) lv rest) : V G Γ mt cc nL ret tb d P kc ks (MH m ad σ η0) pc lv (.int (nI v) :: .ref m :: rest) := v_put MH_m KX8 79 (by decide) (by rw [hmt]; exact q1995) rfl rfl rfl hdg (by rw [mF_sN σ v rfl, MH_um rfl (fun j _ => (mC_sN σ 79 v j).symm)]; exact kk)
theorem mg_aloneLaws (hmt : mt.cls = RX8) (hdg : decode cc pc = .ok (.getfield 487, 3)) (kk : V G Γ mt cc nL ret tb d P kc ks (MH m ad σ η0) (pc + 3) lv (.int (nI (gN σ 80)) :: rest)) : V G Γ mt cc nL ret tb d P kc ks (MH m ad σ η0) pc lv (.ref m :: rest) := v_get MH_m KX8 80 (by decide) (by rw [hmt]; exact q1996) rfl hdg kk
theorem mp_aloneLaws {v : Nat} (hmt : mt.cls = RX8) (hdg : decode cc pc = .ok (.putfield 487, 3)) (kk : V G Γ mt cc nL ret tb d P kc ks (MH m ad (sN σ 80 v) η0) (pc + 3) lv rest) : V G Γ mt cc nL ret tb d P kc ks (MH m ad σ η0) pc lv (.int (nI v) :: .ref m :: rest) := v_put MH_m KX8 80 (by decide) (by rw [hmt]; exact q1996) rfl rfl rfl hdg (by rw [mF_sN σ v rfl, MH_um rfl (fun j _ => (mC_sN σ 80 v j).symm)]; exact kk)
theorem mg_sizeKnown (hmt : mt.cls = RX8) (hdg : decode cc pc = .ok (.getfield 155, 3)) (kk : V G Γ mt cc nL ret tb d P kc ks (MH m ad σ η0) (pc + 3) lv (.ref (ad 81) :: rest)) : V G Γ mt cc nL ret tb d P kc ks (MH m ad σ η0) pc lv (.ref m :: rest) := v_get MH_m KX8 81 (by decide) (by rw [hmt]; exact q1997) rfl hdg kk
theorem ma_sizeKnown (hap : Mp m ad) : MH m ad σ η0 (ad 81) = some (some m, aI 2 (fun j => nI (gA σ 81 j))) := MH_a hap (by decide : 81 ∈ mL)
theorem ml_sizeKnown (hap : Mp m ad) (h : i < 2) (hdg : decode cc pc = .ok (.iaload, 1)) (kk : V G Γ mt cc nL ret tb d P kc ks (MH m ad σ η0) (pc + 1) lv (.int (nI (gA σ 81 i)) :: rest)) : V G Γ mt cc nL ret tb d P kc ks (MH m ad σ η0) pc lv (.int (nI i) :: .ref (ad 81) :: rest) := v_iald (ma_sizeKnown hap) (vp_in_nI h (by decide)) hdg (by rw [nI_clamp (Nat.lt_of_lt_of_le h (by decide))]; exact kk)
theorem ms_sizeKnown {v : Nat} (hap : Mp m ad) (h : i < 2) (hdg : decode cc pc = .ok (.iastore, 1)) (kk : V G Γ mt cc nL ret tb d P kc ks (MH m ad (sA σ 81 i v) η0) (pc + 1) lv rest) : V G Γ mt cc nL ret tb d P kc ks (MH m ad σ η0) pc lv (.int (nI v) :: .int (nI i) :: .ref (ad 81) :: rest) := v_iast (ma_sizeKnown hap) (vp_in_nI h (by decide)) hdg (v_eq (by rw [nI_clamp (Nat.lt_of_lt_of_le h (by decide))]; exact MH_ua (σ := σ) (σ' := sA σ 81 i v) hap (by decide : 81 ∈ mL) rfl (mC_sA3 σ (k := 81) i v rfl) (fun j _ hj => mC_sA σ i v j hj)) kk)
theorem mg_roundsKnown (hmt : mt.cls = RX8) (hdg : decode cc pc = .ok (.getfield 499, 3)) (kk : V G Γ mt cc nL ret tb d P kc ks (MH m ad σ η0) (pc + 3) lv (.int (nI (gN σ 82)) :: rest)) : V G Γ mt cc nL ret tb d P kc ks (MH m ad σ η0) pc lv (.ref m :: rest) := v_get MH_m KX8 82 (by decide) (by rw [hmt]; exact q1998) rfl hdg kk
theorem mp_roundsKnown {v : Nat} (hmt : mt.cls = RX8) (hdg : decode cc pc = .ok (.putfield 499, 3)) (kk : V G Γ mt cc nL ret tb d P kc ks (MH m ad (sN σ 82 v) η0) (pc + 3) lv rest) : V G Γ mt cc nL ret tb d P kc ks (MH m ad σ η0) pc lv (.int (nI v) :: .ref m :: rest) := v_put MH_m KX8 82 (by decide) (by rw [hmt]; exact q1998) rfl rfl rfl hdg (by rw [mF_sN σ v rfl, MH_um rfl (fun j _ => (mC_sN σ 82 v j).symm)]; exact kk)
theorem mg_rounds (hmt : mt.cls = RX8) (hdg : decode cc pc = .ok (.getfield 158, 3)) (kk : V G Γ mt cc nL ret tb d P kc ks (MH m ad σ η0) (pc + 3) lv (.ref (ad 83) :: rest)) : V G Γ mt cc nL ret tb d P kc ks (MH m ad σ η0) pc lv (.ref m :: rest) := v_get MH_m KX8 83 (by decide) (by rw [hmt]; exact q1999) rfl hdg kk
theorem ma_rounds (hap : Mp m ad) : MH m ad σ η0 (ad 83) = some (some m, aI 1024 (fun j => oI (gA σ 83 j))) := MH_a hap (by decide : 83 ∈ mL)
theorem ml_rounds (hap : Mp m ad) (h : i < 1024) (hdg : decode cc pc = .ok (.iaload, 1)) (kk : V G Γ mt cc nL ret tb d P kc ks (MH m ad σ η0) (pc + 1) lv (.int (oI (gA σ 83 i)) :: rest)) : V G Γ mt cc nL ret tb d P kc ks (MH m ad σ η0) pc lv (.int (nI i) :: .ref (ad 83) :: rest) := v_iald (ma_rounds hap) (vp_in_nI h (by decide)) hdg (by rw [nI_clamp (Nat.lt_of_lt_of_le h (by decide))]; exact kk)
theorem ms_rounds_o {v : Nat} (hap : Mp m ad) (h : i < 1024) (hdg : decode cc pc = .ok (.iastore, 1)) (kk : V G Γ mt cc nL ret tb d P kc ks (MH m ad (sA σ 83 i v) η0) (pc + 1) lv rest) : V G Γ mt cc nL ret tb d P kc ks (MH m ad σ η0) pc lv (.int (oI v) :: .int (nI i) :: .ref (ad 83) :: rest) := v_iast (ma_rounds hap) (vp_in_nI h (by decide)) hdg (v_eq (by rw [nI_clamp (Nat.lt_of_lt_of_le h (by decide))]; exact MH_ua (σ := σ) (σ' := sA σ 83 i v) hap (by decide : 83 ∈ mL) rfl (mC_sA7 σ (k := 83) i v rfl) (fun j _ hj => mC_sA σ i v j hj)) kk)
theorem ms_rounds_n {v : Nat} (hap : Mp m ad) (h : i < 1024) (hdg : decode cc pc = .ok (.iastore, 1)) (kk : V G Γ mt cc nL ret tb d P kc ks (MH m ad (sA σ 83 i (v + 1)) η0) (pc + 1) lv rest) : V G Γ mt cc nL ret tb d P kc ks (MH m ad σ η0) pc lv (.int (nI v) :: .int (nI i) :: .ref (ad 83) :: rest) := v_iast (ma_rounds hap) (vp_in_nI h (by decide)) hdg (v_eq (by rw [nI_clamp (Nat.lt_of_lt_of_le h (by decide))]; exact MH_ua (σ := σ) (σ' := sA σ 83 i (v + 1)) hap (by decide : 83 ∈ mL) rfl (mC_sA7 σ (k := 83) i (v + 1) rfl) (fun j _ hj => mC_sA σ i (v + 1) j hj)) kk)
theorem ms_rounds_m (hap : Mp m ad) (h : i < 1024) (hdg : decode cc pc = .ok (.iastore, 1)) (kk : V G Γ mt cc nL ret tb d P kc ks (MH m ad (sA σ 83 i 0) η0) (pc + 1) lv rest) : V G Γ mt cc nL ret tb d P kc ks (MH m ad σ η0) pc lv (.int (-1) :: .int (nI i) :: .ref (ad 83) :: rest) := v_iast (ma_rounds hap) (vp_in_nI h (by decide)) hdg (v_eq (by rw [nI_clamp (Nat.lt_of_lt_of_le h (by decide))]; exact MH_ua (σ := σ) (σ' := sA σ 83 i 0) hap (by decide : 83 ∈ mL) rfl (mC_sA7 σ (k := 83) i 0 rfl) (fun j _ hj => mC_sA σ i 0 j hj)) kk)
theorem mg_made (hmt : mt.cls = RX8) (hdg : decode cc pc = .ok (.getfield 385, 3)) (kk : V G Γ mt cc nL ret tb d P kc ks (MH m ad σ η0) (pc + 3) lv (.int (nI (gN σ 84)) :: rest)) : V G Γ mt cc nL ret tb d P kc ks (MH m ad σ η0) pc lv (.ref m :: rest) := v_get MH_m KX8 84 (by decide) (by rw [hmt]; exact q2000) rfl hdg kk
theorem mp_made {v : Nat} (hmt : mt.cls = RX8) (hdg : decode cc pc = .ok (.putfield 385, 3)) (kk : V G Γ mt cc nL ret tb d P kc ks (MH m ad (sN σ 84 v) η0) (pc + 3) lv rest) : V G Γ mt cc nL ret tb d P kc ks (MH m ad σ η0) pc lv (.int (nI v) :: .ref m :: rest) := v_put MH_m KX8 84 (by decide) (by rw [hmt]; exact q2000) rfl rfl rfl hdg (by rw [mF_sN σ v rfl, MH_um rfl (fun j _ => (mC_sN σ 84 v j).symm)]; exact kk)
theorem mg_lawTold (hmt : mt.cls = RX8) (hdg : decode cc pc = .ok (.getfield 161, 3)) (kk : V G Γ mt cc nL ret tb d P kc ks (MH m ad σ η0) (pc + 3) lv (.int (oI (gN σ 85)) :: rest)) : V G Γ mt cc nL ret tb d P kc ks (MH m ad σ η0) pc lv (.ref m :: rest) := v_get MH_m KX8 85 (by decide) (by rw [hmt]; exact q2001) rfl hdg kk
theorem mp_lawTold_o {v : Nat} (hmt : mt.cls = RX8) (hdg : decode cc pc = .ok (.putfield 161, 3)) (kk : V G Γ mt cc nL ret tb d P kc ks (MH m ad (sN σ 85 v) η0) (pc + 3) lv rest) : V G Γ mt cc nL ret tb d P kc ks (MH m ad σ η0) pc lv (.int (oI v) :: .ref m :: rest) := v_put MH_m KX8 85 (by decide) (by rw [hmt]; exact q2001) rfl rfl rfl hdg (v_eq (by rw [show (oI v : Int32) = oI v from rfl, mF_sO σ v rfl, MH_um rfl (fun j _ => (mC_sN σ 85 v j).symm)]) kk)
theorem mp_lawTold_n {v : Nat} (hmt : mt.cls = RX8) (hdg : decode cc pc = .ok (.putfield 161, 3)) (kk : V G Γ mt cc nL ret tb d P kc ks (MH m ad (sN σ 85 (v + 1)) η0) (pc + 3) lv rest) : V G Γ mt cc nL ret tb d P kc ks (MH m ad σ η0) pc lv (.int (nI v) :: .ref m :: rest) := v_put MH_m KX8 85 (by decide) (by rw [hmt]; exact q2001) rfl rfl rfl hdg (v_eq (by rw [show (nI v : Int32) = oI (v + 1) from rfl, mF_sO σ (v + 1) rfl, MH_um rfl (fun j _ => (mC_sN σ 85 (v + 1) j).symm)]) kk)
theorem mp_lawTold_m (hmt : mt.cls = RX8) (hdg : decode cc pc = .ok (.putfield 161, 3)) (kk : V G Γ mt cc nL ret tb d P kc ks (MH m ad (sN σ 85 0) η0) (pc + 3) lv rest) : V G Γ mt cc nL ret tb d P kc ks (MH m ad σ η0) pc lv (.int (-1) :: .ref m :: rest) := v_put MH_m KX8 85 (by decide) (by rw [hmt]; exact q2001) rfl rfl rfl hdg (v_eq (by rw [show (-1 : Int32) = oI 0 from rfl, mF_sO σ 0 rfl, MH_um rfl (fun j _ => (mC_sN σ 85 0 j).symm)]) kk)
theorem mg_playState (hmt : mt.cls = RX8) (hdg : decode cc pc = .ok (.getfield 164, 3)) (kk : V G Γ mt cc nL ret tb d P kc ks (MH m ad σ η0) (pc + 3) lv (.ref (ad 86) :: rest)) : V G Γ mt cc nL ret tb d P kc ks (MH m ad σ η0) pc lv (.ref m :: rest) := v_get MH_m KX8 86 (by decide) (by rw [hmt]; exact q2002) rfl hdg kk
theorem ma_playState (hap : Mp m ad) : MH m ad σ η0 (ad 86) = some (some m, aI 61 (fun j => nI (gA σ 86 j))) := MH_a hap (by decide : 86 ∈ mL)
theorem ml_playState (hap : Mp m ad) (h : i < 61) (hdg : decode cc pc = .ok (.iaload, 1)) (kk : V G Γ mt cc nL ret tb d P kc ks (MH m ad σ η0) (pc + 1) lv (.int (nI (gA σ 86 i)) :: rest)) : V G Γ mt cc nL ret tb d P kc ks (MH m ad σ η0) pc lv (.int (nI i) :: .ref (ad 86) :: rest) := v_iald (ma_playState hap) (vp_in_nI h (by decide)) hdg (by rw [nI_clamp (Nat.lt_of_lt_of_le h (by decide))]; exact kk)
theorem ms_playState {v : Nat} (hap : Mp m ad) (h : i < 61) (hdg : decode cc pc = .ok (.iastore, 1)) (kk : V G Γ mt cc nL ret tb d P kc ks (MH m ad (sA σ 86 i v) η0) (pc + 1) lv rest) : V G Γ mt cc nL ret tb d P kc ks (MH m ad σ η0) pc lv (.int (nI v) :: .int (nI i) :: .ref (ad 86) :: rest) := v_iast (ma_playState hap) (vp_in_nI h (by decide)) hdg (v_eq (by rw [nI_clamp (Nat.lt_of_lt_of_le h (by decide))]; exact MH_ua (σ := σ) (σ' := sA σ 86 i v) hap (by decide : 86 ∈ mL) rfl (mC_sA3 σ (k := 86) i v rfl) (fun j _ hj => mC_sA σ i v j hj)) kk)
theorem mg_playMinutes (hmt : mt.cls = RX8) (hdg : decode cc pc = .ok (.getfield 167, 3)) (kk : V G Γ mt cc nL ret tb d P kc ks (MH m ad σ η0) (pc + 3) lv (.ref (ad 87) :: rest)) : V G Γ mt cc nL ret tb d P kc ks (MH m ad σ η0) pc lv (.ref m :: rest) := v_get MH_m KX8 87 (by decide) (by rw [hmt]; exact q2003) rfl hdg kk
theorem ma_playMinutes (hap : Mp m ad) : MH m ad σ η0 (ad 87) = some (some m, aI 61 (fun j => nI (gA σ 87 j))) := MH_a hap (by decide : 87 ∈ mL)
theorem ml_playMinutes (hap : Mp m ad) (h : i < 61) (hdg : decode cc pc = .ok (.iaload, 1)) (kk : V G Γ mt cc nL ret tb d P kc ks (MH m ad σ η0) (pc + 1) lv (.int (nI (gA σ 87 i)) :: rest)) : V G Γ mt cc nL ret tb d P kc ks (MH m ad σ η0) pc lv (.int (nI i) :: .ref (ad 87) :: rest) := v_iald (ma_playMinutes hap) (vp_in_nI h (by decide)) hdg (by rw [nI_clamp (Nat.lt_of_lt_of_le h (by decide))]; exact kk)
theorem ms_playMinutes {v : Nat} (hap : Mp m ad) (h : i < 61) (hdg : decode cc pc = .ok (.iastore, 1)) (kk : V G Γ mt cc nL ret tb d P kc ks (MH m ad (sA σ 87 i v) η0) (pc + 1) lv rest) : V G Γ mt cc nL ret tb d P kc ks (MH m ad σ η0) pc lv (.int (nI v) :: .int (nI i) :: .ref (ad 87) :: rest) := v_iast (ma_playMinutes hap) (vp_in_nI h (by decide)) hdg (v_eq (by rw [nI_clamp (Nat.lt_of_lt_of_le h (by decide))]; exact MH_ua (σ := σ) (σ' := sA σ 87 i v) hap (by decide : 87 ∈ mL) rfl (mC_sA3 σ (k := 87) i v rfl) (fun j _ hj => mC_sA σ i v j hj)) kk)
end VM
