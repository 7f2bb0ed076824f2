/-! ===== frames by the tags of owners; objects with the arrays that are their own ===== -/
set_option maxRecDepth 100000
/-- cells whose tag is not of lo .. hi - 1 stand as they were -/
def Kp (lo hi : Nat) (η η' : AH) : Prop := ∀ a o e, η a = some (o, e) → (∀ w, o = some w → w < lo ∨ hi ≤ w) → η' a = some (o, e)
theorem Kp.rf {lo hi : Nat} {η : AH} : Kp lo hi η η := fun _ _ _ h _ => h
theorem Kp.tr {lo hi : Nat} {η1 η2 η3 : AH} (h : Kp lo hi η1 η2) (h2 : Kp lo hi η2 η3) : Kp lo hi η1 η3 := fun a o e q w => h2 a o e (h a o e q w) w
theorem Kp.mono {lo hi lo' hi' : Nat} {η η' : AH} (h : Kp lo hi η η') (h1 : lo' ≤ lo) (h2 : hi ≤ hi') : Kp lo' hi' η η' := fun a o e q w => h a o e q (fun x hx => by have := w x hx; omega)
/-- .. and then one more -/
theorem Kp.th {lo hi lo' hi' : Nat} {η1 η2 η3 : AH} (h : Kp lo hi η1 η2) (h2 : Kp lo' hi' η2 η3) (h3 : lo ≤ lo') (h4 : hi' ≤ hi) : Kp lo hi η1 η3 := h.tr (h2.mono h3 h4)
theorem Kp.pt {lo hi ow : Nat} {η : AH} {a : Nat} {x : Option Nat × CE} {e : CE} (hη : η a = some (some ow, e)) (h : lo ≤ ow ∧ ow < hi) : Kp lo hi η (up η a x) := fun b o e' q w => by
  by_cases c : b = a
  · subst c
    rw [hη] at q
    cases q
    have := w ow rfl
    omega
  · rw [up_n c]; exact q
theorem Kp.nw {lo hi : Nat} {η : AH} {a : Nat} {x : Option Nat × CE} (hη : η a = none) : Kp lo hi η (up η a x) := fun b o e' q w => by
  by_cases c : b = a
  · subst c
    rw [hη] at q
    cases q
  · rw [up_n c]; exact q
theorem Kp.cel {lo hi : Nat} {η η' : AH} {a : Nat} {o : Option Nat} {e : CE} (h : Kp lo hi η η') (hη : η a = some (o, e)) (ho : ∀ w, o = some w → w < lo ∨ hi ≤ w) : η' a = some (o, e) := h a o e hη ho
theorem Kp.celN {lo hi : Nat} {η η' : AH} {a : Nat} {e : CE} (h : Kp lo hi η η') (hη : η a = some (none, e)) : η' a = some (none, e) := h a none e hη (fun _ q => nomatch q)
theorem Kp.celS {lo hi t : Nat} {η η' : AH} {a : Nat} {e : CE} (h : Kp lo hi η η') (hη : η a = some (some t, e)) (ho : t < lo ∨ hi ≤ t) : η' a = some (some t, e) := h a _ e hη (fun w q => by cases q; exact ho)
/-- the owners named anew -/
def rtg (g : Nat → Option Nat) (η : AH) : AH := fun q => match η q with
  | some (some w, e) => some (g w, e)
  | x => x
theorem rtg_s {g : Nat → Option Nat} {η : AH} {q w : Nat} {e : CE} (h : η q = some (some w, e)) : rtg g η q = some (g w, e) := by
  unfold rtg
  rw [h]
theorem rtg_n {g : Nat → Option Nat} {η : AH} {q : Nat} {e : CE} (h : η q = some (none, e)) : rtg g η q = some (none, e) := by
  unfold rtg
  rw [h]
/-- tags lo .. hi - 1 become o -/
def tgo (lo hi : Nat) (o : Option Nat) : Nat → Option Nat := fun w => if lo ≤ w ∧ w < hi then o else some w
theorem Kp.ren {lo hi : Nat} {η : AH} {o : Option Nat} : Kp lo hi η (rtg (tgo lo hi o) η) := fun a o' e q w => by
  cases o' with
  | none => exact rtg_n q
  | some z =>
    rw [rtg_s q]
    unfold tgo
    rw [if_neg (by have := w z rfl; omega)]
/-- an object's kind: class, number of fields, kinds of fields (0 a number, 1 a number or -1, 2 an int, 3 a reference or null, 10 ints that are numbers, 11 .. or -1, 12 booleans, 13 bytes, 14 ints), lengths -/
abbrev Sc : Type := Nat × Nat × (Nat → Nat) × (Nat → Nat)
def rfN (n : Nat) : Value := match n with
  | 0 => .null
  | k + 1 => .ref k
def gvl (S : Sc) (ad : Nat → Nat) (σ : MS) (k : Nat) : Value := match S.2.2.1 k with
  | 0 => .int (nI (gN σ k))
  | 1 => .int (oI (gN σ k))
  | 2 => .int (gI σ k)
  | 3 => rfN (gN σ k)
  | _ => .ref (ad k)
def gcl (S : Sc) (σ : MS) (k : Nat) : CE := match S.2.2.1 k with
  | 10 => aI (S.2.2.2 k) (fun i => nI (gA σ k i))
  | 11 => aI (S.2.2.2 k) (fun i => oI (gA σ k i))
  | 12 => aZ (S.2.2.2 k) (fun i => nI (gA σ k i))
  | 13 => aB (S.2.2.2 k) (gB σ k)
  | _ => aI (S.2.2.2 k) (gB σ k)
def GO (S : Sc) (η : AH) (o : Option Nat) (a : Nat) (ad : Nat → Nat) (σ : MS) : Prop := ∃ F : Nat → Value, η a = some (o, ob S.1 F) ∧ (∀ k, k < S.2.1 → F k = gvl S ad σ k) ∧ (∀ k, k < S.2.1 → 10 ≤ S.2.2.1 k → η (ad k) = some (o, gcl S σ k)) ∧ ∀ j k, j < S.2.1 → k < S.2.1 → 10 ≤ S.2.2.1 j → 10 ≤ S.2.2.1 k → ad j = ad k → j = k
theorem GO.kp {S : Sc} {lo hi : Nat} {η η' : AH} {o : Option Nat} {a : Nat} {ad : Nat → Nat} {σ : MS} (h : GO S η o a ad σ) (hk : Kp lo hi η η') (ho : ∀ w, o = some w → w < lo ∨ hi ≤ w) : GO S η' o a ad σ := by
  obtain ⟨F, h1, h2, h3, h4⟩ := h
  exact ⟨F, hk.cel h1 ho, h2, fun k q1 q2 => hk.cel (h3 k q1 q2) ho, h4⟩
theorem GO.kpN {S : Sc} {lo hi : Nat} {η η' : AH} {a : Nat} {ad : Nat → Nat} {σ : MS} (h : GO S η none a ad σ) (hk : Kp lo hi η η') : GO S η' none a ad σ := h.kp hk (fun _ q => nomatch q)
theorem GO.kpS {S : Sc} {lo hi t : Nat} {η η' : AH} {a : Nat} {ad : Nat → Nat} {σ : MS} (h : GO S η (some t) a ad σ) (hk : Kp lo hi η η') (ho : t < lo ∨ hi ≤ t) : GO S η' (some t) a ad σ := h.kp hk (fun w q => by cases q; exact ho)
theorem GO.rt {S : Sc} {η : AH} {t : Nat} {g : Nat → Option Nat} {a : Nat} {ad : Nat → Nat} {σ : MS} (h : GO S η (some t) a ad σ) : GO S (rtg g η) (g t) a ad σ := by
  obtain ⟨F, h1, h2, h3, h4⟩ := h
  exact ⟨F, rtg_s h1, h2, fun k q1 q2 => rtg_s (h3 k q1 q2), h4⟩
theorem GO.me {S : Sc} {η : AH} {o : Option Nat} {a : Nat} {ad : Nat → Nat} {σ : MS} (h : GO S η o a ad σ) : ∃ F, η a = some (o, ob S.1 F) := by
  obtain ⟨F, h1, -⟩ := h
  exact ⟨F, h1⟩
theorem gvl_sN {S : Sc} {ad : Nat → Nat} {σ : MS} {k v j : Nat} (hj : j ≠ k) : gvl S ad (sN σ k v) j = gvl S ad σ j := by
  unfold gvl
  rw [gN_sN, if_neg hj, gI_sN]
theorem gvl_sI {S : Sc} {ad : Nat → Nat} {σ : MS} {k j : Nat} {v : Int32} (hj : j ≠ k) : gvl S ad (sI σ k v) j = gvl S ad σ j := by
  unfold gvl
  rw [gI_sI, if_neg hj, gN_sI]
theorem gvl_sA {S : Sc} {ad : Nat → Nat} {σ : MS} {k i v j : Nat} : gvl S ad (sA σ k i v) j = gvl S ad σ j := rfl
theorem gvl_sB {S : Sc} {ad : Nat → Nat} {σ : MS} {k i j : Nat} {v : Int32} : gvl S ad (sB σ k i v) j = gvl S ad σ j := rfl
theorem gcl_sN {S : Sc} {σ : MS} {k v j : Nat} : gcl S (sN σ k v) j = gcl S σ j := rfl
theorem gcl_sI {S : Sc} {σ : MS} {k j : Nat} {v : Int32} : gcl S (sI σ k v) j = gcl S σ j := rfl
theorem gcl_sA {S : Sc} {σ : MS} {k i v j : Nat} (hj : j ≠ k) : gcl S (sA σ k i v) j = gcl S σ j := by
  unfold gcl
  rw [gA_sA, if_neg hj, gB_sA]
theorem gcl_sB {S : Sc} {σ : MS} {k i j : Nat} {v : Int32} (hj : j ≠ k) : gcl S (sB σ k i v) j = gcl S σ j := by
  unfold gcl
  rw [gB_sB, if_neg hj, gA_sB]
theorem gcl_ne {S : Sc} {σ : MS} {k ci : Nat} {F : Nat → Value} : gcl S σ k ≠ ob ci F := by
  unfold gcl
  split <;> exact fun h => nomatch h
theorem GO.ne {S : Sc} {η : AH} {o : Option Nat} {a : Nat} {ad : Nat → Nat} {σ : MS} (h : GO S η o a ad σ) {k : Nat} (hk : k < S.2.1) (hd : 10 ≤ S.2.2.1 k) : ad k ≠ a := by
  obtain ⟨F, h1, h2, h3, h4⟩ := h
  intro e
  have := h3 k hk hd
  rw [e, h1] at this
  exact gcl_ne (congrArg Prod.snd (Option.some.inj this)).symm
/-- one field set -/
theorem GO.fld {S : Sc} {η : AH} {t a : Nat} {ad : Nat → Nat} {σ σ' : MS} {F : Nat → Value} {k : Nat} {v : Value} (h1 : η a = some (some t, ob S.1 F)) (h2 : ∀ k, k < S.2.1 → F k = gvl S ad σ k) (h3 : ∀ k, k < S.2.1 → 10 ≤ S.2.2.1 k → η (ad k) = some (some t, gcl S σ k)) (h4 : ∀ j k, j < S.2.1 → k < S.2.1 → 10 ≤ S.2.2.1 j → 10 ≤ S.2.2.1 k → ad j = ad k → j = k)
    (e1 : gvl S ad σ' k = v) (e2 : ∀ j, j ≠ k → gvl S ad σ' j = gvl S ad σ j) (e3 : ∀ j, gcl S σ' j = gcl S σ j) : GO S (up η a (some t, ob S.1 (updV F k v))) (some t) a ad σ' := by
  have hh : GO S η (some t) a ad σ := ⟨F, h1, h2, h3, h4⟩
  refine ⟨_, up_s, fun j hj => ?_, fun j hj hd => ?_, h4⟩
  · unfold updV
    by_cases c : j = k
    · rw [if_pos c, c, e1]
    · rw [if_neg c, e2 j c, h2 j hj]
  · rw [up_n (hh.ne hj hd), e3]
    exact h3 j hj hd
/-- one array set -/
theorem GO.arr {S : Sc} {η : AH} {t a : Nat} {ad : Nat → Nat} {σ σ' : MS} {F : Nat → Value} {k : Nat} {e : CE} (hk : k < S.2.1) (hd : 10 ≤ S.2.2.1 k) (h1 : η a = some (some t, ob S.1 F)) (h2 : ∀ k, k < S.2.1 → F k = gvl S ad σ k) (h3 : ∀ k, k < S.2.1 → 10 ≤ S.2.2.1 k → η (ad k) = some (some t, gcl S σ k)) (h4 : ∀ j k, j < S.2.1 → k < S.2.1 → 10 ≤ S.2.2.1 j → 10 ≤ S.2.2.1 k → ad j = ad k → j = k)
    (e1 : gcl S σ' k = e) (e2 : ∀ j, j ≠ k → gcl S σ' j = gcl S σ j) (e3 : ∀ j, gvl S ad σ' j = gvl S ad σ j) : GO S (up η (ad k) (some t, e)) (some t) a ad σ' := by
  have hh : GO S η (some t) a ad σ := ⟨F, h1, h2, h3, h4⟩
  refine ⟨F, ?_, fun j hj => ?_, fun j hj hd2 => ?_, h4⟩
  · rw [up_n (fun q => hh.ne hk hd q.symm)]
    exact h1
  · rw [e3]
    exact h2 j hj
  · by_cases c : j = k
    · rw [c, up_s, e1]
    · rw [up_n (fun q => c (h4 j k hj hk hd2 hd q)), e2 j c]
      exact h3 j hj hd2
section VG
variable {G : Gl} {Γ : Fx} {mt : MethodName} {cc : ByteArray} {nL : Nat} {ret : Option FieldType} {tb : List ExceptionTableEntry} {d : Nat} {P : Rs → AH → Prop} {kc ks : Nat} {η : AH} {pc : Nat} {lv : List (Option Value)} {rest : List Value}
variable {S : Sc} {o : Option Nat} {t a : Nat} {ad : Nat → Nat} {σ : MS} {C : String} {T : u_T} {ty : Nat → FieldType} {index : Nat}
theorem v_rtg (g : Nat → Option Nat) (kk : V G Γ mt cc nL ret tb d P kc ks (rtg g η) pc lv rest) : V G Γ mt cc nL ret tb d P kc ks η pc lv rest := v_heap (fun a o e h => by
  cases hx : η a with
  | none =>
    unfold rtg at h
    rw [hx] at h
    cases h
  | some x =>
    obtain ⟨o', e'⟩ := x
    cases o' with
    | none =>
      rw [rtg_n hx] at h
      cases h
      exact ⟨none, rfl, fun q => absurd rfl q⟩
    | some w =>
      rw [rtg_s hx] at h
      cases h
      exact ⟨some w, rfl, fun _ q => nomatch q⟩) kk
theorem go_get0 (h : GO S η o a ad σ) (K : Cl S.1 C T S.2.1 ty) (k : Nat) (hk : k < S.2.1) (hkd : S.2.2.1 k = 0) (n : Nat) (hn : gN σ k = n) (hlink : Cond.fieldLink mt.cls index (T k).1 (T k).2.1 (T k).2.2.1 ∈ lw_all) (hdg : decode cc pc = .ok (.getfield index, 3)) (kk : V G Γ mt cc nL ret tb d P kc ks η (pc + 3) lv (.int (nI n) :: rest)) : V G Γ mt cc nL ret tb d P kc ks η pc lv (.ref a :: rest) := by
  obtain ⟨F, h1, h2, -⟩ := h
  exact v_getW (v := .int (nI n)) h1 K k hk hlink ((h2 k hk).trans (by unfold gvl; rw [hkd]; show Value.int (nI (gN σ k)) = _; rw [hn])) rfl hdg kk
theorem go_get1 (h : GO S η o a ad σ) (K : Cl S.1 C T S.2.1 ty) (k : Nat) (hk : k < S.2.1) (hkd : S.2.2.1 k = 1) (n : Nat) (hn : gN σ k = n) (hlink : Cond.fieldLink mt.cls index (T k).1 (T k).2.1 (T k).2.2.1 ∈ lw_all) (hdg : decode cc pc = .ok (.getfield index, 3)) (kk : V G Γ mt cc nL ret tb d P kc ks η (pc + 3) lv (.int (oI n) :: rest)) : V G Γ mt cc nL ret tb d P kc ks η pc lv (.ref a :: rest) := by
  obtain ⟨F, h1, h2, -⟩ := h
  exact v_getW (v := .int (oI n)) h1 K k hk hlink ((h2 k hk).trans (by unfold gvl; rw [hkd]; show Value.int (oI (gN σ k)) = _; rw [hn])) rfl hdg kk
theorem go_get2 (h : GO S η o a ad σ) (K : Cl S.1 C T S.2.1 ty) (k : Nat) (hk : k < S.2.1) (hkd : S.2.2.1 k = 2) (n : Int32) (hn : gI σ k = n) (hlink : Cond.fieldLink mt.cls index (T k).1 (T k).2.1 (T k).2.2.1 ∈ lw_all) (hdg : decode cc pc = .ok (.getfield index, 3)) (kk : V G Γ mt cc nL ret tb d P kc ks η (pc + 3) lv (.int n :: rest)) : V G Γ mt cc nL ret tb d P kc ks η pc lv (.ref a :: rest) := by
  obtain ⟨F, h1, h2, -⟩ := h
  exact v_getW (v := .int n) h1 K k hk hlink ((h2 k hk).trans (by unfold gvl; rw [hkd]; show Value.int (gI σ k) = _; rw [hn])) rfl hdg kk
theorem go_get3 (h : GO S η o a ad σ) (K : Cl S.1 C T S.2.1 ty) (k : Nat) (hk : k < S.2.1) (hkd : S.2.2.1 k = 3) (n : Nat) (hn : gN σ k = n + 1) (hlink : Cond.fieldLink mt.cls index (T k).1 (T k).2.1 (T k).2.2.1 ∈ lw_all) (hdg : decode cc pc = .ok (.getfield index, 3)) (kk : V G Γ mt cc nL ret tb d P kc ks η (pc + 3) lv (.ref n :: rest)) : V G Γ mt cc nL ret tb d P kc ks η pc lv (.ref a :: rest) := by
  obtain ⟨F, h1, h2, -⟩ := h
  exact v_getW (v := .ref n) h1 K k hk hlink ((h2 k hk).trans (by unfold gvl; rw [hkd]; show rfN (gN σ k) = _; rw [hn]; rfl)) rfl hdg kk
theorem go_getZ (h : GO S η o a ad σ) (K : Cl S.1 C T S.2.1 ty) (k : Nat) (hk : k < S.2.1) (hkd : S.2.2.1 k = 3) (hn : gN σ k = 0) (hlink : Cond.fieldLink mt.cls index (T k).1 (T k).2.1 (T k).2.2.1 ∈ lw_all) (hdg : decode cc pc = .ok (.getfield index, 3)) (kk : V G Γ mt cc nL ret tb d P kc ks η (pc + 3) lv (.null :: rest)) : V G Γ mt cc nL ret tb d P kc ks η pc lv (.ref a :: rest) := by
  obtain ⟨F, h1, h2, -⟩ := h
  exact v_getW (v := .null) h1 K k hk hlink ((h2 k hk).trans (by unfold gvl; rw [hkd]; show rfN (gN σ k) = _; rw [hn]; rfl)) rfl hdg kk
theorem go_getA (h : GO S η o a ad σ) (K : Cl S.1 C T S.2.1 ty) (k : Nat) (hk : k < S.2.1) (hkd : 10 ≤ S.2.2.1 k) (hlink : Cond.fieldLink mt.cls index (T k).1 (T k).2.1 (T k).2.2.1 ∈ lw_all) (hdg : decode cc pc = .ok (.getfield index, 3)) (kk : V G Γ mt cc nL ret tb d P kc ks η (pc + 3) lv (.ref (ad k) :: rest)) : V G Γ mt cc nL ret tb d P kc ks η pc lv (.ref a :: rest) := by
  obtain ⟨F, h1, h2, -⟩ := h
  exact v_getW (v := .ref (ad k)) h1 K k hk hlink ((h2 k hk).trans (by unfold gvl; split <;> first | rfl | (rename_i q; rw [q] at hkd; exact absurd hkd (by decide)))) rfl hdg kk
theorem go_put0 {v : Nat} (h : GO S η (some t) a ad σ) (K : Cl S.1 C T S.2.1 ty) (k : Nat) (hk : k < S.2.1) (hkd : S.2.2.1 k = 0) (hlink : Cond.fieldLink mt.cls index (T k).1 (T k).2.1 (T k).2.2.1 ∈ lw_all) (hfin : (T k).2.2.2 = false) (hn : narrow (ty k) (.int (nI v)) = .int (nI v)) (hf : fits (ty k) (.int (nI v)) = true) (hdg : decode cc pc = .ok (.putfield index, 3)) (kk : ∀ η', GO S η' (some t) a ad (sN σ k v) → Kp t (t + 1) η η' → V G Γ mt cc nL ret tb d P kc ks η' (pc + 3) lv rest) : V G Γ mt cc nL ret tb d P kc ks η pc lv (.int (nI v) :: .ref a :: rest) := by
  obtain ⟨F, h1, h2, h3, h4⟩ := h
  exact v_put h1 K k hk hlink hfin hn hf hdg (kk _ (GO.fld h1 h2 h3 h4 (by unfold gvl; rw [hkd]; show Value.int (nI (gN (sN σ k v) k)) = _; rw [gN_sN, if_pos rfl]) (fun j hj => gvl_sN hj) (fun j => gcl_sN)) (Kp.pt h1 ⟨Nat.le_refl _, Nat.lt_succ_self _⟩))
theorem go_put0F {v : Nat} (h : GO S η (some t) a ad σ) (K : Cl S.1 C T S.2.1 ty) (k : Nat) (hk : k < S.2.1) (hkd : S.2.2.1 k = 0) (hlink : Cond.fieldLink mt.cls index (T k).1 (T k).2.1 (T k).2.2.1 ∈ lw_all) (hfin : (T k).2.2.2 = true) (hin : mt.name = "<init>") (hd : (T k).1 = mt.cls) (hn : narrow (ty k) (.int (nI v)) = .int (nI v)) (hf : fits (ty k) (.int (nI v)) = true) (hdg : decode cc pc = .ok (.putfield index, 3)) (kk : ∀ η', GO S η' (some t) a ad (sN σ k v) → Kp t (t + 1) η η' → V G Γ mt cc nL ret tb d P kc ks η' (pc + 3) lv rest) : V G Γ mt cc nL ret tb d P kc ks η pc lv (.int (nI v) :: .ref a :: rest) := by
  obtain ⟨F, h1, h2, h3, h4⟩ := h
  exact v_putF h1 K k hk hlink hfin hin hd hn hf hdg (kk _ (GO.fld h1 h2 h3 h4 (by unfold gvl; rw [hkd]; show Value.int (nI (gN (sN σ k v) k)) = _; rw [gN_sN, if_pos rfl]) (fun j hj => gvl_sN hj) (fun j => gcl_sN)) (Kp.pt h1 ⟨Nat.le_refl _, Nat.lt_succ_self _⟩))
theorem go_put1 {v : Nat} (h : GO S η (some t) a ad σ) (K : Cl S.1 C T S.2.1 ty) (k : Nat) (hk : k < S.2.1) (hkd : S.2.2.1 k = 1) (hlink : Cond.fieldLink mt.cls index (T k).1 (T k).2.1 (T k).2.2.1 ∈ lw_all) (hfin : (T k).2.2.2 = false) (hn : narrow (ty k) (.int (oI v)) = .int (oI v)) (hf : fits (ty k) (.int (oI v)) = true) (hdg : decode cc pc = .ok (.putfield index, 3)) (kk : ∀ η', GO S η' (some t) a ad (sN σ k v) → Kp t (t + 1) η η' → V G Γ mt cc nL ret tb d P kc ks η' (pc + 3) lv rest) : V G Γ mt cc nL ret tb d P kc ks η pc lv (.int (oI v) :: .ref a :: rest) := by
  obtain ⟨F, h1, h2, h3, h4⟩ := h
  exact v_put h1 K k hk hlink hfin hn hf hdg (kk _ (GO.fld h1 h2 h3 h4 (by unfold gvl; rw [hkd]; show Value.int (oI (gN (sN σ k v) k)) = _; rw [gN_sN, if_pos rfl]) (fun j hj => gvl_sN hj) (fun j => gcl_sN)) (Kp.pt h1 ⟨Nat.le_refl _, Nat.lt_succ_self _⟩))
theorem go_put1F {v : Nat} (h : GO S η (some t) a ad σ) (K : Cl S.1 C T S.2.1 ty) (k : Nat) (hk : k < S.2.1) (hkd : S.2.2.1 k = 1) (hlink : Cond.fieldLink mt.cls index (T k).1 (T k).2.1 (T k).2.2.1 ∈ lw_all) (hfin : (T k).2.2.2 = true) (hin : mt.name = "<init>") (hd : (T k).1 = mt.cls) (hn : narrow (ty k) (.int (oI v)) = .int (oI v)) (hf : fits (ty k) (.int (oI v)) = true) (hdg : decode cc pc = .ok (.putfield index, 3)) (kk : ∀ η', GO S η' (some t) a ad (sN σ k v) → Kp t (t + 1) η η' → V G Γ mt cc nL ret tb d P kc ks η' (pc + 3) lv rest) : V G Γ mt cc nL ret tb d P kc ks η pc lv (.int (oI v) :: .ref a :: rest) := by
  obtain ⟨F, h1, h2, h3, h4⟩ := h
  exact v_putF h1 K k hk hlink hfin hin hd hn hf hdg (kk _ (GO.fld h1 h2 h3 h4 (by unfold gvl; rw [hkd]; show Value.int (oI (gN (sN σ k v) k)) = _; rw [gN_sN, if_pos rfl]) (fun j hj => gvl_sN hj) (fun j => gcl_sN)) (Kp.pt h1 ⟨Nat.le_refl _, Nat.lt_succ_self _⟩))
theorem go_put1n {v : Nat} (h : GO S η (some t) a ad σ) (K : Cl S.1 C T S.2.1 ty) (k : Nat) (hk : k < S.2.1) (hkd : S.2.2.1 k = 1) (hlink : Cond.fieldLink mt.cls index (T k).1 (T k).2.1 (T k).2.2.1 ∈ lw_all) (hfin : (T k).2.2.2 = false) (hn : narrow (ty k) (.int (nI v)) = .int (nI v)) (hf : fits (ty k) (.int (nI v)) = true) (hdg : decode cc pc = .ok (.putfield index, 3)) (kk : ∀ η', GO S η' (some t) a ad (sN σ k (v + 1)) → Kp t (t + 1) η η' → V G Γ mt cc nL ret tb d P kc ks η' (pc + 3) lv rest) : V G Γ mt cc nL ret tb d P kc ks η pc lv (.int (nI v) :: .ref a :: rest) := by
  obtain ⟨F, h1, h2, h3, h4⟩ := h
  exact v_put h1 K k hk hlink hfin hn hf hdg (kk _ (GO.fld h1 h2 h3 h4 (by unfold gvl; rw [hkd]; show Value.int (oI (gN (sN σ k (v + 1)) k)) = _; rw [gN_sN, if_pos rfl]; rfl) (fun j hj => gvl_sN hj) (fun j => gcl_sN)) (Kp.pt h1 ⟨Nat.le_refl _, Nat.lt_succ_self _⟩))
theorem go_put1nF {v : Nat} (h : GO S η (some t) a ad σ) (K : Cl S.1 C T S.2.1 ty) (k : Nat) (hk : k < S.2.1) (hkd : S.2.2.1 k = 1) (hlink : Cond.fieldLink mt.cls index (T k).1 (T k).2.1 (T k).2.2.1 ∈ lw_all) (hfin : (T k).2.2.2 = true) (hin : mt.name = "<init>") (hd : (T k).1 = mt.cls) (hn : narrow (ty k) (.int (nI v)) = .int (nI v)) (hf : fits (ty k) (.int (nI v)) = true) (hdg : decode cc pc = .ok (.putfield index, 3)) (kk : ∀ η', GO S η' (some t) a ad (sN σ k (v + 1)) → Kp t (t + 1) η η' → V G Γ mt cc nL ret tb d P kc ks η' (pc + 3) lv rest) : V G Γ mt cc nL ret tb d P kc ks η pc lv (.int (nI v) :: .ref a :: rest) := by
  obtain ⟨F, h1, h2, h3, h4⟩ := h
  exact v_putF h1 K k hk hlink hfin hin hd hn hf hdg (kk _ (GO.fld h1 h2 h3 h4 (by unfold gvl; rw [hkd]; show Value.int (oI (gN (sN σ k (v + 1)) k)) = _; rw [gN_sN, if_pos rfl]; rfl) (fun j hj => gvl_sN hj) (fun j => gcl_sN)) (Kp.pt h1 ⟨Nat.le_refl _, Nat.lt_succ_self _⟩))
theorem go_put1m (h : GO S η (some t) a ad σ) (K : Cl S.1 C T S.2.1 ty) (k : Nat) (hk : k < S.2.1) (hkd : S.2.2.1 k = 1) (hlink : Cond.fieldLink mt.cls index (T k).1 (T k).2.1 (T k).2.2.1 ∈ lw_all) (hfin : (T k).2.2.2 = false) (hn : narrow (ty k) (.int (-1)) = .int (-1)) (hf : fits (ty k) (.int (-1)) = true) (hdg : decode cc pc = .ok (.putfield index, 3)) (kk : ∀ η', GO S η' (some t) a ad (sN σ k 0) → Kp t (t + 1) η η' → V G Γ mt cc nL ret tb d P kc ks η' (pc + 3) lv rest) : V G Γ mt cc nL ret tb d P kc ks η pc lv (.int (-1) :: .ref a :: rest) := by
  obtain ⟨F, h1, h2, h3, h4⟩ := h
  exact v_put h1 K k hk hlink hfin hn hf hdg (kk _ (GO.fld h1 h2 h3 h4 (by unfold gvl; rw [hkd]; show Value.int (oI (gN (sN σ k 0) k)) = _; rw [gN_sN, if_pos rfl]; rfl) (fun j hj => gvl_sN hj) (fun j => gcl_sN)) (Kp.pt h1 ⟨Nat.le_refl _, Nat.lt_succ_self _⟩))
theorem go_put1mF (h : GO S η (some t) a ad σ) (K : Cl S.1 C T S.2.1 ty) (k : Nat) (hk : k < S.2.1) (hkd : S.2.2.1 k = 1) (hlink : Cond.fieldLink mt.cls index (T k).1 (T k).2.1 (T k).2.2.1 ∈ lw_all) (hfin : (T k).2.2.2 = true) (hin : mt.name = "<init>") (hd : (T k).1 = mt.cls) (hn : narrow (ty k) (.int (-1)) = .int (-1)) (hf : fits (ty k) (.int (-1)) = true) (hdg : decode cc pc = .ok (.putfield index, 3)) (kk : ∀ η', GO S η' (some t) a ad (sN σ k 0) → Kp t (t + 1) η η' → V G Γ mt cc nL ret tb d P kc ks η' (pc + 3) lv rest) : V G Γ mt cc nL ret tb d P kc ks η pc lv (.int (-1) :: .ref a :: rest) := by
  obtain ⟨F, h1, h2, h3, h4⟩ := h
  exact v_putF h1 K k hk hlink hfin hin hd hn hf hdg (kk _ (GO.fld h1 h2 h3 h4 (by unfold gvl; rw [hkd]; show Value.int (oI (gN (sN σ k 0) k)) = _; rw [gN_sN, if_pos rfl]; rfl) (fun j hj => gvl_sN hj) (fun j => gcl_sN)) (Kp.pt h1 ⟨Nat.le_refl _, Nat.lt_succ_self _⟩))
theorem go_put2 {v : Int32} (h : GO S η (some t) a ad σ) (K : Cl S.1 C T S.2.1 ty) (k : Nat) (hk : k < S.2.1) (hkd : S.2.2.1 k = 2) (hlink : Cond.fieldLink mt.cls index (T k).1 (T k).2.1 (T k).2.2.1 ∈ lw_all) (hfin : (T k).2.2.2 = false) (hn : narrow (ty k) (.int v) = .int v) (hf : fits (ty k) (.int v) = true) (hdg : decode cc pc = .ok (.putfield index, 3)) (kk : ∀ η', GO S η' (some t) a ad (sI σ k v) → Kp t (t + 1) η η' → V G Γ mt cc nL ret tb d P kc ks η' (pc + 3) lv rest) : V G Γ mt cc nL ret tb d P kc ks η pc lv (.int v :: .ref a :: rest) := by
  obtain ⟨F, h1, h2, h3, h4⟩ := h
  exact v_put h1 K k hk hlink hfin hn hf hdg (kk _ (GO.fld h1 h2 h3 h4 (by unfold gvl; rw [hkd]; show Value.int (gI (sI σ k v) k) = _; rw [gI_sI, if_pos rfl]) (fun j hj => gvl_sI hj) (fun j => gcl_sI)) (Kp.pt h1 ⟨Nat.le_refl _, Nat.lt_succ_self _⟩))
theorem go_put2F {v : Int32} (h : GO S η (some t) a ad σ) (K : Cl S.1 C T S.2.1 ty) (k : Nat) (hk : k < S.2.1) (hkd : S.2.2.1 k = 2) (hlink : Cond.fieldLink mt.cls index (T k).1 (T k).2.1 (T k).2.2.1 ∈ lw_all) (hfin : (T k).2.2.2 = true) (hin : mt.name = "<init>") (hd : (T k).1 = mt.cls) (hn : narrow (ty k) (.int v) = .int v) (hf : fits (ty k) (.int v) = true) (hdg : decode cc pc = .ok (.putfield index, 3)) (kk : ∀ η', GO S η' (some t) a ad (sI σ k v) → Kp t (t + 1) η η' → V G Γ mt cc nL ret tb d P kc ks η' (pc + 3) lv rest) : V G Γ mt cc nL ret tb d P kc ks η pc lv (.int v :: .ref a :: rest) := by
  obtain ⟨F, h1, h2, h3, h4⟩ := h
  exact v_putF h1 K k hk hlink hfin hin hd hn hf hdg (kk _ (GO.fld h1 h2 h3 h4 (by unfold gvl; rw [hkd]; show Value.int (gI (sI σ k v) k) = _; rw [gI_sI, if_pos rfl]) (fun j hj => gvl_sI hj) (fun j => gcl_sI)) (Kp.pt h1 ⟨Nat.le_refl _, Nat.lt_succ_self _⟩))
theorem go_put3 {v : Nat} (h : GO S η (some t) a ad σ) (K : Cl S.1 C T S.2.1 ty) (k : Nat) (hk : k < S.2.1) (hkd : S.2.2.1 k = 3) (hlink : Cond.fieldLink mt.cls index (T k).1 (T k).2.1 (T k).2.2.1 ∈ lw_all) (hfin : (T k).2.2.2 = false) (hn : narrow (ty k) (.ref v) = .ref v) (hf : fits (ty k) (.ref v) = true) (hdg : decode cc pc = .ok (.putfield index, 3)) (kk : ∀ η', GO S η' (some t) a ad (sN σ k (v + 1)) → Kp t (t + 1) η η' → V G Γ mt cc nL ret tb d P kc ks η' (pc + 3) lv rest) : V G Γ mt cc nL ret tb d P kc ks η pc lv (.ref v :: .ref a :: rest) := by
  obtain ⟨F, h1, h2, h3, h4⟩ := h
  exact v_put h1 K k hk hlink hfin hn hf hdg (kk _ (GO.fld h1 h2 h3 h4 (by unfold gvl; rw [hkd]; show rfN (gN (sN σ k (v + 1)) k) = _; rw [gN_sN, if_pos rfl]; rfl) (fun j hj => gvl_sN hj) (fun j => gcl_sN)) (Kp.pt h1 ⟨Nat.le_refl _, Nat.lt_succ_self _⟩))
theorem go_put3F {v : Nat} (h : GO S η (some t) a ad σ) (K : Cl S.1 C T S.2.1 ty) (k : Nat) (hk : k < S.2.1) (hkd : S.2.2.1 k = 3) (hlink : Cond.fieldLink mt.cls index (T k).1 (T k).2.1 (T k).2.2.1 ∈ lw_all) (hfin : (T k).2.2.2 = true) (hin : mt.name = "<init>") (hd : (T k).1 = mt.cls) (hn : narrow (ty k) (.ref v) = .ref v) (hf : fits (ty k) (.ref v) = true) (hdg : decode cc pc = .ok (.putfield index, 3)) (kk : ∀ η', GO S η' (some t) a ad (sN σ k (v + 1)) → Kp t (t + 1) η η' → V G Γ mt cc nL ret tb d P kc ks η' (pc + 3) lv rest) : V G Γ mt cc nL ret tb d P kc ks η pc lv (.ref v :: .ref a :: rest) := by
  obtain ⟨F, h1, h2, h3, h4⟩ := h
  exact v_putF h1 K k hk hlink hfin hin hd hn hf hdg (kk _ (GO.fld h1 h2 h3 h4 (by unfold gvl; rw [hkd]; show rfN (gN (sN σ k (v + 1)) k) = _; rw [gN_sN, if_pos rfl]; rfl) (fun j hj => gvl_sN hj) (fun j => gcl_sN)) (Kp.pt h1 ⟨Nat.le_refl _, Nat.lt_succ_self _⟩))
theorem go_put3z (h : GO S η (some t) a ad σ) (K : Cl S.1 C T S.2.1 ty) (k : Nat) (hk : k < S.2.1) (hkd : S.2.2.1 k = 3) (hlink : Cond.fieldLink mt.cls index (T k).1 (T k).2.1 (T k).2.2.1 ∈ lw_all) (hfin : (T k).2.2.2 = false) (hn : narrow (ty k) (.null) = .null) (hf : fits (ty k) (.null) = true) (hdg : decode cc pc = .ok (.putfield index, 3)) (kk : ∀ η', GO S η' (some t) a ad (sN σ k 0) → Kp t (t + 1) η η' → V G Γ mt cc nL ret tb d P kc ks η' (pc + 3) lv rest) : V G Γ mt cc nL ret tb d P kc ks η pc lv (.null :: .ref a :: rest) := by
  obtain ⟨F, h1, h2, h3, h4⟩ := h
  exact v_put h1 K k hk hlink hfin hn hf hdg (kk _ (GO.fld h1 h2 h3 h4 (by unfold gvl; rw [hkd]; show rfN (gN (sN σ k 0) k) = _; rw [gN_sN, if_pos rfl]; rfl) (fun j hj => gvl_sN hj) (fun j => gcl_sN)) (Kp.pt h1 ⟨Nat.le_refl _, Nat.lt_succ_self _⟩))
theorem go_put3zF (h : GO S η (some t) a ad σ) (K : Cl S.1 C T S.2.1 ty) (k : Nat) (hk : k < S.2.1) (hkd : S.2.2.1 k = 3) (hlink : Cond.fieldLink mt.cls index (T k).1 (T k).2.1 (T k).2.2.1 ∈ lw_all) (hfin : (T k).2.2.2 = true) (hin : mt.name = "<init>") (hd : (T k).1 = mt.cls) (hn : narrow (ty k) (.null) = .null) (hf : fits (ty k) (.null) = true) (hdg : decode cc pc = .ok (.putfield index, 3)) (kk : ∀ η', GO S η' (some t) a ad (sN σ k 0) → Kp t (t + 1) η η' → V G Γ mt cc nL ret tb d P kc ks η' (pc + 3) lv rest) : V G Γ mt cc nL ret tb d P kc ks η pc lv (.null :: .ref a :: rest) := by
  obtain ⟨F, h1, h2, h3, h4⟩ := h
  exact v_putF h1 K k hk hlink hfin hin hd hn hf hdg (kk _ (GO.fld h1 h2 h3 h4 (by unfold gvl; rw [hkd]; show rfN (gN (sN σ k 0) k) = _; rw [gN_sN, if_pos rfl]; rfl) (fun j hj => gvl_sN hj) (fun j => gcl_sN)) (Kp.pt h1 ⟨Nat.le_refl _, Nat.lt_succ_self _⟩))
theorem go_get0N {host : String} (h : GO S η o a ad σ) (K : Cl S.1 C T S.2.1 ty) (k : Nat) (hk : k < S.2.1) (hkd : S.2.2.1 k = 0) (n : Nat) (hn : gN σ k = n) (hlink : Cond.fieldLinkNest mt.cls index (T k).1 (T k).2.1 (T k).2.2.1 host ∈ lw_tbl) (hdg : decode cc pc = .ok (.getfield index, 3)) (kk : V G Γ mt cc nL ret tb d P kc ks η (pc + 3) lv (.int (nI n) :: rest)) : V G Γ mt cc nL ret tb d P kc ks η pc lv (.ref a :: rest) := by
  obtain ⟨F, h1, h2, -⟩ := h
  exact v_getNW (v := .int (nI n)) h1 K k hk hlink ((h2 k hk).trans (by unfold gvl; rw [hkd]; show Value.int (nI (gN σ k)) = _; rw [hn])) rfl hdg kk
theorem go_get1N {host : String} (h : GO S η o a ad σ) (K : Cl S.1 C T S.2.1 ty) (k : Nat) (hk : k < S.2.1) (hkd : S.2.2.1 k = 1) (n : Nat) (hn : gN σ k = n) (hlink : Cond.fieldLinkNest mt.cls index (T k).1 (T k).2.1 (T k).2.2.1 host ∈ lw_tbl) (hdg : decode cc pc = .ok (.getfield index, 3)) (kk : V G Γ mt cc nL ret tb d P kc ks η (pc + 3) lv (.int (oI n) :: rest)) : V G Γ mt cc nL ret tb d P kc ks η pc lv (.ref a :: rest) := by
  obtain ⟨F, h1, h2, -⟩ := h
  exact v_getNW (v := .int (oI n)) h1 K k hk hlink ((h2 k hk).trans (by unfold gvl; rw [hkd]; show Value.int (oI (gN σ k)) = _; rw [hn])) rfl hdg kk
theorem go_get2N {host : String} (h : GO S η o a ad σ) (K : Cl S.1 C T S.2.1 ty) (k : Nat) (hk : k < S.2.1) (hkd : S.2.2.1 k = 2) (n : Int32) (hn : gI σ k = n) (hlink : Cond.fieldLinkNest mt.cls index (T k).1 (T k).2.1 (T k).2.2.1 host ∈ lw_tbl) (hdg : decode cc pc = .ok (.getfield index, 3)) (kk : V G Γ mt cc nL ret tb d P kc ks η (pc + 3) lv (.int n :: rest)) : V G Γ mt cc nL ret tb d P kc ks η pc lv (.ref a :: rest) := by
  obtain ⟨F, h1, h2, -⟩ := h
  exact v_getNW (v := .int n) h1 K k hk hlink ((h2 k hk).trans (by unfold gvl; rw [hkd]; show Value.int (gI σ k) = _; rw [hn])) rfl hdg kk
theorem go_get3N {host : String} (h : GO S η o a ad σ) (K : Cl S.1 C T S.2.1 ty) (k : Nat) (hk : k < S.2.1) (hkd : S.2.2.1 k = 3) (n : Nat) (hn : gN σ k = n + 1) (hlink : Cond.fieldLinkNest mt.cls index (T k).1 (T k).2.1 (T k).2.2.1 host ∈ lw_tbl) (hdg : decode cc pc = .ok (.getfield index, 3)) (kk : V G Γ mt cc nL ret tb d P kc ks η (pc + 3) lv (.ref n :: rest)) : V G Γ mt cc nL ret tb d P kc ks η pc lv (.ref a :: rest) := by
  obtain ⟨F, h1, h2, -⟩ := h
  exact v_getNW (v := .ref n) h1 K k hk hlink ((h2 k hk).trans (by unfold gvl; rw [hkd]; show rfN (gN σ k) = _; rw [hn]; rfl)) rfl hdg kk
theorem go_getZN {host : String} (h : GO S η o a ad σ) (K : Cl S.1 C T S.2.1 ty) (k : Nat) (hk : k < S.2.1) (hkd : S.2.2.1 k = 3) (hn : gN σ k = 0) (hlink : Cond.fieldLinkNest mt.cls index (T k).1 (T k).2.1 (T k).2.2.1 host ∈ lw_tbl) (hdg : decode cc pc = .ok (.getfield index, 3)) (kk : V G Γ mt cc nL ret tb d P kc ks η (pc + 3) lv (.null :: rest)) : V G Γ mt cc nL ret tb d P kc ks η pc lv (.ref a :: rest) := by
  obtain ⟨F, h1, h2, -⟩ := h
  exact v_getNW (v := .null) h1 K k hk hlink ((h2 k hk).trans (by unfold gvl; rw [hkd]; show rfN (gN σ k) = _; rw [hn]; rfl)) rfl hdg kk
theorem go_getAN {host : String} (h : GO S η o a ad σ) (K : Cl S.1 C T S.2.1 ty) (k : Nat) (hk : k < S.2.1) (hkd : 10 ≤ S.2.2.1 k) (hlink : Cond.fieldLinkNest mt.cls index (T k).1 (T k).2.1 (T k).2.2.1 host ∈ lw_tbl) (hdg : decode cc pc = .ok (.getfield index, 3)) (kk : V G Γ mt cc nL ret tb d P kc ks η (pc + 3) lv (.ref (ad k) :: rest)) : V G Γ mt cc nL ret tb d P kc ks η pc lv (.ref a :: rest) := by
  obtain ⟨F, h1, h2, -⟩ := h
  exact v_getNW (v := .ref (ad k)) h1 K k hk hlink ((h2 k hk).trans (by unfold gvl; split <;> first | rfl | (rename_i q; rw [q] at hkd; exact absurd hkd (by decide)))) rfl hdg kk
theorem go_put0N {host : String} {v : Nat} (h : GO S η (some t) a ad σ) (K : Cl S.1 C T S.2.1 ty) (k : Nat) (hk : k < S.2.1) (hkd : S.2.2.1 k = 0) (hlink : Cond.fieldLinkNest mt.cls index (T k).1 (T k).2.1 (T k).2.2.1 host ∈ lw_tbl) (hfin : (T k).2.2.2 = false) (hn : narrow (ty k) (.int (nI v)) = .int (nI v)) (hf : fits (ty k) (.int (nI v)) = true) (hdg : decode cc pc = .ok (.putfield index, 3)) (kk : ∀ η', GO S η' (some t) a ad (sN σ k v) → Kp t (t + 1) η η' → V G Γ mt cc nL ret tb d P kc ks η' (pc + 3) lv rest) : V G Γ mt cc nL ret tb d P kc ks η pc lv (.int (nI v) :: .ref a :: rest) := by
  obtain ⟨F, h1, h2, h3, h4⟩ := h
  exact v_putN h1 K k hk hlink hfin hn hf hdg (kk _ (GO.fld h1 h2 h3 h4 (by unfold gvl; rw [hkd]; show Value.int (nI (gN (sN σ k v) k)) = _; rw [gN_sN, if_pos rfl]) (fun j hj => gvl_sN hj) (fun j => gcl_sN)) (Kp.pt h1 ⟨Nat.le_refl _, Nat.lt_succ_self _⟩))
theorem go_put1N {host : String} {v : Nat} (h : GO S η (some t) a ad σ) (K : Cl S.1 C T S.2.1 ty) (k : Nat) (hk : k < S.2.1) (hkd : S.2.2.1 k = 1) (hlink : Cond.fieldLinkNest mt.cls index (T k).1 (T k).2.1 (T k).2.2.1 host ∈ lw_tbl) (hfin : (T k).2.2.2 = false) (hn : narrow (ty k) (.int (oI v)) = .int (oI v)) (hf : fits (ty k) (.int (oI v)) = true) (hdg : decode cc pc = .ok (.putfield index, 3)) (kk : ∀ η', GO S η' (some t) a ad (sN σ k v) → Kp t (t + 1) η η' → V G Γ mt cc nL ret tb d P kc ks η' (pc + 3) lv rest) : V G Γ mt cc nL ret tb d P kc ks η pc lv (.int (oI v) :: .ref a :: rest) := by
  obtain ⟨F, h1, h2, h3, h4⟩ := h
  exact v_putN h1 K k hk hlink hfin hn hf hdg (kk _ (GO.fld h1 h2 h3 h4 (by unfold gvl; rw [hkd]; show Value.int (oI (gN (sN σ k v) k)) = _; rw [gN_sN, if_pos rfl]) (fun j hj => gvl_sN hj) (fun j => gcl_sN)) (Kp.pt h1 ⟨Nat.le_refl _, Nat.lt_succ_self _⟩))
theorem go_put1nN {host : String} {v : Nat} (h : GO S η (some t) a ad σ) (K : Cl S.1 C T S.2.1 ty) (k : Nat) (hk : k < S.2.1) (hkd : S.2.2.1 k = 1) (hlink : Cond.fieldLinkNest mt.cls index (T k).1 (T k).2.1 (T k).2.2.1 host ∈ lw_tbl) (hfin : (T k).2.2.2 = false) (hn : narrow (ty k) (.int (nI v)) = .int (nI v)) (hf : fits (ty k) (.int (nI v)) = true) (hdg : decode cc pc = .ok (.putfield index, 3)) (kk : ∀ η', GO S η' (some t) a ad (sN σ k (v + 1)) → Kp t (t + 1) η η' → V G Γ mt cc nL ret tb d P kc ks η' (pc + 3) lv rest) : V G Γ mt cc nL ret tb d P kc ks η pc lv (.int (nI v) :: .ref a :: rest) := by
  obtain ⟨F, h1, h2, h3, h4⟩ := h
  exact v_putN h1 K k hk hlink hfin hn hf hdg (kk _ (GO.fld h1 h2 h3 h4 (by unfold gvl; rw [hkd]; show Value.int (oI (gN (sN σ k (v + 1)) k)) = _; rw [gN_sN, if_pos rfl]; rfl) (fun j hj => gvl_sN hj) (fun j => gcl_sN)) (Kp.pt h1 ⟨Nat.le_refl _, Nat.lt_succ_self _⟩))
theorem go_put1mN {host : String} (h : GO S η (some t) a ad σ) (K : Cl S.1 C T S.2.1 ty) (k : Nat) (hk : k < S.2.1) (hkd : S.2.2.1 k = 1) (hlink : Cond.fieldLinkNest mt.cls index (T k).1 (T k).2.1 (T k).2.2.1 host ∈ lw_tbl) (hfin : (T k).2.2.2 = false) (hn : narrow (ty k) (.int (-1)) = .int (-1)) (hf : fits (ty k) (.int (-1)) = true) (hdg : decode cc pc = .ok (.putfield index, 3)) (kk : ∀ η', GO S η' (some t) a ad (sN σ k 0) → Kp t (t + 1) η η' → V G Γ mt cc nL ret tb d P kc ks η' (pc + 3) lv rest) : V G Γ mt cc nL ret tb d P kc ks η pc lv (.int (-1) :: .ref a :: rest) := by
  obtain ⟨F, h1, h2, h3, h4⟩ := h
  exact v_putN h1 K k hk hlink hfin hn hf hdg (kk _ (GO.fld h1 h2 h3 h4 (by unfold gvl; rw [hkd]; show Value.int (oI (gN (sN σ k 0) k)) = _; rw [gN_sN, if_pos rfl]; rfl) (fun j hj => gvl_sN hj) (fun j => gcl_sN)) (Kp.pt h1 ⟨Nat.le_refl _, Nat.lt_succ_self _⟩))
theorem go_put2N {host : String} {v : Int32} (h : GO S η (some t) a ad σ) (K : Cl S.1 C T S.2.1 ty) (k : Nat) (hk : k < S.2.1) (hkd : S.2.2.1 k = 2) (hlink : Cond.fieldLinkNest mt.cls index (T k).1 (T k).2.1 (T k).2.2.1 host ∈ lw_tbl) (hfin : (T k).2.2.2 = false) (hn : narrow (ty k) (.int v) = .int v) (hf : fits (ty k) (.int v) = true) (hdg : decode cc pc = .ok (.putfield index, 3)) (kk : ∀ η', GO S η' (some t) a ad (sI σ k v) → Kp t (t + 1) η η' → V G Γ mt cc nL ret tb d P kc ks η' (pc + 3) lv rest) : V G Γ mt cc nL ret tb d P kc ks η pc lv (.int v :: .ref a :: rest) := by
  obtain ⟨F, h1, h2, h3, h4⟩ := h
  exact v_putN h1 K k hk hlink hfin hn hf hdg (kk _ (GO.fld h1 h2 h3 h4 (by unfold gvl; rw [hkd]; show Value.int (gI (sI σ k v) k) = _; rw [gI_sI, if_pos rfl]) (fun j hj => gvl_sI hj) (fun j => gcl_sI)) (Kp.pt h1 ⟨Nat.le_refl _, Nat.lt_succ_self _⟩))
theorem go_put3N {host : String} {v : Nat} (h : GO S η (some t) a ad σ) (K : Cl S.1 C T S.2.1 ty) (k : Nat) (hk : k < S.2.1) (hkd : S.2.2.1 k = 3) (hlink : Cond.fieldLinkNest mt.cls index (T k).1 (T k).2.1 (T k).2.2.1 host ∈ lw_tbl) (hfin : (T k).2.2.2 = false) (hn : narrow (ty k) (.ref v) = .ref v) (hf : fits (ty k) (.ref v) = true) (hdg : decode cc pc = .ok (.putfield index, 3)) (kk : ∀ η', GO S η' (some t) a ad (sN σ k (v + 1)) → Kp t (t + 1) η η' → V G Γ mt cc nL ret tb d P kc ks η' (pc + 3) lv rest) : V G Γ mt cc nL ret tb d P kc ks η pc lv (.ref v :: .ref a :: rest) := by
  obtain ⟨F, h1, h2, h3, h4⟩ := h
  exact v_putN h1 K k hk hlink hfin hn hf hdg (kk _ (GO.fld h1 h2 h3 h4 (by unfold gvl; rw [hkd]; show rfN (gN (sN σ k (v + 1)) k) = _; rw [gN_sN, if_pos rfl]; rfl) (fun j hj => gvl_sN hj) (fun j => gcl_sN)) (Kp.pt h1 ⟨Nat.le_refl _, Nat.lt_succ_self _⟩))
theorem go_put3zN {host : String} (h : GO S η (some t) a ad σ) (K : Cl S.1 C T S.2.1 ty) (k : Nat) (hk : k < S.2.1) (hkd : S.2.2.1 k = 3) (hlink : Cond.fieldLinkNest mt.cls index (T k).1 (T k).2.1 (T k).2.2.1 host ∈ lw_tbl) (hfin : (T k).2.2.2 = false) (hn : narrow (ty k) (.null) = .null) (hf : fits (ty k) (.null) = true) (hdg : decode cc pc = .ok (.putfield index, 3)) (kk : ∀ η', GO S η' (some t) a ad (sN σ k 0) → Kp t (t + 1) η η' → V G Γ mt cc nL ret tb d P kc ks η' (pc + 3) lv rest) : V G Γ mt cc nL ret tb d P kc ks η pc lv (.null :: .ref a :: rest) := by
  obtain ⟨F, h1, h2, h3, h4⟩ := h
  exact v_putN h1 K k hk hlink hfin hn hf hdg (kk _ (GO.fld h1 h2 h3 h4 (by unfold gvl; rw [hkd]; show rfN (gN (sN σ k 0) k) = _; rw [gN_sN, if_pos rfl]; rfl) (fun j hj => gvl_sN hj) (fun j => gcl_sN)) (Kp.pt h1 ⟨Nat.le_refl _, Nat.lt_succ_self _⟩))
theorem go_ld10 {i : Nat} (h : GO S η o a ad σ) (k : Nat) (hk : k < S.2.1) (hkd : S.2.2.1 k = 10) (hi : i < S.2.2.2 k) (hb : S.2.2.2 k < 1000000) (n : Nat) (hn : gA σ k i = n) (hdg : decode cc pc = .ok (.iaload, 1)) (kk : V G Γ mt cc nL ret tb d P kc ks η (pc + 1) lv (.int (nI n) :: rest)) : V G Γ mt cc nL ret tb d P kc ks η pc lv (.int (nI i) :: .ref (ad k) :: rest) := by
  subst hn
  obtain ⟨F, h1, h2, h3, h4⟩ := h
  have e := h3 k hk (by rw [hkd]; decide)
  unfold gcl at e
  rw [hkd] at e
  refine v_iald e (vp_in_nI hi (by omega)) hdg ?_
  rw [nI_clamp (by omega)]
  exact kk
theorem go_ld11 {i : Nat} (h : GO S η o a ad σ) (k : Nat) (hk : k < S.2.1) (hkd : S.2.2.1 k = 11) (hi : i < S.2.2.2 k) (hb : S.2.2.2 k < 1000000) (n : Nat) (hn : gA σ k i = n) (hdg : decode cc pc = .ok (.iaload, 1)) (kk : V G Γ mt cc nL ret tb d P kc ks η (pc + 1) lv (.int (oI n) :: rest)) : V G Γ mt cc nL ret tb d P kc ks η pc lv (.int (nI i) :: .ref (ad k) :: rest) := by
  subst hn
  obtain ⟨F, h1, h2, h3, h4⟩ := h
  have e := h3 k hk (by rw [hkd]; decide)
  unfold gcl at e
  rw [hkd] at e
  refine v_iald e (vp_in_nI hi (by omega)) hdg ?_
  rw [nI_clamp (by omega)]
  exact kk
theorem go_ld12 {i : Nat} (h : GO S η o a ad σ) (k : Nat) (hk : k < S.2.1) (hkd : S.2.2.1 k = 12) (hi : i < S.2.2.2 k) (hb : S.2.2.2 k < 1000000) (n : Nat) (hn : gA σ k i = n) (hdg : decode cc pc = .ok (.baload, 1)) (kk : V G Γ mt cc nL ret tb d P kc ks η (pc + 1) lv (.int (nI n) :: rest)) : V G Γ mt cc nL ret tb d P kc ks η pc lv (.int (nI i) :: .ref (ad k) :: rest) := by
  subst hn
  obtain ⟨F, h1, h2, h3, h4⟩ := h
  have e := h3 k hk (by rw [hkd]; decide)
  unfold gcl at e
  rw [hkd] at e
  refine v_zald e (vp_in_nI hi (by omega)) hdg ?_
  rw [nI_clamp (by omega)]
  exact kk
theorem go_ld13 {i : Nat} (h : GO S η o a ad σ) (k : Nat) (hk : k < S.2.1) (hkd : S.2.2.1 k = 13) (hi : i < S.2.2.2 k) (hb : S.2.2.2 k < 1000000) (n : Int32) (hn : gB σ k i = n) (hdg : decode cc pc = .ok (.baload, 1)) (kk : V G Γ mt cc nL ret tb d P kc ks η (pc + 1) lv (.int n :: rest)) : V G Γ mt cc nL ret tb d P kc ks η pc lv (.int (nI i) :: .ref (ad k) :: rest) := by
  subst hn
  obtain ⟨F, h1, h2, h3, h4⟩ := h
  have e := h3 k hk (by rw [hkd]; decide)
  unfold gcl at e
  rw [hkd] at e
  refine v_bald e (vp_in_nI hi (by omega)) hdg ?_
  rw [nI_clamp (by omega)]
  exact kk
theorem go_ld14 {i : Nat} (h : GO S η o a ad σ) (k : Nat) (hk : k < S.2.1) (hkd : S.2.2.1 k = 14) (hi : i < S.2.2.2 k) (hb : S.2.2.2 k < 1000000) (n : Int32) (hn : gB σ k i = n) (hdg : decode cc pc = .ok (.iaload, 1)) (kk : V G Γ mt cc nL ret tb d P kc ks η (pc + 1) lv (.int n :: rest)) : V G Γ mt cc nL ret tb d P kc ks η pc lv (.int (nI i) :: .ref (ad k) :: rest) := by
  subst hn
  obtain ⟨F, h1, h2, h3, h4⟩ := h
  have e := h3 k hk (by rw [hkd]; decide)
  unfold gcl at e
  rw [hkd] at e
  refine v_iald e (vp_in_nI hi (by omega)) hdg ?_
  rw [nI_clamp (by omega)]
  exact kk
theorem go_st10 {i : Nat} {v : Nat} (h : GO S η (some t) a ad σ) (k : Nat) (hk : k < S.2.1) (hkd : S.2.2.1 k = 10) (hi : i < S.2.2.2 k) (hb : S.2.2.2 k < 1000000) (hdg : decode cc pc = .ok (.iastore, 1)) (kk : ∀ η', GO S η' (some t) a ad (sA σ k i v) → Kp t (t + 1) η η' → V G Γ mt cc nL ret tb d P kc ks η' (pc + 1) lv rest) : V G Γ mt cc nL ret tb d P kc ks η pc lv (.int (nI v) :: .int (nI i) :: .ref (ad k) :: rest) := by
  obtain ⟨F, h1, h2, h3, h4⟩ := h
  have hd : 10 ≤ S.2.2.1 k := by rw [hkd]; decide
  have e := h3 k hk hd
  unfold gcl at e
  rw [hkd] at e
  refine v_iast e (vp_in_nI hi (by omega)) hdg ?_
  rw [nI_clamp (by omega)]
  refine kk _ (GO.arr hk hd h1 h2 h3 h4 ?_ (fun j hj => gcl_sA hj) (fun j => rfl)) (Kp.pt e ⟨Nat.le_refl _, Nat.lt_succ_self _⟩)
  · unfold gcl
    rw [hkd]
    simp only [gA_sA, if_true]
    congr 3
    funext j
    unfold upd va_up
    split <;> rfl
theorem go_st11 {i : Nat} {v : Nat} (h : GO S η (some t) a ad σ) (k : Nat) (hk : k < S.2.1) (hkd : S.2.2.1 k = 11) (hi : i < S.2.2.2 k) (hb : S.2.2.2 k < 1000000) (hdg : decode cc pc = .ok (.iastore, 1)) (kk : ∀ η', GO S η' (some t) a ad (sA σ k i v) → Kp t (t + 1) η η' → V G Γ mt cc nL ret tb d P kc ks η' (pc + 1) lv rest) : V G Γ mt cc nL ret tb d P kc ks η pc lv (.int (oI v) :: .int (nI i) :: .ref (ad k) :: rest) := by
  obtain ⟨F, h1, h2, h3, h4⟩ := h
  have hd : 10 ≤ S.2.2.1 k := by rw [hkd]; decide
  have e := h3 k hk hd
  unfold gcl at e
  rw [hkd] at e
  refine v_iast e (vp_in_nI hi (by omega)) hdg ?_
  rw [nI_clamp (by omega)]
  refine kk _ (GO.arr hk hd h1 h2 h3 h4 ?_ (fun j hj => gcl_sA hj) (fun j => rfl)) (Kp.pt e ⟨Nat.le_refl _, Nat.lt_succ_self _⟩)
  · unfold gcl
    rw [hkd]
    simp only [gA_sA, if_true]
    congr 3
    funext j
    unfold upd va_up
    split <;> rfl
theorem go_st11n {i : Nat} {v : Nat} (h : GO S η (some t) a ad σ) (k : Nat) (hk : k < S.2.1) (hkd : S.2.2.1 k = 11) (hi : i < S.2.2.2 k) (hb : S.2.2.2 k < 1000000) (hdg : decode cc pc = .ok (.iastore, 1)) (kk : ∀ η', GO S η' (some t) a ad (sA σ k i (v + 1)) → Kp t (t + 1) η η' → V G Γ mt cc nL ret tb d P kc ks η' (pc + 1) lv rest) : V G Γ mt cc nL ret tb d P kc ks η pc lv (.int (nI v) :: .int (nI i) :: .ref (ad k) :: rest) := by
  obtain ⟨F, h1, h2, h3, h4⟩ := h
  have hd : 10 ≤ S.2.2.1 k := by rw [hkd]; decide
  have e := h3 k hk hd
  unfold gcl at e
  rw [hkd] at e
  refine v_iast e (vp_in_nI hi (by omega)) hdg ?_
  rw [nI_clamp (by omega)]
  refine kk _ (GO.arr hk hd h1 h2 h3 h4 ?_ (fun j hj => gcl_sA hj) (fun j => rfl)) (Kp.pt e ⟨Nat.le_refl _, Nat.lt_succ_self _⟩)
  · unfold gcl
    rw [hkd]
    simp only [gA_sA, if_true]
    congr 3
    funext j
    unfold upd va_up
    split <;> rfl
theorem go_st11m {i : Nat} (h : GO S η (some t) a ad σ) (k : Nat) (hk : k < S.2.1) (hkd : S.2.2.1 k = 11) (hi : i < S.2.2.2 k) (hb : S.2.2.2 k < 1000000) (hdg : decode cc pc = .ok (.iastore, 1)) (kk : ∀ η', GO S η' (some t) a ad (sA σ k i 0) → Kp t (t + 1) η η' → V G Γ mt cc nL ret tb d P kc ks η' (pc + 1) lv rest) : V G Γ mt cc nL ret tb d P kc ks η pc lv (.int (-1) :: .int (nI i) :: .ref (ad k) :: rest) := by
  obtain ⟨F, h1, h2, h3, h4⟩ := h
  have hd : 10 ≤ S.2.2.1 k := by rw [hkd]; decide
  have e := h3 k hk hd
  unfold gcl at e
  rw [hkd] at e
  refine v_iast e (vp_in_nI hi (by omega)) hdg ?_
  rw [nI_clamp (by omega)]
  refine kk _ (GO.arr hk hd h1 h2 h3 h4 ?_ (fun j hj => gcl_sA hj) (fun j => rfl)) (Kp.pt e ⟨Nat.le_refl _, Nat.lt_succ_self _⟩)
  · unfold gcl
    rw [hkd]
    simp only [gA_sA, if_true]
    congr 3
    funext j
    unfold upd va_up
    split <;> rfl
theorem go_st12 {i : Nat} {v : Nat} (h : GO S η (some t) a ad σ) (k : Nat) (hk : k < S.2.1) (hkd : S.2.2.1 k = 12) (hi : i < S.2.2.2 k) (hb : S.2.2.2 k < 1000000) (hv : v < 2) (hdg : decode cc pc = .ok (.bastore, 1)) (kk : ∀ η', GO S η' (some t) a ad (sA σ k i v) → Kp t (t + 1) η η' → V G Γ mt cc nL ret tb d P kc ks η' (pc + 1) lv rest) : V G Γ mt cc nL ret tb d P kc ks η pc lv (.int (nI v) :: .int (nI i) :: .ref (ad k) :: rest) := by
  obtain ⟨F, h1, h2, h3, h4⟩ := h
  have hd : 10 ≤ S.2.2.1 k := by rw [hkd]; decide
  have e := h3 k hk hd
  unfold gcl at e
  rw [hkd] at e
  refine v_zast e (vp_in_nI hi (by omega)) (zb hv).1 hdg ?_
  rw [nI_clamp (by omega)]
  refine kk _ (GO.arr hk hd h1 h2 h3 h4 ?_ (fun j hj => gcl_sA hj) (fun j => rfl)) (Kp.pt e ⟨Nat.le_refl _, Nat.lt_succ_self _⟩)
  · unfold gcl
    rw [hkd]
    simp only [gA_sA, if_true]
    congr 3
    funext j
    unfold upd va_up
    split <;> rfl
theorem go_st13 {i : Nat} {v : Int32} (h : GO S η (some t) a ad σ) (k : Nat) (hk : k < S.2.1) (hkd : S.2.2.1 k = 13) (hi : i < S.2.2.2 k) (hb : S.2.2.2 k < 1000000) (hv : narrow .byte (.int v) = .int v) (hdg : decode cc pc = .ok (.bastore, 1)) (kk : ∀ η', GO S η' (some t) a ad (sB σ k i v) → Kp t (t + 1) η η' → V G Γ mt cc nL ret tb d P kc ks η' (pc + 1) lv rest) : V G Γ mt cc nL ret tb d P kc ks η pc lv (.int v :: .int (nI i) :: .ref (ad k) :: rest) := by
  obtain ⟨F, h1, h2, h3, h4⟩ := h
  have hd : 10 ≤ S.2.2.1 k := by rw [hkd]; decide
  have e := h3 k hk hd
  unfold gcl at e
  rw [hkd] at e
  refine v_bast e (vp_in_nI hi (by omega)) hv hdg ?_
  rw [nI_clamp (by omega)]
  refine kk _ (GO.arr hk hd h1 h2 h3 h4 ?_ (fun j hj => gcl_sB hj) (fun j => rfl)) (Kp.pt e ⟨Nat.le_refl _, Nat.lt_succ_self _⟩)
  · unfold gcl
    rw [hkd]
    simp only [gB_sB, if_true]
theorem go_st14 {i : Nat} {v : Int32} (h : GO S η (some t) a ad σ) (k : Nat) (hk : k < S.2.1) (hkd : S.2.2.1 k = 14) (hi : i < S.2.2.2 k) (hb : S.2.2.2 k < 1000000) (hdg : decode cc pc = .ok (.iastore, 1)) (kk : ∀ η', GO S η' (some t) a ad (sB σ k i v) → Kp t (t + 1) η η' → V G Γ mt cc nL ret tb d P kc ks η' (pc + 1) lv rest) : V G Γ mt cc nL ret tb d P kc ks η pc lv (.int v :: .int (nI i) :: .ref (ad k) :: rest) := by
  obtain ⟨F, h1, h2, h3, h4⟩ := h
  have hd : 10 ≤ S.2.2.1 k := by rw [hkd]; decide
  have e := h3 k hk hd
  unfold gcl at e
  rw [hkd] at e
  refine v_iast e (vp_in_nI hi (by omega)) hdg ?_
  rw [nI_clamp (by omega)]
  refine kk _ (GO.arr hk hd h1 h2 h3 h4 ?_ (fun j hj => gcl_sB hj) (fun j => rfl)) (Kp.pt e ⟨Nat.le_refl _, Nat.lt_succ_self _⟩)
  · unfold gcl
    rw [hkd]
    simp only [gB_sB, if_true]
theorem go_len (h : GO S η o a ad σ) (k : Nat) (hk : k < S.2.1) (hd : 10 ≤ S.2.2.1 k) (hdg : decode cc pc = .ok (.arraylength, 1)) (kk : V G Γ mt cc nL ret tb d P kc ks η (pc + 1) lv (.int (nI (S.2.2.2 k)) :: rest)) : V G Γ mt cc nL ret tb d P kc ks η pc lv (.ref (ad k) :: rest) := by
  obtain ⟨F, h1, h2, h3, h4⟩ := h
  have e := h3 k hk hd
  unfold gcl at e
  split at e <;> exact v_alen e (by decide) hdg kk
end VG
