/-! ===== reading expressions: the model's state ===== -/
/-- the token at p, code rd (tp of it), waiting acts wt (wn), depth dp, flags td -/
def XS (σ : MS) (p : Nat) (rd : Nat → Nat) (tp : Nat) (wt : Nat → Nat) (wn dp : Nat) (td : Nat → Nat) : MS := sN (sN (sN (stA (stA (stA (TS σ p) 46 rd) 47 wt) 49 td) 34 tp) 35 wn) 36 dp
theorem MS_ext {a b : MS} (h1 : ∀ k, gN a k = gN b k) (h2 : a.2.1 = b.2.1) (h3 : gW a = gW b) (h4 : ∀ k, gA a k = gA b k) (h5 : a.2.2.2.2 = b.2.2.2.2) : a = b := by
  obtain ⟨a1, a2, a3, a4, a5⟩ := a
  obtain ⟨b1, b2, b3, b4, b5⟩ := b
  have e1 : a1 = b1 := funext h1
  have e2 : a2 = b2 := h2
  have e3 : a3 = b3 := h3
  have e4 : a4 = b4 := funext h4
  have e5 : a5 = b5 := h5
  rw [e1, e2, e3, e4, e5]
theorem gA_stA (σ : MS) (k : Nat) (f : Nat → Nat) (j : Nat) : gA (stA σ k f) j = if j = k then f else gA σ j := rfl
theorem gN_stA (σ : MS) (k : Nat) (f : Nat → Nat) (j : Nat) : gN (stA σ k f) j = gN σ j := rfl
theorem XS_N (σ : MS) (p : Nat) (rd : Nat → Nat) (tp : Nat) (wt : Nat → Nat) (wn dp : Nat) (td : Nat → Nat) (k : Nat) : gN (XS σ p rd tp wt wn dp td) k = if k = 36 then dp else if k = 35 then wn else if k = 34 then tp else gN (TS σ p) k := rfl
theorem XS_A (σ : MS) (p : Nat) (rd : Nat → Nat) (tp : Nat) (wt : Nat → Nat) (wn dp : Nat) (td : Nat → Nat) (k : Nat) : gA (XS σ p rd tp wt wn dp td) k = if k = 49 then td else if k = 47 then wt else if k = 46 then rd else gA σ k := rfl
theorem XS_puts (σ : MS) (p : Nat) (rd : Nat → Nat) (tp : Nat) (wt : Nat → Nat) (wn dp : Nat) (td : Nat → Nat) (v : Nat) : sN (sA (XS σ p rd tp wt wn dp td) 46 tp v) 34 (tp + 1) = XS σ p (va_up rd tp v) (tp + 1) wt wn dp td := by
  refine MS_ext (fun k => ?_) rfl rfl (fun k => ?_) rfl
  · rw [gN_sN, gN_sA, XS_N, XS_N]
    by_cases h : k = 34
    · subst h; rfl
    · simp [h]
  · rw [gA_sN, gA_sA, XS_A, XS_A]
    by_cases h : k = 46
    · subst h; rfl
    · rw [if_neg h]
      simp [XS_A, h]
theorem XS_wait (σ : MS) (p : Nat) (rd : Nat → Nat) (tp : Nat) (wt : Nat → Nat) (wn dp : Nat) (td : Nat → Nat) (v : Nat) : sN (sA (XS σ p rd tp wt wn dp td) 47 wn v) 35 (wn + 1) = XS σ p rd tp (va_up wt wn v) (wn + 1) dp td := by
  refine MS_ext (fun k => ?_) rfl rfl (fun k => ?_) rfl
  · rw [gN_sN, gN_sA, XS_N, XS_N]
    by_cases h : k = 35
    · subst h; rfl
    · simp [h]
  · rw [gA_sN, gA_sA, XS_A, XS_A]
    by_cases h : k = 47
    · subst h; rfl
    · rw [if_neg h]
      simp [XS_A, h]
theorem XS_wn (σ : MS) (p : Nat) (rd : Nat → Nat) (tp : Nat) (wt : Nat → Nat) (wn dp : Nat) (td : Nat → Nat) (v : Nat) : sN (XS σ p rd tp wt wn dp td) 35 v = XS σ p rd tp wt v dp td := by
  refine MS_ext (fun k => ?_) rfl rfl (fun k => rfl) rfl
  rw [gN_sN, XS_N, XS_N]
  by_cases h : k = 35
  · subst h; rfl
  · simp [h]
theorem XS_dp (σ : MS) (p : Nat) (rd : Nat → Nat) (tp : Nat) (wt : Nat → Nat) (wn dp : Nat) (td : Nat → Nat) (v : Nat) : sN (XS σ p rd tp wt wn dp td) 36 v = XS σ p rd tp wt wn v td := by
  refine MS_ext (fun k => ?_) rfl rfl (fun k => rfl) rfl
  rw [gN_sN, XS_N, XS_N]
  by_cases h : k = 36
  · subst h; rfl
  · simp [h]
theorem XS_td (σ : MS) (p : Nat) (rd : Nat → Nat) (tp : Nat) (wt : Nat → Nat) (wn dp : Nat) (td : Nat → Nat) (i v : Nat) : sA (XS σ p rd tp wt wn dp td) 49 i v = XS σ p rd tp wt wn dp (va_up td i v) := by
  refine MS_ext (fun k => rfl) rfl rfl (fun k => ?_) rfl
  rw [gA_sA, XS_A, XS_A]
  by_cases h : k = 49
  · subst h; rfl
  · rw [if_neg h]
    simp [XS_A, h]
/-- numbers of acts: their strength -/
def strN (a : Nat) : Nat := if a = 12 then 0 else if a = 5 then 1 else if a = 4 then 2 else if a = 3 then 3 else if a = 6 ∨ a = 7 then 4 else if a = 8 ∨ a = 9 then 5 else 6
/-- an array holds a pile (top first), from 'lo' on -/
def pN (p : Nat → Nat) (lo : Nat) : List Nat → Prop
  | [] => True
  | a :: st => p (lo + st.length) = a ∧ pN p lo st
theorem pN_up {p : Nat → Nat} {lo i v : Nat} : ∀ {st : List Nat}, lo + st.length ≤ i → pN p lo st → pN (va_up p i v) lo st
  | [], _, _ => trivial
  | a :: st, h, hp => by
    rw [List.length_cons] at h
    refine ⟨?_, pN_up (by omega) hp.2⟩
    rw [va_up_n (by omega)]
    exact hp.1
theorem pN_push {p : Nat → Nat} {lo v : Nat} {st : List Nat} (h : pN p lo st) : pN (va_up p (lo + st.length) v) lo (v :: st) := ⟨va_up_e, pN_up (Nat.le_refl _) h⟩
/-- acts that are at least so strong go from the waiting ones to the code -/
def drL (least : Nat) : List Nat → List Nat → List Nat × List Nat
  | [], r => ([], r)
  | a :: ops, r => if a ≠ 12 ∧ least ≤ strN a then drL least ops (a :: r) else (a :: ops, r)
theorem drL_len (least : Nat) : ∀ ops r, (drL least ops r).1.length + (drL least ops r).2.length = ops.length + r.length
  | [], r => rfl
  | a :: ops, r => by
    unfold drL
    split
    · rw [drL_len least ops (a :: r)]; simp; omega
    · rfl
theorem drL_le (least : Nat) : ∀ ops r, (drL least ops r).1.length ≤ ops.length
  | [], r => Nat.le_refl _
  | a :: ops, r => by
    unfold drL
    split
    · have := drL_le least ops (a :: r); simp; omega
    · exact Nat.le_refl _
theorem drL_pN {wt : Nat → Nat} {lo least : Nat} : ∀ {ops r : List Nat}, pN wt lo ops → pN wt lo (drL least ops r).1
  | [], r, _ => trivial
  | a :: ops, r, h => by
    unfold drL
    split
    · exact drL_pN h.2
    · exact h
