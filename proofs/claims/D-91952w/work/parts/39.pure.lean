/-! ===== expressions: what code is worth, the reader with piles, the reader by descent; both read the same ===== -/
abbrev Fn : Type := (Nat → Nat) → Int32
def fK (n : Nat) : Fn := fun _ => nI n
def fV (w : Nat) : Fn := fun val => nI (val w)
def fNo (f : Fn) : Fn := fun val => if f val = 0 then 1 else 0
def fOp (a : Nat) (f g : Fn) : Fn := fun val => wkI a (f val) (g val)
theorem evR_0 {code val : Nat → Nat} {n k : Nat} {r : Int32} (h1 : k + 1 < 1200) (h : code k = 0) : evR code val (n + 1) k [r] = some r := by
  show (if _ then _ else _) = _
  rw [if_pos ⟨h1, by simp⟩, if_pos h]
theorem evR_1 {code val : Nat → Nat} {n k : Nat} {st : List Int32} (h1 : k + 1 < 1200) (h2 : st.length < 720) (h : code k = 1) (h3 : code (k + 1) < 2147483648) : evR code val (n + 1) k st = evR code val n (k + 2) (nI (code (k + 1)) :: st) := by
  show (if _ then _ else _) = _
  rw [if_pos ⟨h1, h2⟩, if_neg (by omega), if_pos h, if_pos h3]
theorem evR_2 {code val : Nat → Nat} {n k : Nat} {st : List Int32} (h1 : k + 1 < 1200) (h2 : st.length < 720) (h : code k = 2) (h3 : code (k + 1) < 132 ∧ (code (k + 1) < 100 → code (k + 1) < 32)) : evR code val (n + 1) k st = evR code val n (k + 2) (nI (val (code (k + 1))) :: st) := by
  show (if _ then _ else _) = _
  rw [if_pos ⟨h1, h2⟩, if_neg (by omega), if_neg (by omega), if_pos h, if_pos h3]
theorem evR_3 {code val : Nat → Nat} {n k : Nat} {a : Int32} {st : List Int32} (h1 : k + 1 < 1200) (h2 : (a :: st).length < 720) (h : code k = 3) : evR code val (n + 1) k (a :: st) = evR code val n (k + 1) ((if a = 0 then 1 else 0) :: st) := by
  show (if _ then _ else _) = _
  rw [if_pos ⟨h1, h2⟩, if_neg (by omega), if_neg (by omega), if_neg (by omega), if_pos h]
theorem evR_4 {code val : Nat → Nat} {n k : Nat} {a b : Int32} {st : List Int32} (h1 : k + 1 < 1200) (h2 : (b :: a :: st).length < 720) (h : 4 ≤ code k) (h3 : code k < 12) : evR code val (n + 1) k (b :: a :: st) = evR code val n (k + 1) (wkI (code k) a b :: st) := by
  show (if _ then _ else _) = _
  rw [if_pos ⟨h1, h2⟩, if_neg (by omega), if_neg (by omega), if_neg (by omega), if_neg (by omega), if_pos h3]
/-- the code r (last first) makes the pile fs (top first) -/
def Sm (r : List Nat) (fs : List Fn) : Prop := 2 * fs.length ≤ r.length ∧ ∀ (code : Nat → Nat) (lo : Nat), pN code lo r → lo + r.length < 1200 → ∃ c, ∀ (n : Nat) (val : Nat → Nat), evR code val (n + c) lo [] = evR code val n (lo + r.length) (fs.map fun f => f val)
theorem Sm_0 : Sm [] [] := ⟨Nat.le_refl _, fun _ _ _ _ => ⟨0, fun _ _ => rfl⟩⟩
theorem Sm_K {r : List Nat} {fs : List Fn} (h : Sm r fs) {v : Nat} (hv : v < 2147483648) : Sm (v :: 1 :: r) (fK v :: fs) := by
  refine ⟨by have := h.1; simp; omega, fun code lo hp hl => ?_⟩
  obtain ⟨p1, p2, p3⟩ := hp
  simp only [List.length_cons] at hl p1
  obtain ⟨c, hc⟩ := h.2 code lo p3 (by omega)
  refine ⟨c + 1, fun n val => ?_⟩
  rw [show n + (c + 1) = (n + 1) + c by omega, hc, evR_1 (by omega) (by have := h.1; simp; omega) p2 (by rw [show lo + r.length + 1 = lo + (r.length + 1) by omega, p1]; exact hv)]
  rw [show lo + r.length + 1 = lo + (r.length + 1) by omega, p1]
  rfl
theorem Sm_V {r : List Nat} {fs : List Fn} (h : Sm r fs) {v : Nat} (hv : v < 132 ∧ (v < 100 → v < 32)) : Sm (v :: 2 :: r) (fV v :: fs) := by
  refine ⟨by have := h.1; simp; omega, fun code lo hp hl => ?_⟩
  obtain ⟨p1, p2, p3⟩ := hp
  simp only [List.length_cons] at hl p1
  obtain ⟨c, hc⟩ := h.2 code lo p3 (by omega)
  refine ⟨c + 1, fun n val => ?_⟩
  rw [show n + (c + 1) = (n + 1) + c by omega, hc, evR_2 (by omega) (by have := h.1; simp; omega) p2 (by rw [show lo + r.length + 1 = lo + (r.length + 1) by omega, p1]; exact hv)]
  rw [show lo + r.length + 1 = lo + (r.length + 1) by omega, p1]
  rfl
theorem Sm_no {r : List Nat} {f : Fn} {fs : List Fn} (h : Sm r (f :: fs)) : Sm (3 :: r) (fNo f :: fs) := by
  have h1 := h.1
  simp only [List.length_cons] at h1
  refine ⟨by simp; omega, fun code lo hp hl => ?_⟩
  obtain ⟨p2, p3⟩ := hp
  simp only [List.length_cons] at hl
  obtain ⟨c, hc⟩ := h.2 code lo p3 (by omega)
  refine ⟨c + 1, fun n val => ?_⟩
  rw [show n + (c + 1) = (n + 1) + c by omega, hc]
  exact evR_3 (by omega) (by simp; omega) p2
theorem Sm_op {r : List Nat} {f g : Fn} {fs : List Fn} (h : Sm r (g :: f :: fs)) {a : Nat} (ha : 4 ≤ a) (ha2 : a < 12) : Sm (a :: r) (fOp a f g :: fs) := by
  have h1 := h.1
  simp only [List.length_cons] at h1
  refine ⟨by simp; omega, fun code lo hp hl => ?_⟩
  obtain ⟨p2, p3⟩ := hp
  simp only [List.length_cons] at hl
  obtain ⟨c, hc⟩ := h.2 code lo p3 (by omega)
  refine ⟨c + 1, fun n val => ?_⟩
  rw [show n + (c + 1) = (n + 1) + c by omega, hc]
  refine (evR_4 (by omega) (by simp; omega) (by omega) (by omega)).trans ?_
  rw [p2]
  rfl
/-- the whole code, stopped, is worth f -/
theorem Sm_end {r : List Nat} {f : Fn} (h : Sm r [f]) {code : Nat → Nat} {lo : Nat} (hp : pN code lo (0 :: r)) (hl : lo + r.length + 1 < 1200) (val : Nat → Nat) : ∃ n, evR code val n lo [] = some (f val) := by
  obtain ⟨c, hc⟩ := h.2 code lo hp.2 (by omega)
  exact ⟨1 + c, by rw [hc]; exact evR_0 (by omega) hp.1⟩
def apF (a : Nat) (fs : List Fn) : List Fn := if a = 3 then (match fs with
    | f :: fs => fNo f :: fs
    | [] => []) else (match fs with
    | g :: f :: fs => fOp a f g :: fs
    | _ => [])
def drF (least : Nat) : List Nat → List Fn → List Nat × List Fn
  | [], fs => ([], fs)
  | a :: ops, fs => if a ≠ 12 ∧ least ≤ strN a then drF least ops (apF a fs) else (a :: ops, fs)
theorem drF_y {least a : Nat} {ops : List Nat} {fs : List Fn} (h : a ≠ 12) (h2 : least ≤ strN a) : drF least (a :: ops) fs = drF least ops (apF a fs) := if_pos ⟨h, h2⟩
theorem drF_n {least a : Nat} {ops : List Nat} {fs : List Fn} (h : ¬ (a ≠ 12 ∧ least ≤ strN a)) : drF least (a :: ops) fs = (a :: ops, fs) := if_neg h
theorem drF_drF {l l' : Nat} (h : l ≤ l') : ∀ (ops : List Nat) (fs : List Fn), drF l (drF l' ops fs).1 (drF l' ops fs).2 = drF l ops fs
  | [], fs => rfl
  | a :: ops, fs => by
    by_cases c : a ≠ 12 ∧ l' ≤ strN a
    · rw [drF_y (least := l') c.1 c.2, drF_y (least := l) c.1 (by omega)]
      exact drF_drF h ops (apF a fs)
    · rw [drF_n (least := l') c]
/-- acts that take two -/
def nb : List Nat → Nat
  | [] => 0
  | a :: ops => nb ops + if a = 3 ∨ a = 12 then 0 else 1
theorem apF_3 (f : Fn) (fs : List Fn) : apF 3 (f :: fs) = fNo f :: fs := rfl
theorem apF_a {a : Nat} (h : a ≠ 3) (f g : Fn) (fs : List Fn) : apF a (g :: f :: fs) = fOp a f g :: fs := by unfold apF; rw [if_neg h]
theorem dr_ok (least : Nat) : ∀ (ops : List Nat) (r : List Nat) (fs : List Fn), Sm r fs → fs.length = nb ops + 1 → (∀ a ∈ ops, 3 ≤ a ∧ a < 13) → Sm (drL least ops r).2 (drF least ops fs).2 ∧ (drL least ops r).1 = (drF least ops fs).1 ∧ (drF least ops fs).2.length = nb (drF least ops fs).1 + 1
  | [], r, fs, h, hl, _ => ⟨h, rfl, hl⟩
  | a :: ops, r, fs, h, hl, ho => by
    obtain ⟨ha1, ha2⟩ := ho a List.mem_cons_self
    have ho2 : ∀ x ∈ ops, 3 ≤ x ∧ x < 13 := fun x hx => ho x (List.mem_cons_of_mem _ hx)
    by_cases c : a ≠ 12 ∧ least ≤ strN a
    · rw [drF_y c.1 c.2, show drL least (a :: ops) r = drL least ops (a :: r) from if_pos c]
      have e : nb (a :: ops) = nb ops + if a = 3 ∨ a = 12 then 0 else 1 := rfl
      by_cases h3 : a = 3
      · subst h3
        rw [if_pos (Or.inl rfl)] at e
        cases fs with
        | nil => simp at hl
        | cons f fs =>
          rw [apF_3]
          exact dr_ok least ops (3 :: r) _ (Sm_no h) (by simp at hl ⊢; omega) ho2
      · rw [if_neg (by omega)] at e
        match fs, h, hl with
        | [], _, hl => simp at hl
        | [f], _, hl => simp at hl; omega
        | g :: f :: fs, h, hl =>
          rw [apF_a h3]
          exact dr_ok least ops (a :: r) _ (Sm_op h (by omega) (by omega)) (by simp at hl ⊢; omega) ho2
    · rw [drF_n c, show drL least (a :: ops) r = (a :: ops, r) from if_neg c]
      exact ⟨h, rfl, hl⟩
theorem drF_in (least : Nat) : ∀ (ops : List Nat) (fs : List Fn), ∀ x ∈ (drF least ops fs).1, x ∈ ops
  | [], fs, x, h => h
  | a :: ops, fs, x, h => by
    by_cases c : a ≠ 12 ∧ least ≤ strN a
    · rw [drF_y c.1 c.2] at h
      exact List.mem_cons_of_mem _ (drF_in least ops _ x h)
    · rw [drF_n c] at h
      exact h
/-! the reader with piles -/
abbrev isS (t : Nat → Nat) (c : Nat) : Prop := t 23 = 3 ∧ t 27 = c
abbrev isVW (k : Nat) : Prop := k = 18 ∨ k = 8 ∨ k = 19 ∨ k = 20 ∨ k = 6 ∨ k = 21
abbrev isB (t : Nat → Nat) : Prop := t 23 = 2 ∨ t 23 = 1 ∨ isS t 40
section PX
variable (T : Nat → Nat → Nat) (lt : Nat → Nat) (nT : Nat)
/-- a number, a name or a word: its code -/
def partC (p : Nat) : Er (Nat × Nat) := if T p 23 = 2 then (if 3 < T p 25 then .error (2, p) else .ok (1, T p 26)) else if T p 23 = 1 then (if T p 25 = 1 then (if nmF lt (T p 27) nT 0 = 0 then .error (4, p) else .ok (2, nmF lt (T p 27) nT 0 - 1)) else if isVW (kwT (T p)) then .ok (2, 99 + kwT (T p)) else .error (3, p)) else .error (1, p)
def fC (c : Nat × Nat) : Fn := if c.1 = 1 then fK c.2 else fV c.2
/-- an operand: fuel, whether 'not' may stand, how many stood, place, acts that wait, flags: the place behind, acts, flags, its code -/
def opd : Nat → Nat → Nat → Nat → List Nat → List Nat → Er (Nat × List Nat × List Nat × (Nat × Nat))
  | 0, _, _, p, _, _ => .error (0, p)
  | n + 1, nt, c, p, ops, ts => if nt = 1 ∧ kwT (T p) = 17 then (if c = 6 then .error (2, p) else opd n 1 (c + 1) (T p 22) (3 :: ops) ts) else if isS (T p) 40 then (if ts.length < 6 then opd n 1 0 (T p 22) (12 :: ops) (0 :: ts) else .error (if isB (T (T p 22)) then 2 else 1, T p 22)) else andT (partC T lt nT p) fun c => .ok (T p 22, ops, ts, c)
end PX
def opK (t : Nat → Nat) (fl : Nat) : Nat := if kwT t = 15 then 4 else if kwT t = 16 then 5 else if isS t 60 ∧ fl = 0 then 6 else if isS t 61 ∧ fl = 0 then 7 else if isS t 43 then 8 else if isS t 45 then 9 else if isS t 42 then 10 else if isS t 47 then 11 else 0
def ntK (a : Nat) : Nat := if a = 4 ∨ a = 5 then 1 else 0
def tsK (a : Nat) (ts : List Nat) : List Nat := if a = 4 ∨ a = 5 then 0 :: ts.tail else if a = 6 ∨ a = 7 then 1 :: ts.tail else ts
section PX2
variable (T : Nat → Nat → Nat) (lt : Nat → Nat) (nT : Nat)
/-- behind an operand: fuel, place, acts, pile, flags -/
def opr : Nat → Nat → List Nat → List Fn → List Nat → Er (Nat × Fn)
  | 0, p, _, _, _ => .error (0, p)
  | n + 1, p, ops, fs, ts => if ¬ opK (T p) (ts.headD 0) = 0 then andT (opd T lt nT 701 (ntK (opK (T p) (ts.headD 0))) 0 (T p 22) (opK (T p) (ts.headD 0) :: (drF (strN (opK (T p) (ts.headD 0))) ops fs).1) (tsK (opK (T p) (ts.headD 0)) ts)) fun z => opr n z.1 z.2.1 (fC z.2.2.2 :: (drF (strN (opK (T p) (ts.headD 0))) ops fs).2) z.2.2.1
    else if isS (T p) 41 ∧ 1 < ts.length then opr n (T p 22) (drF 0 ops fs).1.tail (drF 0 ops fs).2 ts.tail else if 1 < ts.length then .error (1, p) else .ok (p, (drF 0 ops fs).2.headD (fK 0))
def exM (p : Nat) : Er (Nat × Fn) := andT (opd T lt nT 701 1 0 p [] [0]) fun z => opr T lt nT 701 z.1 z.2.1 [fC z.2.2.2] z.2.2.1
/-! the reader by descent -/
def chE (sub : Nat → Er (Nat × Fn)) (op : (Nat → Nat) → Nat) : Nat → Nat → Fn → Er (Nat × Fn)
  | 0, p, _ => .error (0, p)
  | n + 1, p, f => if op (T p) = 0 then .ok (p, f) else andT (sub (T p 22)) fun z => chE sub op n z.1 (fOp (op (T p)) f z.2)
def opM (t : Nat → Nat) : Nat := if isS t 42 then 10 else if isS t 47 then 11 else 0
def opS (t : Nat → Nat) : Nat := if isS t 43 then 8 else if isS t 45 then 9 else 0
def opC (t : Nat → Nat) : Nat := if isS t 60 then 6 else if isS t 61 then 7 else 0
def opA (t : Nat → Nat) : Nat := if kwT t = 15 then 4 else 0
def opO (t : Nat → Nat) : Nat := if kwT t = 16 then 5 else 0
def chT (sub : Nat → Er (Nat × Fn)) (op : (Nat → Nat) → Nat) (p : Nat) : Er (Nat × Fn) := andT (sub p) fun z => chE T sub op 701 z.1 z.2
def rdPart (ex : Nat → Er (Nat × Fn)) (p : Nat) : Er (Nat × Fn) := if isS (T p) 40 then andT (ex (T p 22)) fun z => (if isS (T z.1) 41 then .ok (T z.1 22, z.2) else .error (1, z.1)) else andT (partC T lt nT p) fun c => .ok (T p 22, fC c)
def rdSum (ex : Nat → Er (Nat × Fn)) : Nat → Er (Nat × Fn) := chT T (chT T (rdPart T lt nT ex) opM) opS
def rdCmp (ex : Nat → Er (Nat × Fn)) (p : Nat) : Er (Nat × Fn) := andT (rdSum T lt nT ex p) fun z => if opC (T z.1) = 0 then .ok z else andT (rdSum T lt nT ex (T z.1 22)) fun y => .ok (y.1, fOp (opC (T z.1)) z.2 y.2)
def rdNot (ex : Nat → Er (Nat × Fn)) : Nat → Nat → Er (Nat × Fn)
  | 0, p => if kwT (T p) = 17 then .error (2, p) else rdCmp T lt nT ex p
  | n + 1, p => if kwT (T p) = 17 then andT (rdNot ex n (T p 22)) fun z => .ok (z.1, fNo z.2) else rdCmp T lt nT ex p
def rdOr (ex : Nat → Er (Nat × Fn)) : Nat → Er (Nat × Fn) := chT T (chT T (rdNot T lt nT ex 6) opA) opO
def rdEx : Nat → Nat → Er (Nat × Fn)
  | 0, p => .error (if isB (T p) then 2 else 1, p)
  | n + 1, p => if isB (T p) then rdOr T lt nT (rdEx n) p else .error (1, p)
end PX2
