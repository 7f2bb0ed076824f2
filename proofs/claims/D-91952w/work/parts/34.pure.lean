/-! ===== reading clauses: what is told, or what is wrong and where (T: the token at a place) ===== -/
abbrev Er (α : Type) : Type := Except (Nat × Nat) α
def eNeed (T : Nat → Nat → Nat) (k p : Nat) : Er Nat := if kwT (T p) = k + 1 then .ok (T p 22) else .error (1, p)
def eNum (T : Nat → Nat → Nat) (lo hi p : Nat) : Er (Nat × Nat) := if numE (T p) lo hi = 0 then .ok (T p 26, T p 22) else .error (numE (T p) lo hi, p)
def eSh (T : Nat → Nat → Nat) (S o p : Nat) : Er (Nat × Nat) := if shE (T p) S o = 0 then .ok (T p 26, T p 22) else .error (shE (T p) S o, p)
def andT {α β : Type} (x : Er α) (f : α → Er β) : Er β := match x with
  | .ok a => f a
  | .error e => .error e
theorem andT_ok {α β : Type} {x : Er α} {a : α} {f : α → Er β} (h : x = .ok a) : andT x f = f a := by rw [h]; rfl
theorem andT_er {α β : Type} {x : Er α} {e : Nat × Nat} {f : α → Er β} (h : x = .error e) : andT x f = .error e := by rw [h]; rfl
theorem eNeed_ok {T : Nat → Nat → Nat} {k p : Nat} (h : kwT (T p) = k + 1) : eNeed T k p = .ok (T p 22) := if_pos h
theorem eNeed_er {T : Nat → Nat → Nat} {k p : Nat} (h : ¬ kwT (T p) = k + 1) : eNeed T k p = .error (1, p) := if_neg h
theorem eNum_ok {T : Nat → Nat → Nat} {lo hi p : Nat} (h : numE (T p) lo hi = 0) : eNum T lo hi p = .ok (T p 26, T p 22) := if_pos h
theorem eNum_er {T : Nat → Nat → Nat} {lo hi p : Nat} (h : ¬ numE (T p) lo hi = 0) : eNum T lo hi p = .error (numE (T p) lo hi, p) := if_neg h
theorem eSh_ok {T : Nat → Nat → Nat} {S o p : Nat} (h : shE (T p) S o = 0) : eSh T S o p = .ok (T p 26, T p 22) := if_pos h
theorem eSh_er {T : Nat → Nat → Nat} {S o p : Nat} (h : ¬ shE (T p) S o = 0) : eSh T S o p = .error (shE (T p) S o, p) := if_neg h
/-- 'boat' at p, B boats before: what it holds, its load, its shore, the place behind -/
def boatE (T : Nat → Nat → Nat) (S B p : Nat) : Er (Nat × Nat × Nat × Nat) := if B = 2 then .error (2, p) else
  andT (eNeed T 9 (T p 22)) fun p => andT (eNum T 1 8 p) fun (h, p) => andT (eNeed T 10 p) fun p => andT (eNum T 0 999 p) fun (l, p) => andT (eNeed T 11 p) fun p => andT (eSh T S 0 p) fun (s, p) => .ok (h, l, s, p)
def lampE (T : Nat → Nat → Nat) (S lamp p : Nat) : Er (Nat × Nat) := if ¬ lamp = 0 then .error (5, p) else andT (eNeed T 11 (T p 22)) fun p => eSh T S 0 p
def waterE (T : Nat → Nat → Nat) (S p : Nat) : Er (Nat × Nat × Nat) := andT (eSh T S 0 (T p 22)) fun (a, p) => andT (eSh T S (a + 1) p) fun (b, p) => .ok (a, b, p)
def thingE (T : Nat → Nat → Nat) (lt : Nat → Nat) (n p : Nat) : Er (Nat × Nat × Nat × Nat) := if n = 8 then .error (2, p) else
  let q := T p 22
  if ¬ (T q 23 = 1 ∧ T q 25 = 1) then .error (1, q) else if ¬ nmF lt (T q 27) n 0 = 0 then .error (5, q) else
  andT (eNeed T 7 (T q 22)) fun p => andT (eNum T 0 99 p) fun (w, p) => if kwT (T p) = 9 then andT (eNum T 1 99 (T p 22)) fun (mn, p) => .ok (T q 27, w, mn, p) else .ok (T q 27, w, 0, p)
theorem numE_le (t : Nat → Nat) (lo hi : Nat) : numE t lo hi ≤ 2 := by
  unfold numE
  repeat' split
  all_goals decide
theorem shE_le (t : Nat → Nat) (S o : Nat) : shE t S o ≤ 5 := by
  unfold shE
  repeat' split
  all_goals decide
