set_option maxRecDepth 100000
/-! the classes whose objects the heap holds: 0 FerryHall, 1 FerryHall$World, 2 java/util/ArrayList, 3 FerryHall$Map, 4 FerryHall$Asked, 5 java/lang/Integer, 6 java/lang/String, 7 FerryHall$Chain, 8 FerryHall$Place, 9 FerryHallModel, 10 java/lang/IllegalArgumentException, 11 FerryHall$Reader, 12 FerryHall$Wrong, 13 FerryHall$Boat, 14 FerryHall$Law, 15 FerryHall$Number, 16 FerryHall$Member, 17 java/lang/StringBuilder, 18 FerryHall$Word, 19 FerryHall$Not, 20 java/util/NoSuchElementException, 21 FerryHall$Judge, 22 FerryHall$Rounds -/
abbrev vwCl : List vw_C := [(RX1, TX1, 19), (RX2, TX2, 11), (RJ2, TJ2, 3), (RX3, TX3, 20), (RX4, TX4, 5), (RJ6, TJ6, 1), (RJ8, TJ8, 4), (RX6, TX6, 2), (RX7, TX7, 4), (RX8, TX8, 88), (RJ13, TJ13, 6), (RX9, TX9, 8), (RX10, TX10, 7), (RX11, TX11, 3), (RX12, TX12, 2), (RX13, TX13, 1), (RX14, TX14, 1), (RJ19, TJ19, 4), (RX15, TX15, 1), (RX16, TX16, 1), (RJ20, TJ20, 6), (RX17, TX17, 9), (RX18, TX18, 9)]
/-! ===== the layer V: frames over an abstract heap ===== -/
abbrev CE : Type := (Nat × Nat × ((Nat → Int32) ⊕ (Nat → Int64) ⊕ (Nat → Option Nat))) ⊕ (Nat × (Nat → Value))
abbrev AH : Type := Nat → Option (Option Nat × CE)
abbrev Rs : Type := Option Value ⊕ (String × Nat)
abbrev aI (n : Nat) (f : Nat → Int32) : CE := .inl (0, n, .inl f)
abbrev aL (n : Nat) (f : Nat → Int64) : CE := .inl (1, n, .inr (.inl f))
abbrev aB (n : Nat) (f : Nat → Int32) : CE := .inl (2, n, .inl f)
abbrev aZ (n : Nat) (f : Nat → Int32) : CE := .inl (3, n, .inl f)
abbrev aS (n : Nat) (f : Nat → Int32) : CE := .inl (4, n, .inl f)
abbrev aR (k n : Nat) (f : Nat → Option Nat) : CE := .inl (k, n, .inr (.inr f))
abbrev ob (ci : Nat) (F : Nat → Value) : CE := .inr (ci, F)
/-- the kinds of arrays, by their components -/
def ak (k : Nat) : FieldType := match k with
  | 0 => .int
  | 1 => .long
  | 2 => .byte
  | 3 => .boolean
  | 4 => .short
  | 5 => .array .boolean
  | 6 => .array .short
  | 7 => .array (.array .short)
  | 8 => .array (.array (.array .short))
  | _ => .object "java/lang/Object"
def avf (x : (Nat → Int32) ⊕ (Nat → Int64) ⊕ (Nat → Option Nat)) : Nat → Value := match x with
  | .inl f => fun j => .int (f j)
  | .inr (.inl f) => fun j => .long (f j)
  | .inr (.inr f) => fun j => va_rf (f j)
/-- the cell a of the heap H is e -/
def ca (D : va_G) (a : Nat) (e : CE) (H : Heap) : Prop := match e with
  | .inl x => H[a]? = some (arrV (D.1 (100 + x.1)) x.2.1 (avf x.2.2))
  | .inr o => ∃ r : vw_C, vwCl[o.1]? = some r ∧ t_OB a (D.1 o.1) r.2.2 (D.2 o.1) H o.2
/-- what is known of a cell that is only read (a constant of the launch, or one that is frozen) -/
def caw (D : va_G) (a : Nat) (e : CE) (H : Heap) : Prop := match e with
  | .inl x => ∃ cell : Cell, H[a]? = some cell ∧ cell.cls = D.1 (100 + x.1) ∧ (∀ k, cell.vm ≠ .statics k) ∧ cell.vm ≠ .unknown ∧ x.2.1 ≤ cell.slots.size ∧ cell.slots.size.toInt32 = Int32.ofNat x.2.1 ∧ ∀ j, j < x.2.1 → cell.slots[j]? = some (avf x.2.2 j)
  | .inr o => ∃ r : vw_C, vwCl[o.1]? = some r ∧ ∃ cell : Cell, H[a]? = some cell ∧ cell.cls = D.1 o.1 ∧ cell.vm.isStatics = false ∧ cell.vm ≠ .unknown ∧ ∀ k, k < r.2.2 → o.2 k ≠ .long 0 → cell.slots[D.2 o.1 k]? = some (o.2 k)
theorem ca.weak {D : va_G} {a : Nat} {e : CE} {H : Heap} (h : ca D a e H) : caw D a e H := by
  cases e with
  | inl x => exact ⟨_, h, rfl, fun k q => (by cases q), fun q => (by cases q), by show _ ≤ (arrV _ _ _).slots.size; rw [arrV_size]; exact Nat.le_refl _, (by show (arrV _ _ _).slots.size.toInt32 = _; rw [arrV_size]; first | done | rfl), fun j hj => by show (arrV _ _ _).slots[_]? = _; rw [arrV_read _ _ hj]⟩
  | inr o =>
    obtain ⟨r, h1, cell, h2, h3, h4, h5⟩ := h
    exact ⟨r, h1, cell, h2, h3, by rw [h4]; rfl, by rw [h4]; exact fun q => (by cases q), fun k hk _ => h5 k hk⟩
theorem caw.kept {D : va_G} {a : Nat} {e : CE} {H H1 : Heap} (h : caw D a e H) (hq : H1[a]? = H[a]?) : caw D a e H1 := by
  cases e with
  | inl x =>
    obtain ⟨cell, h1, h2⟩ := h
    exact ⟨cell, hq.trans h1, h2⟩
  | inr o =>
    obtain ⟨r, h1, cell, h2, h3⟩ := h
    exact ⟨r, h1, cell, hq.trans h2, h3⟩
theorem caw.lt {D : va_G} {a : Nat} {e : CE} {H : Heap} (h : caw D a e H) : a < H.size := by
  cases e with
  | inl x =>
    obtain ⟨cell, h1, -⟩ := h
    exact (Array.getElem?_eq_some_iff.mp h1).1
  | inr o =>
    obtain ⟨r, h1, cell, h2, -⟩ := h
    exact (Array.getElem?_eq_some_iff.mp h2).1
theorem ca.kept {D : va_G} {a : Nat} {e : CE} {H H1 : Heap} (h : ca D a e H) (hq : H1[a]? = H[a]?) : ca D a e H1 := by
  cases e with
  | inl x => exact hq.trans h
  | inr o =>
    obtain ⟨r, h1, h2⟩ := h
    exact ⟨r, h1, h2.kept hq⟩
theorem ca.lt {D : va_G} {a : Nat} {e : CE} {H : Heap} (h : ca D a e H) : a < H.size := by
  cases e with
  | inl x => exact (Array.getElem?_eq_some_iff.mp h).1
  | inr o =>
    obtain ⟨r, h1, cell, h2, -⟩ := h
    exact (Array.getElem?_eq_some_iff.mp h2).1
/-- what is the same for all of a run: the launch, the classes' numbers and slots, the heap's size at the law's start, where constants lie -/
abbrev Gl : Type := Launch × va_G × Nat × (Nat → Nat)
abbrev Ar (G : Gl) : Nat → Prop := fun q => G.2.2.1 ≤ q
/-- the heap H holds what η says; what has an owner is of this run (a cell without one is a constant, never written) -/
def hp (G : Gl) (η : AH) (H : Heap) : Prop := ∀ (a : Nat) (o : Option Nat) (e : CE), η a = some (o, e) → (o ≠ none → G.2.2.1 ≤ a ∧ ca G.2.1 a e H) ∧ caw G.2.1 a e H
/-- one cell of the abstract heap set -/
def up (η : AH) (a : Nat) (x : Option Nat × CE) : AH := fun q => if q = a then some x else η q
theorem up_s {η : AH} {a : Nat} {x : Option Nat × CE} : up η a x a = some x := if_pos rfl
theorem up_n {η : AH} {a q : Nat} {x : Option Nat × CE} (h : q ≠ a) : up η a x q = η q := if_neg h
theorem hp.kep {G : Gl} {η : AH} {H H1 : Heap} {b : Nat} {o : Option Nat} {e : CE} (h : hp G η H) (hb : η b = some (o, e)) (hq : H1[b]? = H[b]?) : (o ≠ none → G.2.2.1 ≤ b ∧ ca G.2.1 b e H1) ∧ caw G.2.1 b e H1 := ⟨fun q => ⟨((h b o e hb).1 q).1, ((h b o e hb).1 q).2.kept hq⟩, (h b o e hb).2.kept hq⟩
theorem hp.kept {G : Gl} {η : AH} {H H1 : Heap} (h : hp G η H) (hq : ∀ q, q < H.size → H1[q]? = H[q]?) : hp G η H1 := fun a o e he => h.kep he (hq a (h a o e he).2.lt)
theorem hp.fresh {G : Gl} {η : AH} {H : Heap} (h : hp G η H) {q : Nat} (hq : H.size ≤ q) : η q = none := by
  cases hx : η q with
  | none => rfl
  | some x => exact absurd (h q x.1 x.2 hx).2.lt (Nat.not_lt.mpr hq)
theorem hp.set {G : Gl} {η : AH} {H H1 : Heap} {a : Nat} {o : Option Nat} {e : CE} (h : hp G η H) (hA : o ≠ none → G.2.2.1 ≤ a) (he : ca G.2.1 a e H1) (oq : ∀ q, q ≠ a → H1[q]? = H[q]?) : hp G (up η a (o, e)) H1 := by
  intro b o' e' hb
  by_cases hq : b = a
  · subst hq
    rw [up_s] at hb
    cases hb
    exact ⟨fun q => ⟨hA q, he⟩, he.weak⟩
  · rw [up_n hq] at hb
    exact h.kep hb (oq b hq)
/-- cells may be forgotten, owners changed among owners, cells frozen -/
theorem hp.mono {G : Gl} {η η' : AH} {H : Heap} (h : hp G η H) (hm : ∀ a o e, η' a = some (o, e) → ∃ o', η a = some (o', e) ∧ (o ≠ none → o' ≠ none)) : hp G η' H := fun a o e he => by
  obtain ⟨o', h', ho⟩ := hm a o e he
  exact ⟨fun q => (h a o' e h').1 (ho q), (h a o' e h').2⟩
/-- the words that last -/
def okn (w : Cond) : Bool := match w with
  | .fieldLinkNest _ _ _ _ _ _ => true
  | .methodLinkNest _ _ _ _ => true
  | .arrayOver (.object _) => true
  | _ => false
def okw (w : Cond) : Bool := goodWord w || (w.onTables && w.faceAtom) || okn w
theorem okw_at {s U : State} (hW : s.WarmedH U.vm) {w : Cond} (hw : okw w = true) {A A' : Array Value} (h : w.before A s = true) : w.before A' U = true := by
  unfold okw at hw
  rcases Bool.or_eq_true_iff.mp hw with hw | hw
  · rcases Bool.or_eq_true_iff.mp hw with hw | hw
    · exact word_at hW (good_of_word hw) h
    · rw [Bool.and_eq_true] at hw
      exact va_tabs (u := s.setVm U.vm) hw.1 rfl (Cond.faceAtom_setVm hW.alike w hw.2 h)
  · cases w with
    | fieldLinkNest a b c d e f => exact va_tabs rfl (rfl : (s.setVm U.vm).vm = U.vm) (Cond.fieldLinkNest_warmed hW h)
    | methodLinkNest a b c d => exact va_tabs rfl (rfl : (s.setVm U.vm).vm = U.vm) (Cond.methodLinkNest_warmed hW h)
    | arrayOver t =>
      cases t with
      | object C => exact va_AO.use (va_AO.moved hW.alike (va_AO.of h))
      | _ => cases hw
    | _ => cases hw
def Tb (U : State) : Prop := ∀ w ∈ lw_tbl, okw w = true → w.before #[] U = true
theorem Tb.moved {s U : State} (hW : s.WarmedH U.vm) (h : Tb s) : Tb U := fun w hw ho => okw_at hW ho (h w hw ho)
theorem Tb.use {s : State} (h : Tb s) {w : Cond} (hw : w ∈ lw_tbl) (ho : okw w = true) {A : Array Value} : w.before A s = true := okw_at (State.WarmedH.refl s) ho (h w hw ho)
/-! constants: statics that hold a known value; statics that hold some reference or null; texts -/
def cstZ : List (String × String × String × (Nat → Value)) := [
  ("java/lang/String", "COMPACT_STRINGS", "Z", fun _ => .int 1),
  ("java/lang/Integer$IntegerCache", "high", "I", fun _ => .int 127),
  ("java/lang/Integer$IntegerCache", "cache", "[Ljava/lang/Integer;", fun k => .ref k),
  ("java/util/ArrayList", "DEFAULTCAPACITY_EMPTY_ELEMENTDATA", "[Ljava/lang/Object;", fun k => .ref k)]
def cstQ : List (String × String × String) := [("java/lang/Throwable", "UNASSIGNED_STACK", "[Ljava/lang/StackTraceElement;"), ("java/lang/Throwable", "SUPPRESSED_SENTINEL", "Ljava/util/List;"), ("jdk/internal/util/Preconditions", "SIOOBE_FORMATTER", "Ljava/util/function/BiFunction;")]
def cstS : List (String × Nat × String) := [("FerryHall$Reader", 63, ";()+-*/<="), ("FerryHall$Reader", 243, "shores"), ("FerryHall$Reader", 244, "thing"), ("FerryHall$Reader", 177, "weight"), ("FerryHall$Reader", 183, "rows"), ("FerryHall$Reader", 248, "boat"), ("FerryHall$Reader", 203, "holds"), ("FerryHall$Reader", 205, "load"), ("FerryHall$Reader", 207, "at"), ("FerryHall$Reader", 252, "water"), ("FerryHall$Reader", 256, "way"), ("FerryHall$Reader", 258, "lamp"), ("FerryHall$Reader", 262, "never"), ("FerryHall$Reader", 158, "not"), ("FerryHall$Reader", 81, " many weight rowers boats lamp shore "), ("FerryHall$Reader", 168, "and"), ("FerryHall$Reader", 172, "or"), ("FerryHall$Reader", 236, "ashore"), ("FerryHall$Reader", 238, "aboard")]
def Cst (G : Gl) (U : State) (H : Heap) : Prop := (∀ (i : Nat) (q : String × String × String × (Nat → Value)), cstZ[i]? = some q → va_Z q.1 q.2.1 q.2.2.1 (q.2.2.2 (G.2.2.2 (500 + i))) (Ar G) U H) ∧ (∀ q ∈ cstQ, vx_Zq q.1 q.2.1 q.2.2 (Ar G) U H) ∧ (∀ (i : Nat) (q : String × Nat × String), cstS[i]? = some q → vk_R q.1 q.2.1 q.2.2 (G.2.2.2 i) U) ∧ va_T (.object "java/lang/Integer") (G.2.2.2 502) 256 (fun j => .ref (G.2.2.2 (600 + j))) (Ar G) U H ∧ va_Mi "[Ljava/lang/Object;" (G.2.2.2 504) U
theorem Cst.moved {G : Gl} {s U : State} {H : Heap} (hW : s.WarmedH U.vm) (h : Cst G s H) : Cst G U H := ⟨fun i q hq => va_Z.moved hW.alike (h.1 i q hq), fun q hq => vx_Zq.moved hW.alike (h.2.1 q hq), fun i q hq => vk_R.warm hW (h.2.2.1 i q hq), va_T.moved hW.alike h.2.2.2.1, va_Mi.moved hW.alike h.2.2.2.2⟩
theorem Cst.kept {G : Gl} {U : State} {H H1 : Heap} (h : Cst G U H) (hq : ∀ q : Nat, q < H.size → ¬ Ar G q → H1[q]? = H[q]?) : Cst G U H1 := ⟨fun i q hi => va_Z.kept (h.1 i q hi) hq, fun q hi => vx_Zq.kept (h.2.1 q hi) hq, h.2.2.1, h.2.2.2.1.kept hq, h.2.2.2.2⟩
/-- what the machine's tables say all through a run -/
def Kc (D : va_G) (U : State) : Prop := (∀ (c : Nat) (q : vw_C), vwCl[c]? = some q → u_Kn U q.1 q.2.1 q.2.2 (D.1 c) (D.2 c)) ∧ ∀ k : Nat, k < 10 → ArrOfT U (D.1 (100 + k)) (ak k) ∧ U.vm.findClass ("[" ++ (ak k).toString) = some (D.1 (100 + k))
theorem Kc.moved {D : va_G} {u U : State} (hvm : u.vm.Alike U.vm) (h : Kc D u) : Kc D U := ⟨fun c q hq => u_Kn_moved hvm (h.1 c q hq), fun k hk => ⟨arrOfT_moved hvm (h.2 k hk).1, by rw [hvm.findClass]; exact (h.2 k hk).2⟩⟩
theorem caw.arr {D : va_G} {U : State} {H : Heap} {a k n : Nat} {x : (Nat → Int32) ⊕ (Nat → Int64) ⊕ (Nat → Option Nat)} (h : caw D a (.inl (k, n, x)) H) (hK : Kc D U) (hk : k < 10) : ∃ cell : Cell, H[a]? = some cell ∧ U.isArrayOf cell (ak k) ∧ cell.vm ≠ .unknown ∧ n ≤ cell.slots.size ∧ cell.slots.size.toInt32 = Int32.ofNat n ∧ ∀ j, j < n → cell.slots[j]? = some (avf x j) := by
  obtain ⟨cell, g1, g2, g3, g4, g5, g6, g7⟩ := h
  obtain ⟨-, kk, hk1, hk2⟩ := (hK.2 k hk).1 n (avf x)
  refine ⟨cell, g1, ⟨g3, kk, ?_, hk2⟩, g4, g5, g6, g7⟩
  rw [g2]
  exact hk1
def Ok (G : Gl) (U : State) (H : Heap) : Prop := Tb U ∧ Kc G.2.1 U ∧ G.2.2.1 ≤ H.size ∧ G.1.stackTraces = false ∧ Cst G U H
theorem Ok.moved {G : Gl} {s U : State} {H : Heap} (hW : s.WarmedH U.vm) (h : Ok G s H) : Ok G U H := ⟨h.1.moved hW, h.2.1.moved hW.alike, h.2.2.1, h.2.2.2.1, h.2.2.2.2.moved hW⟩
theorem Ok.kept {G : Gl} {U : State} {H H1 : Heap} (h : Ok G U H) (hz : H.size ≤ H1.size) (hq : ∀ q : Nat, q < H.size → ¬ Ar G q → H1[q]? = H[q]?) : Ok G U H1 := ⟨h.1, h.2.1, Nat.le_trans h.2.2.1 hz, h.2.2.2.1, h.2.2.2.2.kept hq⟩
/-- the locals that are known -/
def lo (ls : Array Slot) (nL : Nat) (lv : List (Option Value)) : Prop := ls.size = nL ∧ lv_wf ls ∧ ∀ (i : Nat) (v : Value), lv[i]? = some (some v) → ls[i]? = some (.val v)
def lo_l (lv : List (Option Value)) : List (Nat × Value) := (List.range lv.length).filterMap fun i => match lv[i]? with
  | some (some v) => some (i, v)
  | _ => none
theorem lo_mem {lv : List (Option Value)} {i : Nat} {v : Value} : (i, v) ∈ lo_l lv ↔ lv[i]? = some (some v) := by
  unfold lo_l
  rw [List.mem_filterMap]
  constructor
  · rintro ⟨j, -, hj⟩
    split at hj
    · next w hw => cases hj; exact hw
    · cases hj
  · intro h
    refine ⟨i, List.mem_range.mpr (List.getElem?_eq_some_iff.mp h).1, ?_⟩
    rw [h]
theorem lo.has {ls : Array Slot} {nL : Nat} {lv : List (Option Value)} (h : lo ls nL lv) : lv_has ls nL (lo_l lv) := ⟨h.1, h.2.1, fun q hq => h.2.2 q.1 q.2 (lo_mem.mp hq)⟩
theorem lo.of {ls : Array Slot} {nL : Nat} {l : List (Nat × Value)} {lv : List (Option Value)} (h : lv_has ls nL l) (hl : ∀ i v, lv[i]? = some (some v) → (i, v) ∈ l) : lo ls nL lv := ⟨h.1, h.2.1, fun i v hv => h.2.2 _ (hl i v hv)⟩
/-- the place ahead of i holds no long -/
def noL (lv : List (Option Value)) (i : Nat) : Bool := match i with
  | 0 => true
  | k + 1 => match lv[k]? with
    | some (some v) => v.category == 1
    | _ => true
theorem lo_st1 {lv : List (Option Value)} {i : Nat} {v : Value} (hn : noL lv i = true) : ∀ j w, (lv.set i (some v))[j]? = some (some w) → (j, w) ∈ (i, v) :: (lo_l lv).filter (fun q => !(q.1 == i) && !(q.1 + 1 == i && q.2.category == 2)) := by
  intro j w h
  by_cases hj : j = i
  · subst hj
    rw [List.getElem?_set_self' ] at h
    cases hx : lv[j]? with
    | none => rw [hx] at h; cases h
    | some z => rw [hx] at h; cases h; exact List.mem_cons_self
  · rw [List.getElem?_set_ne (Ne.symm hj)] at h
    refine List.mem_cons_of_mem _ (List.mem_filter.mpr ⟨lo_mem.mpr h, ?_⟩)
    have h1 : (j == i) = false := by simp [hj]
    have h2 : (j + 1 == i && w.category == 2) = false := by
      by_cases hi : j + 1 = i
      · subst hi
        unfold noL at hn
        simp only [h] at hn
        have : w.category = 1 := by simpa using hn
        simp [this]
      · simp [hi]
    simp only [h1, h2]
    rfl
abbrev ent (args : List Value) (nL : Nat) : List (Option Value) := args.map some ++ List.replicate (nL - args.length) none
/-! the fixed part of a frame: program, environment, room, the state at its call, method, arguments, frames below, method's record, code -/
abbrev Fx : Type := Program × Env × Room × State × MethodId × Array Value × List Frame × Method × Code
def Qo (G : Gl) (P : Rs → AH → Prop) : Array Value → State → Outcome → State → Prop := fun _ st o t => ∃ (v : Option Value) (η : AH), o = .returned v ∧ P (.inl v) η ∧ hp G η t.heap ∧ va_F (Ar G) st t
def Xo (G : Gl) (P : Rs → AH → Prop) : String → Addr → State → State → Prop := fun E q st t => ∃ η : AH, P (.inr (E, q)) η ∧ hp G η t.heap ∧ va_F (Ar G) st t
def Cx (G : Gl) (Γ : Fx) (y : MethodName) (cc : ByteArray) (nL : Nat) (ret : Option FieldType) (tb : List ExceptionTableEntry) (d : Nat) : Prop :=
  Γ.1.tables.exec = Jvm.exec ∧ Γ.2.2.2.2.2.2.2.2.code = cc ∧ Γ.2.2.2.2.2.2.2.2.maxLocals = nL ∧ Γ.2.2.2.1.vm.findClass y.cls = some Γ.2.2.2.2.1.cls ∧ (∀ w ∈ lw_all, w.before Γ.2.2.2.2.2.1 Γ.2.2.2.1 = true) ∧
  Ok G Γ.2.2.2.1 Γ.2.2.2.1.heap ∧ Γ.2.2.2.2.2.2.2.1.locks = false ∧ d ≤ Γ.2.2.1.frames ∧ 60 * d ≤ Γ.2.2.1.locals ∧ Γ.2.2.2.2.2.2.2.1.sig.returnType = ret ∧ Γ.2.2.2.2.2.2.2.1.name = y.name ∧ Γ.2.2.2.2.2.2.2.2.exceptionTable.toList = tb
abbrev Wv (G : Gl) (Γ : Fx) (P : Rs → AH → Prop) (H : Heap) (locs : List Loc) (cells slots : Nat) (g : JFrame) : Prop :=
  W Γ.1 G.1 Γ.2.1 Γ.2.2.1 Γ.2.2.2.1 Γ.2.2.2.2.1 Γ.2.2.2.2.2.1 Γ.2.2.2.2.2.2.1 Γ.2.2.2.2.2.2.2.1 Γ.2.2.2.2.2.2.2.2 H locs cells slots (vx_MQ Γ.2.2.2.2.2.2.1 (Qo G P) (Xo G P) Γ.2.2.2.2.2.1 Γ.2.2.2.1 Γ.2.2.1.cells Γ.2.2.1.slots (Ar G)) g
/-- the frame at pc with locals lv and stack st over the abstract heap η, kc cells and ks slots still free, comes to its end with P -/
def V (G : Gl) (Γ : Fx) (y : MethodName) (cc : ByteArray) (nL : Nat) (ret : Option FieldType) (tb : List ExceptionTableEntry) (d : Nat) (P : Rs → AH → Prop) (kc ks : Nat) (η : AH) (pc : Nat) (lv : List (Option Value)) (st : List Value) : Prop :=
  Cx G Γ y cc nL ret tb d → ∀ (H : Heap) (locs : List Loc) (ls : Array Slot) (cells slots : Nat), hp G η H → va_S (Ar G) Γ.2.2.2.1.heap H locs → lo ls nL lv → cells + kc ≤ Γ.2.2.1.cells → slots + ks ≤ Γ.2.2.1.slots → Wv G Γ P H locs cells slots (F0 Γ.2.2.2.2.1 pc ls st)
def rmo (d kc ks : Nat) : Room := { frames := d, cells := kc, slots := ks, locals := 60 * d }
def Pco (G : Gl) (args : List Value) (η : AH) : Array Value → State → Prop := fun av U => av = args.toArray ∧ Ok G U U.heap ∧ hp G η U.heap
/-- a contract: called with args over η it ends with P (returns, or throws), d frames deep, making at most kc cells of ks slots -/
def Ct (G : Gl) (y : MethodName) (cc : ByteArray) (nL : Nat) (ret : Option FieldType) (d kc ks : Nat) (args : List Value) (η : AH) (P : Rs → AH → Prop) : Prop :=
  vx_Met G.1 y (ws_ y cc nL ret) (rmo d kc ks) (Pco G args η) (Qo G P) (Xo G P) kc ks (Ar G)
/-- .. of a method with a table of handlers -/
def CtH (G : Gl) (y : MethodName) (cc : ByteArray) (nL : Nat) (ret : Option FieldType) (hh : List (Nat × Nat × Nat × Nat)) (d kc ks : Nat) (args : List Value) (η : AH) (P : Rs → AH → Prop) : Prop :=
  vx_Met G.1 y (wsW_ y cc nL ret hh) (rmo d kc ks) (Pco G args η) (Qo G P) (Xo G P) kc ks (Ar G)
/-- it returns v, with η2 -/
abbrev re (v : Option Value) (η2 : AH) : Rs → AH → Prop := fun r η => r = .inl v ∧ η = η2
theorem Pco.blind {G : Gl} {args : List Value} {η : AH} : FrameBlind (Pco G args η) := fun _ U _ _ q => ⟨q.1, q.2.1.moved (State.WarmedH.refl U), q.2.2⟩
theorem va_S.ok {G : Gl} {s : State} {H : Heap} {locs : List Loc} (hS : va_S (Ar G) s.heap H locs) (h : Ok G s s.heap) : Ok G s H := h.kept hS.1 (fun q h1 h2 => hS.2.1 q h1 h2)
theorem lv_args_mem : ∀ (args : List Value) (j i : Nat) (v : Value), args.all (fun v => v.category == 1) = true → args[i]? = some v → (j + i, v) ∈ lv_args j args
  | [], j, i, v, _, h => by simp at h
  | w :: ws, j, i, v, ha, h => by
    rw [List.all_cons, Bool.and_eq_true] at ha
    have hw : w.category = 1 := by simpa using ha.1
    cases i with
    | zero =>
      have : w = v := by simpa using h
      subst this
      exact List.mem_cons_self
    | succ i =>
      have h2 : ws[i]? = some v := by simpa using h
      have := lv_args_mem ws (j + 1) i v ha.2 h2
      rw [show j + 1 + i = j + (i + 1) by omega] at this
      unfold lv_args
      rw [if_neg (by rw [hw]; decide)]
      exact List.mem_cons_of_mem _ this
theorem ent_mem {args : List Value} {nL : Nat} (ha : args.all (fun v => v.category == 1) = true) (i : Nat) (v : Value) (h : (ent args nL)[i]? = some (some v)) : (i, v) ∈ lv_args 0 args := by
  have h2 : args[i]? = some v := by
    by_cases hi : i < args.length
    · rw [List.getElem?_append_left (by simpa using hi)] at h
      simpa using h
    · rw [List.getElem?_append_right (by simpa using hi)] at h
      have := List.mem_of_getElem? h
      have := (List.mem_replicate.mp this).2
      cases this
  have := lv_args_mem args 0 i v ha h2
  rwa [Nat.zero_add] at this
section VS
variable {G : Gl} {Γ : Fx} {mt : MethodName} {cc : ByteArray} {nL : Nat} {ret : Option FieldType} {tb : List ExceptionTableEntry} {d : Nat} {P : Rs → AH → Prop} {kc ks : Nat} {η : AH} {pc : Nat} {lv : List (Option Value)} {rest : List Value}
theorem Ct.start {args : List Value} (hy : plainName mt.cls = true) (ha : args.all (fun v => v.category == 1) = true) (hn : (lg_sl args).length ≤ nL) (h : ∀ Γ, V G Γ mt cc nL ret [] d P kc ks η 0 (ent args nL) []) : Ct G mt cc nL ret d kc ks args η P := by
  refine vx_ofW (cc := cc) (maxL := nL) (ret := ret) hy rfl ?_
  intro p e s m av below meth c s₁ B hml ht hv
  obtain ⟨rfl, hok, hh⟩ := hv
  have hts := atoms_spec (ws := ws_ mt cc nL ret) B.pre
  have hts : ∀ w ∈ lw_all, w.before _ s = true := fun w h => hts w (List.mem_cons_of_mem _ h)
  have hl := lv_entry args (n := nL) hn
  rw [lg_entry_eq]
  exact h (p, e, (headSpec (ws_ mt cc nL ret) (rmo d kc ks)).room, s, m, args.toArray, below, meth, c) ⟨B.exec, B.bytes, hml, findClass_of_methodNamed B.named, hts, hok, B.notSynchronized, Nat.le_refl _, Nat.le_refl _, B.returns, (name_of_methodNamed B.named B.method).1, List.eq_nil_iff_forall_not_mem.mpr ht⟩ _ _ _ 0 0 hh va_S.rf (lo.of hl (ent_mem ha)) (Nat.le_of_eq (Nat.zero_add _)) (Nat.le_of_eq (Nat.zero_add _))
theorem CtH.start {args : List Value} {hh : List (Nat × Nat × Nat × Nat)} (hy : plainName mt.cls = true) (ha : args.all (fun v => v.category == 1) = true) (hn : (lg_sl args).length ≤ nL) (h : ∀ Γ, V G Γ mt cc nL ret (tableOf hh) d P kc ks η 0 (ent args nL) []) : CtH G mt cc nL ret hh d kc ks args η P := by
  refine vx_ofWH (cc := cc) (maxL := nL) (ret := ret) (hh := hh) hy rfl ?_
  intro p e s m av below meth c s₁ B hml hv
  obtain ⟨rfl, hok, hh1⟩ := hv
  have hts0 := atoms_spec (ws := wsW_ mt cc nL ret hh) B.pre
  have hts : ∀ w ∈ lw_all, w.before _ s = true := fun w h => hts0 w (List.mem_cons_of_mem _ h)
  have hl := lv_entry args (n := nL) hn
  rw [lg_entry_eq]
  exact h (p, e, (headSpec (wsW_ mt cc nL ret hh) (rmo d kc ks)).room, s, m, args.toArray, below, meth, c) ⟨B.exec, B.bytes, hml, findClass_of_methodNamed B.named, hts, hok, B.notSynchronized, Nat.le_refl _, Nat.le_refl _, B.returns, (name_of_methodNamed B.named B.method).1, vx_table (x := mt) B (hts0 _ List.mem_cons_self)⟩ _ _ _ 0 0 hh1 va_S.rf (lo.of hl (ent_mem ha)) (Nat.le_of_eq (Nat.zero_add _)) (Nat.le_of_eq (Nat.zero_add _))
/-- less of a budget, fewer locals known, another abstract heap of the same cells -/
theorem v_less {kc' ks' : Nat} (h1 : kc' ≤ kc) (h2 : ks' ≤ ks) (kk : V G Γ mt cc nL ret tb d P kc' ks' η pc lv rest) : V G Γ mt cc nL ret tb d P kc ks η pc lv rest := fun C H locs ls cells slots a1 a2 a3 a4 a5 => kk C H locs ls cells slots a1 a2 a3 (by omega) (by omega)
theorem v_heap {η' : AH} (hm : ∀ a o e, η' a = some (o, e) → ∃ o', η a = some (o', e) ∧ (o ≠ none → o' ≠ none)) (kk : V G Γ mt cc nL ret tb d P kc ks η' pc lv rest) : V G Γ mt cc nL ret tb d P kc ks η pc lv rest := fun C H locs ls cells slots a1 a2 a3 a4 a5 => kk C H locs ls cells slots (a1.mono hm) a2 a3 a4 a5
theorem v_lv {lv' : List (Option Value)} (hm : ∀ (i : Nat) (v : Value), lv'[i]? = some (some v) → lv[i]? = some (some v)) (kk : V G Γ mt cc nL ret tb d P kc ks η pc lv' rest) : V G Γ mt cc nL ret tb d P kc ks η pc lv rest := fun C H locs ls cells slots a1 a2 a3 a4 a5 => kk C H locs ls cells slots a1 a2 ⟨a3.1, a3.2.1, fun i v h => a3.2.2 i v (hm i v h)⟩ a4 a5
theorem lo_st2 {lv : List (Option Value)} {i : Nat} {v : Value} (hn : noL lv i = true) : ∀ j w, ((lv.set (i + 1) none).set i (some v))[j]? = some (some w) → (j, w) ∈ (i, v) :: (lo_l lv).filter (fun q => !(q.1 == i) && (!(q.1 == i + 1) && !(q.1 + 1 == i && q.2.category == 2))) := by
  intro j w h
  by_cases hj : j = i
  · subst hj
    rw [List.getElem?_set_self'] at h
    cases hx : (lv.set (j + 1) none)[j]? with
    | none => rw [hx] at h; cases h
    | some z => rw [hx] at h; cases h; exact List.mem_cons_self
  · rw [List.getElem?_set_ne (Ne.symm hj)] at h
    by_cases hj2 : j = i + 1
    · subst hj2
      rw [List.getElem?_set_self'] at h
      cases hx : lv[i + 1]? with
      | none => rw [hx] at h; cases h
      | some z => rw [hx] at h; cases h
    · rw [List.getElem?_set_ne (Ne.symm hj2)] at h
      refine List.mem_cons_of_mem _ (List.mem_filter.mpr ⟨lo_mem.mpr h, ?_⟩)
      have h1 : (j == i) = false := by simp [hj]
      have h3 : (j == i + 1) = false := by simp [hj2]
      have h2 : (j + 1 == i && w.category == 2) = false := by
        by_cases hi : j + 1 = i
        · subst hi
          unfold noL at hn
          simp only [h] at hn
          have : w.category = 1 := by simpa using hn
          simp [this]
        · simp [hi]
      simp only [h1, h2, h3]
      rfl
theorem v_iconst {n : Int} {v : Int32} (hdg : decode cc pc = .ok (.iconst n, 1)) (hv : Int32.ofInt n = v) (kk : V G Γ mt cc nL ret tb d P kc ks η (pc + 1) lv (.int v :: rest)) : V G Γ mt cc nL ret tb d P kc ks η pc lv (rest) := fun C H locs ls cells slots a1 a2 a3 a4 a5 => lv_iconst C.1 C.2.1 hdg hv (kk C H locs ls cells slots a1 a2 a3 a4 a5)
theorem v_bipush {n : Int} {v : Int32} (hdg : decode cc pc = .ok (.bipush n, 2)) (hv : (Int8.ofInt n).toInt32 = v) (kk : V G Γ mt cc nL ret tb d P kc ks η (pc + 2) lv (.int v :: rest)) : V G Γ mt cc nL ret tb d P kc ks η pc lv (rest) := fun C H locs ls cells slots a1 a2 a3 a4 a5 => lv_bipush C.1 C.2.1 hdg hv (kk C H locs ls cells slots a1 a2 a3 a4 a5)
theorem v_sipush {n : Int} {v : Int32} (hdg : decode cc pc = .ok (.sipush n, 3)) (hv : (Int16.ofInt n).toInt32 = v) (kk : V G Γ mt cc nL ret tb d P kc ks η (pc + 3) lv (.int v :: rest)) : V G Γ mt cc nL ret tb d P kc ks η pc lv (rest) := fun C H locs ls cells slots a1 a2 a3 a4 a5 => lv_sipush C.1 C.2.1 hdg hv (kk C H locs ls cells slots a1 a2 a3 a4 a5)
theorem v_lconst {n : Fin 2} {v : Int64} (hdg : decode cc pc = .ok (.lconst n, 1)) (hv : Int64.ofNat (n : Nat) = v) (kk : V G Γ mt cc nL ret tb d P kc ks η (pc + 1) lv (.long v :: rest)) : V G Γ mt cc nL ret tb d P kc ks η pc lv (rest) := fun C H locs ls cells slots a1 a2 a3 a4 a5 => lv_lconst C.1 C.2.1 hdg hv (kk C H locs ls cells slots a1 a2 a3 a4 a5)
theorem v_iload_n {k : Fin 4} {i : Nat} {x : Int32} (hdg : decode cc pc = .ok (.iload_n k, 1)) (hi : (k : Nat) = i) (hl : lv[i]? = some (some (.int x))) (kk : V G Γ mt cc nL ret tb d P kc ks η (pc + 1) lv (.int x :: rest)) : V G Γ mt cc nL ret tb d P kc ks η pc lv (rest) := fun C H locs ls cells slots a1 a2 a3 a4 a5 => lv_iload_n C.1 C.2.1 hdg hi (a3.2.2 _ _ hl) (kk C H locs ls cells slots a1 a2 a3 a4 a5)
theorem v_iload {i : Nat} {x : Int32} (hdg : decode cc pc = .ok (.iload i, 2)) (hl : lv[i]? = some (some (.int x))) (kk : V G Γ mt cc nL ret tb d P kc ks η (pc + 2) lv (.int x :: rest)) : V G Γ mt cc nL ret tb d P kc ks η pc lv (rest) := fun C H locs ls cells slots a1 a2 a3 a4 a5 => lv_iload C.1 C.2.1 hdg (a3.2.2 _ _ hl) (kk C H locs ls cells slots a1 a2 a3 a4 a5)
theorem v_lload_n {k : Fin 4} {i : Nat} {x : Int64} (hdg : decode cc pc = .ok (.lload_n k, 1)) (hi : (k : Nat) = i) (hl : lv[i]? = some (some (.long x))) (kk : V G Γ mt cc nL ret tb d P kc ks η (pc + 1) lv (.long x :: rest)) : V G Γ mt cc nL ret tb d P kc ks η pc lv (rest) := fun C H locs ls cells slots a1 a2 a3 a4 a5 => lv_lload_n C.1 C.2.1 hdg hi (a3.2.2 _ _ hl) (kk C H locs ls cells slots a1 a2 a3 a4 a5)
theorem v_lload {i : Nat} {x : Int64} (hdg : decode cc pc = .ok (.lload i, 2)) (hl : lv[i]? = some (some (.long x))) (kk : V G Γ mt cc nL ret tb d P kc ks η (pc + 2) lv (.long x :: rest)) : V G Γ mt cc nL ret tb d P kc ks η pc lv (rest) := fun C H locs ls cells slots a1 a2 a3 a4 a5 => lv_lload C.1 C.2.1 hdg (a3.2.2 _ _ hl) (kk C H locs ls cells slots a1 a2 a3 a4 a5)
theorem v_aload_n {k : Fin 4} {i : Nat} {x : Nat} (hdg : decode cc pc = .ok (.aload_n k, 1)) (hi : (k : Nat) = i) (hl : lv[i]? = some (some (.ref x))) (kk : V G Γ mt cc nL ret tb d P kc ks η (pc + 1) lv (.ref x :: rest)) : V G Γ mt cc nL ret tb d P kc ks η pc lv (rest) := fun C H locs ls cells slots a1 a2 a3 a4 a5 => lv_aload_n C.1 C.2.1 hdg hi (a3.2.2 _ _ hl) (kk C H locs ls cells slots a1 a2 a3 a4 a5)
theorem v_aload {i : Nat} {x : Nat} (hdg : decode cc pc = .ok (.aload i, 2)) (hl : lv[i]? = some (some (.ref x))) (kk : V G Γ mt cc nL ret tb d P kc ks η (pc + 2) lv (.ref x :: rest)) : V G Γ mt cc nL ret tb d P kc ks η pc lv (rest) := fun C H locs ls cells slots a1 a2 a3 a4 a5 => lv_aload C.1 C.2.1 hdg (a3.2.2 _ _ hl) (kk C H locs ls cells slots a1 a2 a3 a4 a5)
theorem v_aload_nN {k : Fin 4} {i : Nat} (hdg : decode cc pc = .ok (.aload_n k, 1)) (hi : (k : Nat) = i) (hl : lv[i]? = some (some (.null))) (kk : V G Γ mt cc nL ret tb d P kc ks η (pc + 1) lv (.null :: rest)) : V G Γ mt cc nL ret tb d P kc ks η pc lv (rest) := fun C H locs ls cells slots a1 a2 a3 a4 a5 => lv_aload_nN C.1 C.2.1 hdg hi (a3.2.2 _ _ hl) (kk C H locs ls cells slots a1 a2 a3 a4 a5)
theorem v_aloadN {i : Nat} (hdg : decode cc pc = .ok (.aload i, 2)) (hl : lv[i]? = some (some (.null))) (kk : V G Γ mt cc nL ret tb d P kc ks η (pc + 2) lv (.null :: rest)) : V G Γ mt cc nL ret tb d P kc ks η pc lv (rest) := fun C H locs ls cells slots a1 a2 a3 a4 a5 => lv_aloadN C.1 C.2.1 hdg (a3.2.2 _ _ hl) (kk C H locs ls cells slots a1 a2 a3 a4 a5)
theorem v_iadd {x y : Int32} (hdg : decode cc pc = .ok (.iadd, 1)) (kk : V G Γ mt cc nL ret tb d P kc ks η (pc + 1) lv (.int (x + y) :: rest)) : V G Γ mt cc nL ret tb d P kc ks η pc lv (.int y :: .int x :: rest) := fun C H locs ls cells slots a1 a2 a3 a4 a5 => lv_iadd C.1 C.2.1 hdg (kk C H locs ls cells slots a1 a2 a3 a4 a5)
theorem v_isub {x y : Int32} (hdg : decode cc pc = .ok (.isub, 1)) (kk : V G Γ mt cc nL ret tb d P kc ks η (pc + 1) lv (.int (x - y) :: rest)) : V G Γ mt cc nL ret tb d P kc ks η pc lv (.int y :: .int x :: rest) := fun C H locs ls cells slots a1 a2 a3 a4 a5 => lv_isub C.1 C.2.1 hdg (kk C H locs ls cells slots a1 a2 a3 a4 a5)
theorem v_imul {x y : Int32} (hdg : decode cc pc = .ok (.imul, 1)) (kk : V G Γ mt cc nL ret tb d P kc ks η (pc + 1) lv (.int (x * y) :: rest)) : V G Γ mt cc nL ret tb d P kc ks η pc lv (.int y :: .int x :: rest) := fun C H locs ls cells slots a1 a2 a3 a4 a5 => lv_imul C.1 C.2.1 hdg (kk C H locs ls cells slots a1 a2 a3 a4 a5)
theorem v_iand {x y : Int32} (hdg : decode cc pc = .ok (.iand, 1)) (kk : V G Γ mt cc nL ret tb d P kc ks η (pc + 1) lv (.int (x &&& y) :: rest)) : V G Γ mt cc nL ret tb d P kc ks η pc lv (.int y :: .int x :: rest) := fun C H locs ls cells slots a1 a2 a3 a4 a5 => lv_iand C.1 C.2.1 hdg (kk C H locs ls cells slots a1 a2 a3 a4 a5)
theorem v_ior {x y : Int32} (hdg : decode cc pc = .ok (.ior, 1)) (kk : V G Γ mt cc nL ret tb d P kc ks η (pc + 1) lv (.int (x ||| y) :: rest)) : V G Γ mt cc nL ret tb d P kc ks η pc lv (.int y :: .int x :: rest) := fun C H locs ls cells slots a1 a2 a3 a4 a5 => lv_ior C.1 C.2.1 hdg (kk C H locs ls cells slots a1 a2 a3 a4 a5)
theorem v_ixor {x y : Int32} (hdg : decode cc pc = .ok (.ixor, 1)) (kk : V G Γ mt cc nL ret tb d P kc ks η (pc + 1) lv (.int (x ^^^ y) :: rest)) : V G Γ mt cc nL ret tb d P kc ks η pc lv (.int y :: .int x :: rest) := fun C H locs ls cells slots a1 a2 a3 a4 a5 => lv_ixor C.1 C.2.1 hdg (kk C H locs ls cells slots a1 a2 a3 a4 a5)
theorem v_idiv {x y : Int32} (hdg : decode cc pc = .ok (.idiv, 1)) (hne : ¬ y = 0) (kk : V G Γ mt cc nL ret tb d P kc ks η (pc + 1) lv (.int (x / y) :: rest)) : V G Γ mt cc nL ret tb d P kc ks η pc lv (.int y :: .int x :: rest) := fun C H locs ls cells slots a1 a2 a3 a4 a5 => lv_idiv C.1 C.2.1 hdg hne (kk C H locs ls cells slots a1 a2 a3 a4 a5)
theorem v_irem {x y : Int32} (hdg : decode cc pc = .ok (.irem, 1)) (hne : ¬ y = 0) (kk : V G Γ mt cc nL ret tb d P kc ks η (pc + 1) lv (.int (x - x / y * y) :: rest)) : V G Γ mt cc nL ret tb d P kc ks η pc lv (.int y :: .int x :: rest) := fun C H locs ls cells slots a1 a2 a3 a4 a5 => lv_irem C.1 C.2.1 hdg hne (kk C H locs ls cells slots a1 a2 a3 a4 a5)
theorem v_ineg {x : Int32} (hdg : decode cc pc = .ok (.ineg, 1)) (kk : V G Γ mt cc nL ret tb d P kc ks η (pc + 1) lv (.int (-x) :: rest)) : V G Γ mt cc nL ret tb d P kc ks η pc lv (.int x :: rest) := fun C H locs ls cells slots a1 a2 a3 a4 a5 => lv_ineg C.1 C.2.1 hdg (kk C H locs ls cells slots a1 a2 a3 a4 a5)
theorem v_ladd {x y : Int64} (hdg : decode cc pc = .ok (.ladd, 1)) (kk : V G Γ mt cc nL ret tb d P kc ks η (pc + 1) lv (.long (x + y) :: rest)) : V G Γ mt cc nL ret tb d P kc ks η pc lv (.long y :: .long x :: rest) := fun C H locs ls cells slots a1 a2 a3 a4 a5 => lv_ladd C.1 C.2.1 hdg (kk C H locs ls cells slots a1 a2 a3 a4 a5)
theorem v_lsub {x y : Int64} (hdg : decode cc pc = .ok (.lsub, 1)) (kk : V G Γ mt cc nL ret tb d P kc ks η (pc + 1) lv (.long (x - y) :: rest)) : V G Γ mt cc nL ret tb d P kc ks η pc lv (.long y :: .long x :: rest) := fun C H locs ls cells slots a1 a2 a3 a4 a5 => lv_lsub C.1 C.2.1 hdg (kk C H locs ls cells slots a1 a2 a3 a4 a5)
theorem v_lmul {x y : Int64} (hdg : decode cc pc = .ok (.lmul, 1)) (kk : V G Γ mt cc nL ret tb d P kc ks η (pc + 1) lv (.long (x * y) :: rest)) : V G Γ mt cc nL ret tb d P kc ks η pc lv (.long y :: .long x :: rest) := fun C H locs ls cells slots a1 a2 a3 a4 a5 => lv_lmul C.1 C.2.1 hdg (kk C H locs ls cells slots a1 a2 a3 a4 a5)
theorem v_land {x y : Int64} (hdg : decode cc pc = .ok (.land, 1)) (kk : V G Γ mt cc nL ret tb d P kc ks η (pc + 1) lv (.long (x &&& y) :: rest)) : V G Γ mt cc nL ret tb d P kc ks η pc lv (.long y :: .long x :: rest) := fun C H locs ls cells slots a1 a2 a3 a4 a5 => lv_land C.1 C.2.1 hdg (kk C H locs ls cells slots a1 a2 a3 a4 a5)
theorem v_lor {x y : Int64} (hdg : decode cc pc = .ok (.lor, 1)) (kk : V G Γ mt cc nL ret tb d P kc ks η (pc + 1) lv (.long (x ||| y) :: rest)) : V G Γ mt cc nL ret tb d P kc ks η pc lv (.long y :: .long x :: rest) := fun C H locs ls cells slots a1 a2 a3 a4 a5 => lv_lor C.1 C.2.1 hdg (kk C H locs ls cells slots a1 a2 a3 a4 a5)
theorem v_lxor {x y : Int64} (hdg : decode cc pc = .ok (.lxor, 1)) (kk : V G Γ mt cc nL ret tb d P kc ks η (pc + 1) lv (.long (x ^^^ y) :: rest)) : V G Γ mt cc nL ret tb d P kc ks η pc lv (.long y :: .long x :: rest) := fun C H locs ls cells slots a1 a2 a3 a4 a5 => lv_lxor C.1 C.2.1 hdg (kk C H locs ls cells slots a1 a2 a3 a4 a5)
theorem v_ldiv {x y : Int64} (hdg : decode cc pc = .ok (.ldiv, 1)) (hne : ¬ y = 0) (kk : V G Γ mt cc nL ret tb d P kc ks η (pc + 1) lv (.long (x / y) :: rest)) : V G Γ mt cc nL ret tb d P kc ks η pc lv (.long y :: .long x :: rest) := fun C H locs ls cells slots a1 a2 a3 a4 a5 => lv_ldiv C.1 C.2.1 hdg hne (kk C H locs ls cells slots a1 a2 a3 a4 a5)
theorem v_lrem {x y : Int64} (hdg : decode cc pc = .ok (.lrem, 1)) (hne : ¬ y = 0) (kk : V G Γ mt cc nL ret tb d P kc ks η (pc + 1) lv (.long (x - x / y * y) :: rest)) : V G Γ mt cc nL ret tb d P kc ks η pc lv (.long y :: .long x :: rest) := fun C H locs ls cells slots a1 a2 a3 a4 a5 => lv_lrem C.1 C.2.1 hdg hne (kk C H locs ls cells slots a1 a2 a3 a4 a5)
theorem v_ishl {x y : Int32} (hdg : decode cc pc = .ok (.ishl, 1)) (kk : V G Γ mt cc nL ret tb d P kc ks η (pc + 1) lv (.int (x <<< (y &&& 31)) :: rest)) : V G Γ mt cc nL ret tb d P kc ks η pc lv (.int y :: .int x :: rest) := fun C H locs ls cells slots a1 a2 a3 a4 a5 => lv_ishl C.1 C.2.1 hdg (kk C H locs ls cells slots a1 a2 a3 a4 a5)
theorem v_ishr {x y : Int32} (hdg : decode cc pc = .ok (.ishr, 1)) (kk : V G Γ mt cc nL ret tb d P kc ks η (pc + 1) lv (.int (x >>> (y &&& 31)) :: rest)) : V G Γ mt cc nL ret tb d P kc ks η pc lv (.int y :: .int x :: rest) := fun C H locs ls cells slots a1 a2 a3 a4 a5 => lv_ishr C.1 C.2.1 hdg (kk C H locs ls cells slots a1 a2 a3 a4 a5)
theorem v_i2l {x : Int32} {v : Int64} (hdg : decode cc pc = .ok (.i2l, 1)) (hv : x.toInt64 = v) (kk : V G Γ mt cc nL ret tb d P kc ks η (pc + 1) lv (.long v :: rest)) : V G Γ mt cc nL ret tb d P kc ks η pc lv (.int x :: rest) := fun C H locs ls cells slots a1 a2 a3 a4 a5 => lv_i2l C.1 C.2.1 hdg hv (kk C H locs ls cells slots a1 a2 a3 a4 a5)
theorem v_l2i {x : Int64} {v : Int32} (hdg : decode cc pc = .ok (.l2i, 1)) (hv : x.toInt32 = v) (kk : V G Γ mt cc nL ret tb d P kc ks η (pc + 1) lv (.int v :: rest)) : V G Γ mt cc nL ret tb d P kc ks η pc lv (.long x :: rest) := fun C H locs ls cells slots a1 a2 a3 a4 a5 => lv_l2i C.1 C.2.1 hdg hv (kk C H locs ls cells slots a1 a2 a3 a4 a5)
theorem v_i2b {x : Int32} {v : Int32} (hdg : decode cc pc = .ok (.i2b, 1)) (hv : x.toInt8.toInt32 = v) (kk : V G Γ mt cc nL ret tb d P kc ks η (pc + 1) lv (.int v :: rest)) : V G Γ mt cc nL ret tb d P kc ks η pc lv (.int x :: rest) := fun C H locs ls cells slots a1 a2 a3 a4 a5 => lv_i2b C.1 C.2.1 hdg hv (kk C H locs ls cells slots a1 a2 a3 a4 a5)
theorem v_i2s {x : Int32} {v : Int32} (hdg : decode cc pc = .ok (.i2s, 1)) (hv : x.toInt16.toInt32 = v) (kk : V G Γ mt cc nL ret tb d P kc ks η (pc + 1) lv (.int v :: rest)) : V G Γ mt cc nL ret tb d P kc ks η pc lv (.int x :: rest) := fun C H locs ls cells slots a1 a2 a3 a4 a5 => lv_i2s C.1 C.2.1 hdg hv (kk C H locs ls cells slots a1 a2 a3 a4 a5)
theorem v_i2c {x : Int32} {v : Int32} (hdg : decode cc pc = .ok (.i2c, 1)) (hv : (x.toUInt32 % 65536).toInt32 = v) (kk : V G Γ mt cc nL ret tb d P kc ks η (pc + 1) lv (.int v :: rest)) : V G Γ mt cc nL ret tb d P kc ks η pc lv (.int x :: rest) := fun C H locs ls cells slots a1 a2 a3 a4 a5 => lv_i2c C.1 C.2.1 hdg hv (kk C H locs ls cells slots a1 a2 a3 a4 a5)
theorem v_iushr {x y v : Int32} (hdg : decode cc pc = .ok (.iushr, 1)) (hv : (x.toUInt32 >>> (y.toUInt32 &&& Int32.toUInt32 31)).toInt32 = v) (kk : V G Γ mt cc nL ret tb d P kc ks η (pc + 1) lv (.int v :: rest)) : V G Γ mt cc nL ret tb d P kc ks η pc lv (.int y :: .int x :: rest) := fun C H locs ls cells slots a1 a2 a3 a4 a5 => lv_iushr C.1 C.2.1 hdg hv (kk C H locs ls cells slots a1 a2 a3 a4 a5)
theorem v_lushr {x v : Int64} {y : Int32} (hdg : decode cc pc = .ok (.lushr, 1)) (hv : (x.toUInt64 >>> (y.toInt64.toUInt64 &&& Int64.toUInt64 63)).toInt64 = v) (kk : V G Γ mt cc nL ret tb d P kc ks η (pc + 1) lv (.long v :: rest)) : V G Γ mt cc nL ret tb d P kc ks η pc lv (.int y :: .long x :: rest) := fun C H locs ls cells slots a1 a2 a3 a4 a5 => lv_lushr C.1 C.2.1 hdg hv (kk C H locs ls cells slots a1 a2 a3 a4 a5)
theorem v_lshl {x v : Int64} {y : Int32} (hdg : decode cc pc = .ok (.lshl, 1)) (hv : x <<< (y.toInt64 &&& 63) = v) (kk : V G Γ mt cc nL ret tb d P kc ks η (pc + 1) lv (.long v :: rest)) : V G Γ mt cc nL ret tb d P kc ks η pc lv (.int y :: .long x :: rest) := fun C H locs ls cells slots a1 a2 a3 a4 a5 => lv_lshl C.1 C.2.1 hdg hv (kk C H locs ls cells slots a1 a2 a3 a4 a5)
theorem v_lshr {x v : Int64} {y : Int32} (hdg : decode cc pc = .ok (.lshr, 1)) (hv : x >>> (y.toInt64 &&& 63) = v) (kk : V G Γ mt cc nL ret tb d P kc ks η (pc + 1) lv (.long v :: rest)) : V G Γ mt cc nL ret tb d P kc ks η pc lv (.int y :: .long x :: rest) := fun C H locs ls cells slots a1 a2 a3 a4 a5 => lv_lshr C.1 C.2.1 hdg hv (kk C H locs ls cells slots a1 a2 a3 a4 a5)
theorem v_dup {va : Value} (hdg : decode cc pc = .ok (.dup, 1)) (hva : va.category = 1) (kk : V G Γ mt cc nL ret tb d P kc ks η (pc + 1) lv (va :: va :: rest)) : V G Γ mt cc nL ret tb d P kc ks η pc lv (va :: rest) := fun C H locs ls cells slots a1 a2 a3 a4 a5 => lv_dup C.1 C.2.1 hdg hva (kk C H locs ls cells slots a1 a2 a3 a4 a5)
theorem v_pop {va : Value} (hdg : decode cc pc = .ok (.pop, 1)) (hva : va.category = 1) (kk : V G Γ mt cc nL ret tb d P kc ks η (pc + 1) lv (rest)) : V G Γ mt cc nL ret tb d P kc ks η pc lv (va :: rest) := fun C H locs ls cells slots a1 a2 a3 a4 a5 => lv_pop C.1 C.2.1 hdg hva (kk C H locs ls cells slots a1 a2 a3 a4 a5)
theorem v_dup_x1 {va vb : Value} (hdg : decode cc pc = .ok (.dup_x1, 1)) (hva : va.category = 1) (hvb : vb.category = 1) (kk : V G Γ mt cc nL ret tb d P kc ks η (pc + 1) lv (va :: vb :: va :: rest)) : V G Γ mt cc nL ret tb d P kc ks η pc lv (va :: vb :: rest) := fun C H locs ls cells slots a1 a2 a3 a4 a5 => lv_dup_x1 C.1 C.2.1 hdg hva hvb (kk C H locs ls cells slots a1 a2 a3 a4 a5)
theorem v_dup_x2 {va vb vd : Value} (hdg : decode cc pc = .ok (.dup_x2, 1)) (hva : va.category = 1) (hvb : vb.category = 1) (hvd : vd.category = 1) (kk : V G Γ mt cc nL ret tb d P kc ks η (pc + 1) lv (va :: vb :: vd :: va :: rest)) : V G Γ mt cc nL ret tb d P kc ks η pc lv (va :: vb :: vd :: rest) := fun C H locs ls cells slots a1 a2 a3 a4 a5 => lv_dup_x2 C.1 C.2.1 hdg hva hvb hvd (kk C H locs ls cells slots a1 a2 a3 a4 a5)
theorem v_dup2_11 {va vb : Value} (hdg : decode cc pc = .ok (.dup2, 1)) (hva : va.category = 1) (hvb : vb.category = 1) (kk : V G Γ mt cc nL ret tb d P kc ks η (pc + 1) lv (va :: vb :: va :: vb :: rest)) : V G Γ mt cc nL ret tb d P kc ks η pc lv (va :: vb :: rest) := fun C H locs ls cells slots a1 a2 a3 a4 a5 => lv_dup2_11 C.1 C.2.1 hdg hva hvb (kk C H locs ls cells slots a1 a2 a3 a4 a5)
theorem v_dup2_2 {va : Value} (hdg : decode cc pc = .ok (.dup2, 1)) (hva : va.category = 2) (kk : V G Γ mt cc nL ret tb d P kc ks η (pc + 1) lv (va :: va :: rest)) : V G Γ mt cc nL ret tb d P kc ks η pc lv (va :: rest) := fun C H locs ls cells slots a1 a2 a3 a4 a5 => lv_dup2_2 C.1 C.2.1 hdg hva (kk C H locs ls cells slots a1 a2 a3 a4 a5)
theorem v_if_eq {x : Int32} {off : Int} {tgt : Nat} (hdg : decode cc pc = .ok (.ifCond .eq off, 3)) (ht : (pc : Int) + off = (tgt : Int)) (kt : x = 0 → V G Γ mt cc nL ret tb d P kc ks η tgt lv rest) (kf : ¬ x = 0 → V G Γ mt cc nL ret tb d P kc ks η (pc + 3) lv rest) : V G Γ mt cc nL ret tb d P kc ks η pc lv (.int x :: rest) := fun C H locs ls cells slots a1 a2 a3 a4 a5 => lv_if_eq C.1 C.2.1 hdg ht (fun z => kt z C H locs ls cells slots a1 a2 a3 a4 a5) (fun z => kf z C H locs ls cells slots a1 a2 a3 a4 a5)
theorem v_icmp_eq {x y : Int32} {off : Int} {tgt : Nat} (hdg : decode cc pc = .ok (.if_icmp .eq off, 3)) (ht : (pc : Int) + off = (tgt : Int)) (kt : x = y → V G Γ mt cc nL ret tb d P kc ks η tgt lv rest) (kf : ¬ x = y → V G Γ mt cc nL ret tb d P kc ks η (pc + 3) lv rest) : V G Γ mt cc nL ret tb d P kc ks η pc lv (.int y :: .int x :: rest) := fun C H locs ls cells slots a1 a2 a3 a4 a5 => lv_icmp_eq C.1 C.2.1 hdg ht (fun z => kt z C H locs ls cells slots a1 a2 a3 a4 a5) (fun z => kf z C H locs ls cells slots a1 a2 a3 a4 a5)
theorem v_if_ne {x : Int32} {off : Int} {tgt : Nat} (hdg : decode cc pc = .ok (.ifCond .ne off, 3)) (ht : (pc : Int) + off = (tgt : Int)) (kt : ¬ x = 0 → V G Γ mt cc nL ret tb d P kc ks η tgt lv rest) (kf : x = 0 → V G Γ mt cc nL ret tb d P kc ks η (pc + 3) lv rest) : V G Γ mt cc nL ret tb d P kc ks η pc lv (.int x :: rest) := fun C H locs ls cells slots a1 a2 a3 a4 a5 => lv_if_ne C.1 C.2.1 hdg ht (fun z => kt z C H locs ls cells slots a1 a2 a3 a4 a5) (fun z => kf z C H locs ls cells slots a1 a2 a3 a4 a5)
theorem v_icmp_ne {x y : Int32} {off : Int} {tgt : Nat} (hdg : decode cc pc = .ok (.if_icmp .ne off, 3)) (ht : (pc : Int) + off = (tgt : Int)) (kt : ¬ x = y → V G Γ mt cc nL ret tb d P kc ks η tgt lv rest) (kf : x = y → V G Γ mt cc nL ret tb d P kc ks η (pc + 3) lv rest) : V G Γ mt cc nL ret tb d P kc ks η pc lv (.int y :: .int x :: rest) := fun C H locs ls cells slots a1 a2 a3 a4 a5 => lv_icmp_ne C.1 C.2.1 hdg ht (fun z => kt z C H locs ls cells slots a1 a2 a3 a4 a5) (fun z => kf z C H locs ls cells slots a1 a2 a3 a4 a5)
theorem v_if_lt {x : Int32} {off : Int} {tgt : Nat} (hdg : decode cc pc = .ok (.ifCond .lt off, 3)) (ht : (pc : Int) + off = (tgt : Int)) (kt : x < 0 → V G Γ mt cc nL ret tb d P kc ks η tgt lv rest) (kf : ¬ x < 0 → V G Γ mt cc nL ret tb d P kc ks η (pc + 3) lv rest) : V G Γ mt cc nL ret tb d P kc ks η pc lv (.int x :: rest) := fun C H locs ls cells slots a1 a2 a3 a4 a5 => lv_if_lt C.1 C.2.1 hdg ht (fun z => kt z C H locs ls cells slots a1 a2 a3 a4 a5) (fun z => kf z C H locs ls cells slots a1 a2 a3 a4 a5)
theorem v_icmp_lt {x y : Int32} {off : Int} {tgt : Nat} (hdg : decode cc pc = .ok (.if_icmp .lt off, 3)) (ht : (pc : Int) + off = (tgt : Int)) (kt : x < y → V G Γ mt cc nL ret tb d P kc ks η tgt lv rest) (kf : ¬ x < y → V G Γ mt cc nL ret tb d P kc ks η (pc + 3) lv rest) : V G Γ mt cc nL ret tb d P kc ks η pc lv (.int y :: .int x :: rest) := fun C H locs ls cells slots a1 a2 a3 a4 a5 => lv_icmp_lt C.1 C.2.1 hdg ht (fun z => kt z C H locs ls cells slots a1 a2 a3 a4 a5) (fun z => kf z C H locs ls cells slots a1 a2 a3 a4 a5)
theorem v_if_ge {x : Int32} {off : Int} {tgt : Nat} (hdg : decode cc pc = .ok (.ifCond .ge off, 3)) (ht : (pc : Int) + off = (tgt : Int)) (kt : 0 ≤ x → V G Γ mt cc nL ret tb d P kc ks η tgt lv rest) (kf : ¬ 0 ≤ x → V G Γ mt cc nL ret tb d P kc ks η (pc + 3) lv rest) : V G Γ mt cc nL ret tb d P kc ks η pc lv (.int x :: rest) := fun C H locs ls cells slots a1 a2 a3 a4 a5 => lv_if_ge C.1 C.2.1 hdg ht (fun z => kt z C H locs ls cells slots a1 a2 a3 a4 a5) (fun z => kf z C H locs ls cells slots a1 a2 a3 a4 a5)
theorem v_icmp_ge {x y : Int32} {off : Int} {tgt : Nat} (hdg : decode cc pc = .ok (.if_icmp .ge off, 3)) (ht : (pc : Int) + off = (tgt : Int)) (kt : y ≤ x → V G Γ mt cc nL ret tb d P kc ks η tgt lv rest) (kf : ¬ y ≤ x → V G Γ mt cc nL ret tb d P kc ks η (pc + 3) lv rest) : V G Γ mt cc nL ret tb d P kc ks η pc lv (.int y :: .int x :: rest) := fun C H locs ls cells slots a1 a2 a3 a4 a5 => lv_icmp_ge C.1 C.2.1 hdg ht (fun z => kt z C H locs ls cells slots a1 a2 a3 a4 a5) (fun z => kf z C H locs ls cells slots a1 a2 a3 a4 a5)
theorem v_if_gt {x : Int32} {off : Int} {tgt : Nat} (hdg : decode cc pc = .ok (.ifCond .gt off, 3)) (ht : (pc : Int) + off = (tgt : Int)) (kt : 0 < x → V G Γ mt cc nL ret tb d P kc ks η tgt lv rest) (kf : ¬ 0 < x → V G Γ mt cc nL ret tb d P kc ks η (pc + 3) lv rest) : V G Γ mt cc nL ret tb d P kc ks η pc lv (.int x :: rest) := fun C H locs ls cells slots a1 a2 a3 a4 a5 => lv_if_gt C.1 C.2.1 hdg ht (fun z => kt z C H locs ls cells slots a1 a2 a3 a4 a5) (fun z => kf z C H locs ls cells slots a1 a2 a3 a4 a5)
theorem v_icmp_gt {x y : Int32} {off : Int} {tgt : Nat} (hdg : decode cc pc = .ok (.if_icmp .gt off, 3)) (ht : (pc : Int) + off = (tgt : Int)) (kt : y < x → V G Γ mt cc nL ret tb d P kc ks η tgt lv rest) (kf : ¬ y < x → V G Γ mt cc nL ret tb d P kc ks η (pc + 3) lv rest) : V G Γ mt cc nL ret tb d P kc ks η pc lv (.int y :: .int x :: rest) := fun C H locs ls cells slots a1 a2 a3 a4 a5 => lv_icmp_gt C.1 C.2.1 hdg ht (fun z => kt z C H locs ls cells slots a1 a2 a3 a4 a5) (fun z => kf z C H locs ls cells slots a1 a2 a3 a4 a5)
theorem v_if_le {x : Int32} {off : Int} {tgt : Nat} (hdg : decode cc pc = .ok (.ifCond .le off, 3)) (ht : (pc : Int) + off = (tgt : Int)) (kt : x ≤ 0 → V G Γ mt cc nL ret tb d P kc ks η tgt lv rest) (kf : ¬ x ≤ 0 → V G Γ mt cc nL ret tb d P kc ks η (pc + 3) lv rest) : V G Γ mt cc nL ret tb d P kc ks η pc lv (.int x :: rest) := fun C H locs ls cells slots a1 a2 a3 a4 a5 => lv_if_le C.1 C.2.1 hdg ht (fun z => kt z C H locs ls cells slots a1 a2 a3 a4 a5) (fun z => kf z C H locs ls cells slots a1 a2 a3 a4 a5)
theorem v_icmp_le {x y : Int32} {off : Int} {tgt : Nat} (hdg : decode cc pc = .ok (.if_icmp .le off, 3)) (ht : (pc : Int) + off = (tgt : Int)) (kt : x ≤ y → V G Γ mt cc nL ret tb d P kc ks η tgt lv rest) (kf : ¬ x ≤ y → V G Γ mt cc nL ret tb d P kc ks η (pc + 3) lv rest) : V G Γ mt cc nL ret tb d P kc ks η pc lv (.int y :: .int x :: rest) := fun C H locs ls cells slots a1 a2 a3 a4 a5 => lv_icmp_le C.1 C.2.1 hdg ht (fun z => kt z C H locs ls cells slots a1 a2 a3 a4 a5) (fun z => kf z C H locs ls cells slots a1 a2 a3 a4 a5)
theorem v_goto {off : Int} {tgt : Nat} (hdg : decode cc pc = .ok (.goto off, 3)) (ht : (pc : Int) + off = (tgt : Int)) (kk : V G Γ mt cc nL ret tb d P kc ks η tgt lv rest) : V G Γ mt cc nL ret tb d P kc ks η pc lv rest := fun C H locs ls cells slots a1 a2 a3 a4 a5 => lv_goto C.1 C.2.1 hdg ht (kk C H locs ls cells slots a1 a2 a3 a4 a5)
theorem v_ldc {index : Nat} {v : Int32} (hconst : Cond.constant mt.cls index v ∈ lw_all) (hdg : decode cc pc = .ok (.ldc index, 2)) (kk : V G Γ mt cc nL ret tb d P kc ks η (pc + 2) lv (.int v :: rest)) : V G Γ mt cc nL ret tb d P kc ks η pc lv rest := fun C H locs ls cells slots a1 a2 a3 a4 a5 => lv_ldc C.1 C.2.1 C.2.2.2.1 (C.2.2.2.2.1 _ hconst) hdg (kk C H locs ls cells slots a1 a2 a3 a4 a5)
theorem v_ldc2 {index : Nat} {v : Int64} (hconst : Cond.constantLong mt.cls index v ∈ lw_all) (hdg : decode cc pc = .ok (.ldc2_w index, 3)) (kk : V G Γ mt cc nL ret tb d P kc ks η (pc + 3) lv (.long v :: rest)) : V G Γ mt cc nL ret tb d P kc ks η pc lv rest := fun C H locs ls cells slots a1 a2 a3 a4 a5 => lv_ldc2 C.1 C.2.1 C.2.2.2.1 (C.2.2.2.2.1 _ hconst) hdg (kk C H locs ls cells slots a1 a2 a3 a4 a5)
theorem v_ldcw {index : Nat} {v : Int32} (hconst : Cond.constant mt.cls index v ∈ lw_all) (hdg : decode cc pc = .ok (.ldc_w index, 3)) (kk : V G Γ mt cc nL ret tb d P kc ks η (pc + 3) lv (.int v :: rest)) : V G Γ mt cc nL ret tb d P kc ks η pc lv rest := fun C H locs ls cells slots a1 a2 a3 a4 a5 => lv_ldcw C.1 C.2.1 C.2.2.2.1 (C.2.2.2.2.1 _ hconst) hdg (kk C H locs ls cells slots a1 a2 a3 a4 a5)
theorem v_tableOut {dflt lo hi : Int} {offs : Array Int} {len : Nat} {x : Int32} {tgt : Nat} (hdg : decode cc pc = .ok (.tableswitch dflt lo hi offs, len)) (h : x.toInt < lo ∨ hi < x.toInt) (ht : (pc : Int) + dflt = (tgt : Int)) (kk : V G Γ mt cc nL ret tb d P kc ks η tgt lv rest) : V G Γ mt cc nL ret tb d P kc ks η pc lv (.int x :: rest) := fun C H locs ls cells slots a1 a2 a3 a4 a5 => lv_tableOut C.1 C.2.1 hdg h ht (kk C H locs ls cells slots a1 a2 a3 a4 a5)
theorem v_tableIn {dflt lo hi : Int} {offs : Array Int} {len : Nat} {x : Int32} {off : Int} {tgt : Nat} (hdg : decode cc pc = .ok (.tableswitch dflt lo hi offs, len)) (h1 : ¬ x.toInt < lo) (h2 : ¬ hi < x.toInt) (ho : offs[(x.toInt - lo).toNat]? = some off) (ht : (pc : Int) + off = (tgt : Int)) (kk : V G Γ mt cc nL ret tb d P kc ks η tgt lv rest) : V G Γ mt cc nL ret tb d P kc ks η pc lv (.int x :: rest) := fun C H locs ls cells slots a1 a2 a3 a4 a5 => lv_tableIn C.1 C.2.1 hdg h1 h2 ho ht (kk C H locs ls cells slots a1 a2 a3 a4 a5)
theorem v_lookup {dflt : Int} {ps : Array (Int × Int)} {len : Nat} {x : Int32} {off : Int} {tgt : Nat} (hdg : decode cc pc = .ok (.lookupswitch dflt ps, len)) (hp : (ps.toList.zip (ps.toList.drop 1)).all (fun (a, next) => a.1 < next.1) = true) (ho : Op.lookupswitch.offset ps.toList dflt x.toInt = off) (ht : (pc : Int) + off = (tgt : Int)) (kk : V G Γ mt cc nL ret tb d P kc ks η tgt lv rest) : V G Γ mt cc nL ret tb d P kc ks η pc lv (.int x :: rest) := fun C H locs ls cells slots a1 a2 a3 a4 a5 => lv_lookup C.1 C.2.1 hdg hp ho ht (kk C H locs ls cells slots a1 a2 a3 a4 a5)
theorem v_ifnonnull {x : Nat} {off : Int} {tgt : Nat} (hdg : decode cc pc = .ok (.ifnonnull off, 3)) (ht : (pc : Int) + off = (tgt : Int)) (kk : V G Γ mt cc nL ret tb d P kc ks η tgt lv rest) : V G Γ mt cc nL ret tb d P kc ks η pc lv (.ref x :: rest) := fun C H locs ls cells slots a1 a2 a3 a4 a5 => lv_ifnonnull C.1 C.2.1 hdg ht (kk C H locs ls cells slots a1 a2 a3 a4 a5)
theorem v_ifnull {x : Nat} {off : Int} (hdg : decode cc pc = .ok (.ifnull off, 3)) (kk : V G Γ mt cc nL ret tb d P kc ks η (pc + 3) lv rest) : V G Γ mt cc nL ret tb d P kc ks η pc lv (.ref x :: rest) := fun C H locs ls cells slots a1 a2 a3 a4 a5 => lv_ifnull C.1 C.2.1 hdg (kk C H locs ls cells slots a1 a2 a3 a4 a5)
theorem v_null (hdg : decode cc pc = .ok (.aconst_null, 1)) (kk : V G Γ mt cc nL ret tb d P kc ks η (pc + 1) lv (.null :: rest)) : V G Γ mt cc nL ret tb d P kc ks η pc lv rest := fun C H locs ls cells slots a1 a2 a3 a4 a5 => lv_null C.1 C.2.1 hdg (kk C H locs ls cells slots a1 a2 a3 a4 a5)
theorem v_ifnullN {off : Int} {tgt : Nat} (hdg : decode cc pc = .ok (.ifnull off, 3)) (ht : (pc : Int) + off = (tgt : Int)) (kk : V G Γ mt cc nL ret tb d P kc ks η tgt lv rest) : V G Γ mt cc nL ret tb d P kc ks η pc lv (.null :: rest) := fun C H locs ls cells slots a1 a2 a3 a4 a5 => lv_ifnullN C.1 C.2.1 hdg ht (kk C H locs ls cells slots a1 a2 a3 a4 a5)
theorem v_ifnonnullN {off : Int} (hdg : decode cc pc = .ok (.ifnonnull off, 3)) (kk : V G Γ mt cc nL ret tb d P kc ks η (pc + 3) lv rest) : V G Γ mt cc nL ret tb d P kc ks η pc lv (.null :: rest) := fun C H locs ls cells slots a1 a2 a3 a4 a5 => lv_ifnonnullN C.1 C.2.1 hdg (kk C H locs ls cells slots a1 a2 a3 a4 a5)
theorem v_acmp_eq {rx ry : Option Nat} {off : Int} {tgt : Nat} (hdg : decode cc pc = .ok (.if_acmp .eq off, 3)) (ht : (pc : Int) + off = (tgt : Int)) (kt : rx = ry → V G Γ mt cc nL ret tb d P kc ks η tgt lv rest) (kf : ¬ rx = ry → V G Γ mt cc nL ret tb d P kc ks η (pc + 3) lv rest) : V G Γ mt cc nL ret tb d P kc ks η pc lv (va_rf ry :: va_rf rx :: rest) := fun C H locs ls cells slots a1 a2 a3 a4 a5 => lv_acmp_eq C.1 C.2.1 hdg ht (fun z => kt z C H locs ls cells slots a1 a2 a3 a4 a5) (fun z => kf z C H locs ls cells slots a1 a2 a3 a4 a5)
theorem v_acmp_ne {rx ry : Option Nat} {off : Int} {tgt : Nat} (hdg : decode cc pc = .ok (.if_acmp .ne off, 3)) (ht : (pc : Int) + off = (tgt : Int)) (kt : ¬ rx = ry → V G Γ mt cc nL ret tb d P kc ks η tgt lv rest) (kf : rx = ry → V G Γ mt cc nL ret tb d P kc ks η (pc + 3) lv rest) : V G Γ mt cc nL ret tb d P kc ks η pc lv (va_rf ry :: va_rf rx :: rest) := fun C H locs ls cells slots a1 a2 a3 a4 a5 => lv_acmp_ne C.1 C.2.1 hdg ht (fun z => kt z C H locs ls cells slots a1 a2 a3 a4 a5) (fun z => kf z C H locs ls cells slots a1 a2 a3 a4 a5)
theorem v_istore_n {k : Fin 4} {i : Nat} {x : Int32} (hdg : decode cc pc = .ok (.istore_n k, 1)) (hi : (k : Nat) = i) (hn : i < nL) (hl : noL lv i = true) (kk : V G Γ mt cc nL ret tb d P kc ks η (pc + 1) (lv.set i (some (.int x))) (rest)) : V G Γ mt cc nL ret tb d P kc ks η pc lv (.int x :: rest) := fun C H locs ls cells slots a1 a2 a3 a4 a5 => lv_istore_n C.1 C.2.1 hdg hi a3.has hn rfl (fun ls' a3' => kk C H locs ls' cells slots a1 a2 (lo.of a3' (lo_st1 hl)) a4 a5)
theorem v_istore {i : Nat} {x : Int32} (hdg : decode cc pc = .ok (.istore i, 2)) (hn : i < nL) (hl : noL lv i = true) (kk : V G Γ mt cc nL ret tb d P kc ks η (pc + 2) (lv.set i (some (.int x))) (rest)) : V G Γ mt cc nL ret tb d P kc ks η pc lv (.int x :: rest) := fun C H locs ls cells slots a1 a2 a3 a4 a5 => lv_istore C.1 C.2.1 hdg a3.has hn rfl (fun ls' a3' => kk C H locs ls' cells slots a1 a2 (lo.of a3' (lo_st1 hl)) a4 a5)
theorem v_astore_n {k : Fin 4} {i : Nat} {x : Nat} (hdg : decode cc pc = .ok (.astore_n k, 1)) (hi : (k : Nat) = i) (hn : i < nL) (hl : noL lv i = true) (kk : V G Γ mt cc nL ret tb d P kc ks η (pc + 1) (lv.set i (some (.ref x))) (rest)) : V G Γ mt cc nL ret tb d P kc ks η pc lv (.ref x :: rest) := fun C H locs ls cells slots a1 a2 a3 a4 a5 => lv_astore_n C.1 C.2.1 hdg hi a3.has hn rfl (fun ls' a3' => kk C H locs ls' cells slots a1 a2 (lo.of a3' (lo_st1 hl)) a4 a5)
theorem v_astore {i : Nat} {x : Nat} (hdg : decode cc pc = .ok (.astore i, 2)) (hn : i < nL) (hl : noL lv i = true) (kk : V G Γ mt cc nL ret tb d P kc ks η (pc + 2) (lv.set i (some (.ref x))) (rest)) : V G Γ mt cc nL ret tb d P kc ks η pc lv (.ref x :: rest) := fun C H locs ls cells slots a1 a2 a3 a4 a5 => lv_astore C.1 C.2.1 hdg a3.has hn rfl (fun ls' a3' => kk C H locs ls' cells slots a1 a2 (lo.of a3' (lo_st1 hl)) a4 a5)
theorem v_astore_nN {k : Fin 4} {i : Nat} (hdg : decode cc pc = .ok (.astore_n k, 1)) (hi : (k : Nat) = i) (hn : i < nL) (hl : noL lv i = true) (kk : V G Γ mt cc nL ret tb d P kc ks η (pc + 1) (lv.set i (some (.null))) (rest)) : V G Γ mt cc nL ret tb d P kc ks η pc lv (.null :: rest) := fun C H locs ls cells slots a1 a2 a3 a4 a5 => lv_astore_nN C.1 C.2.1 hdg hi a3.has hn rfl (fun ls' a3' => kk C H locs ls' cells slots a1 a2 (lo.of a3' (lo_st1 hl)) a4 a5)
theorem v_astoreN {i : Nat} (hdg : decode cc pc = .ok (.astore i, 2)) (hn : i < nL) (hl : noL lv i = true) (kk : V G Γ mt cc nL ret tb d P kc ks η (pc + 2) (lv.set i (some (.null))) (rest)) : V G Γ mt cc nL ret tb d P kc ks η pc lv (.null :: rest) := fun C H locs ls cells slots a1 a2 a3 a4 a5 => lv_astoreN C.1 C.2.1 hdg a3.has hn rfl (fun ls' a3' => kk C H locs ls' cells slots a1 a2 (lo.of a3' (lo_st1 hl)) a4 a5)
theorem v_lstore_n {k : Fin 4} {i : Nat} {x : Int64} (hdg : decode cc pc = .ok (.lstore_n k, 1)) (hi : (k : Nat) = i) (hn : i + 1 < nL) (hl : noL lv i = true) (kk : V G Γ mt cc nL ret tb d P kc ks η (pc + 1) ((lv.set (i + 1) none).set i (some (.long x))) (rest)) : V G Γ mt cc nL ret tb d P kc ks η pc lv (.long x :: rest) := fun C H locs ls cells slots a1 a2 a3 a4 a5 => lv_lstore_n C.1 C.2.1 hdg hi a3.has hn rfl (fun ls' a3' => kk C H locs ls' cells slots a1 a2 (lo.of a3' (lo_st2 hl)) a4 a5)
theorem v_lstore {i : Nat} {x : Int64} (hdg : decode cc pc = .ok (.lstore i, 2)) (hn : i + 1 < nL) (hl : noL lv i = true) (kk : V G Γ mt cc nL ret tb d P kc ks η (pc + 2) ((lv.set (i + 1) none).set i (some (.long x))) (rest)) : V G Γ mt cc nL ret tb d P kc ks η pc lv (.long x :: rest) := fun C H locs ls cells slots a1 a2 a3 a4 a5 => lv_lstore C.1 C.2.1 hdg a3.has hn rfl (fun ls' a3' => kk C H locs ls' cells slots a1 a2 (lo.of a3' (lo_st2 hl)) a4 a5)
theorem v_lcmp {x y : Int64} (hdg : decode cc pc = .ok (.lcmp, 1)) (kk : V G Γ mt cc nL ret tb d P kc ks η (pc + 1) lv (.int (lg_cmp x y) :: rest)) : V G Γ mt cc nL ret tb d P kc ks η pc lv (.long y :: .long x :: rest) := fun C H locs ls cells slots a1 a2 a3 a4 a5 => W.lcmp C.1 C.2.1 hdg (kk C H locs ls cells slots a1 a2 a3 a4 a5)
theorem v_iinc {i : Nat} {n : Int} {x v : Int32} (hdg : decode cc pc = .ok (.iinc i n, 3)) (hk : lv[i]? = some (some (.int x))) (hv : x + Int32.ofInt n = v) (hn : i < nL) (hl : noL lv i = true) (kk : V G Γ mt cc nL ret tb d P kc ks η (pc + 3) (lv.set i (some (.int v))) rest) : V G Γ mt cc nL ret tb d P kc ks η pc lv rest := fun C H locs ls cells slots a1 a2 a3 a4 a5 => by
  obtain ⟨k, hk2⟩ := List.getElem?_of_mem (lo_mem.mpr hk)
  exact lv_iinc C.1 C.2.1 hdg a3.has hk2 hv hn rfl (fun ls' a3' => kk C H locs ls' cells slots a1 a2 (lo.of a3' (lo_st1 hl)) a4 a5)
/-- a class of the list, with its fields' words and types -/
def Cl (ci : Nat) (C : String) (T : u_T) (N : Nat) (ty : Nat → FieldType) : Prop := vwCl[ci]? = some (C, T, N) ∧ (∀ w ∈ u_ws C T N, w ∈ lw_all) ∧ (∀ k, k < N → parseFieldDescriptor (T k).2.2.1 = some (ty k)) ∧ ∀ a, a < N → ∀ b, b < N → a ≠ b → (T a).2.1 ≠ (T b).2.1
variable {ci N : Nat} {C : String} {T : u_T} {ty : Nat → FieldType} {a : Nat} {o : Option Nat} {ow : Nat} {F : Nat → Value} {index : Nat}
theorem v_get (hη : η a = some (some ow, ob ci F)) (K : Cl ci C T N ty) (k : Nat) (hk : k < N) (hlink : Cond.fieldLink mt.cls index (T k).1 (T k).2.1 (T k).2.2.1 ∈ lw_all) {v : Value} (hv : F k = v) (hdg : decode cc pc = .ok (.getfield index, 3))
    (kk : V G Γ mt cc nL ret tb d P kc ks η (pc + 3) lv (v :: rest)) : V G Γ mt cc nL ret tb d P kc ks η pc lv (.ref a :: rest) := fun Q H locs ls cells slots a1 a2 a3 a4 a5 => by
  obtain ⟨-, r, h1, cell, q1, q2, q3, q4⟩ := (a1 a _ _ hη).1 (by simp)
  have hr : r = (C, T, N) := Option.some.inj (h1.symm.trans K.1)
  subst hr
  obtain ⟨hS, hfc, kC, hkC, hkind⟩ := Q.2.2.2.2.2.1.2.1.1 ci _ K.1
  obtain ⟨cf, kf, fi, f, hi, hsl⟩ := hS k hk
  refine W.getf Q.1 Q.2.1 Q.2.2.2.1 (Q.2.2.2.2.1 _ hlink) hi (u_facts hfc hkC (u_lays Q.2.2.2.2.1 K.2.1 hk) hi).1 q1 (by rw [q3]; exact fun h => by cases h) (v := v) ?_ rfl rfl hdg (kk Q H locs ls cells slots a1 a2 a3 a4 a5)
  rw [hsl, q4 k hk]
  exact congrArg some hv
theorem v_getW (hη : η a = some (o, ob ci F)) (K : Cl ci C T N ty) (k : Nat) (hk : k < N) (hlink : Cond.fieldLink mt.cls index (T k).1 (T k).2.1 (T k).2.2.1 ∈ lw_all) {v : Value} (hv : F k = v) (hne : v.category = 1) (hdg : decode cc pc = .ok (.getfield index, 3))
    (kk : V G Γ mt cc nL ret tb d P kc ks η (pc + 3) lv (v :: rest)) : V G Γ mt cc nL ret tb d P kc ks η pc lv (.ref a :: rest) := fun Q H locs ls cells slots a1 a2 a3 a4 a5 => by
  obtain ⟨r, h1, cell, q1, q2, q3, q5, q4⟩ := (a1 a _ _ hη).2
  have hr : r = (C, T, N) := Option.some.inj (h1.symm.trans K.1)
  subst hr
  obtain ⟨hS, hfc, kC, hkC, hkind⟩ := Q.2.2.2.2.2.1.2.1.1 ci _ K.1
  obtain ⟨cf, kf, fi, f, hi, hsl⟩ := hS k hk
  refine W.getf Q.1 Q.2.1 Q.2.2.2.1 (Q.2.2.2.2.1 _ hlink) hi (u_facts hfc hkC (u_lays Q.2.2.2.2.1 K.2.1 hk) hi).1 q1 q5 (v := v) ?_ rfl rfl hdg (kk Q H locs ls cells slots a1 a2 a3 a4 a5)
  rw [hsl, q4 k hk (by show F k ≠ _; rw [hv]; intro e; rw [e] at hne; cases hne)]
  exact congrArg some hv
theorem v_getN {host : String} (hη : η a = some (some ow, ob ci F)) (K : Cl ci C T N ty) (k : Nat) (hk : k < N) (hlink : Cond.fieldLinkNest mt.cls index (T k).1 (T k).2.1 (T k).2.2.1 host ∈ lw_tbl) {v : Value} (hv : F k = v) (hdg : decode cc pc = .ok (.getfield index, 3))
    (kk : V G Γ mt cc nL ret tb d P kc ks η (pc + 3) lv (v :: rest)) : V G Γ mt cc nL ret tb d P kc ks η pc lv (.ref a :: rest) := fun Q H locs ls cells slots a1 a2 a3 a4 a5 => by
  obtain ⟨-, r, h1, cell, q1, q2, q3, q4⟩ := (a1 a _ _ hη).1 (by simp)
  have hr : r = (C, T, N) := Option.some.inj (h1.symm.trans K.1)
  subst hr
  obtain ⟨hS, hfc, kC, hkC, hkind⟩ := Q.2.2.2.2.2.1.2.1.1 ci _ K.1
  obtain ⟨cf, kf, fi, f, hi, hsl⟩ := hS k hk
  refine va_Wgetf Q.1 Q.2.1 Q.2.2.2.1 (Q.2.2.2.2.2.1.1.use hlink rfl) hi (u_facts hfc hkC (u_lays Q.2.2.2.2.1 K.2.1 hk) hi).1 q1 (by rw [q3]; exact fun h => by cases h) (v := v) ?_ rfl rfl hdg (kk Q H locs ls cells slots a1 a2 a3 a4 a5)
  rw [hsl, q4 k hk]
  exact congrArg some hv
theorem v_getNW {host : String} (hη : η a = some (o, ob ci F)) (K : Cl ci C T N ty) (k : Nat) (hk : k < N) (hlink : Cond.fieldLinkNest mt.cls index (T k).1 (T k).2.1 (T k).2.2.1 host ∈ lw_tbl) {v : Value} (hv : F k = v) (hne : v.category = 1) (hdg : decode cc pc = .ok (.getfield index, 3))
    (kk : V G Γ mt cc nL ret tb d P kc ks η (pc + 3) lv (v :: rest)) : V G Γ mt cc nL ret tb d P kc ks η pc lv (.ref a :: rest) := fun Q H locs ls cells slots a1 a2 a3 a4 a5 => by
  obtain ⟨r, h1, cell, q1, q2, q3, q5, q4⟩ := (a1 a _ _ hη).2
  have hr : r = (C, T, N) := Option.some.inj (h1.symm.trans K.1)
  subst hr
  obtain ⟨hS, hfc, kC, hkC, hkind⟩ := Q.2.2.2.2.2.1.2.1.1 ci _ K.1
  obtain ⟨cf, kf, fi, f, hi, hsl⟩ := hS k hk
  refine va_Wgetf Q.1 Q.2.1 Q.2.2.2.1 (Q.2.2.2.2.2.1.1.use hlink rfl) hi (u_facts hfc hkC (u_lays Q.2.2.2.2.1 K.2.1 hk) hi).1 q1 q5 (v := v) ?_ rfl rfl hdg (kk Q H locs ls cells slots a1 a2 a3 a4 a5)
  rw [hsl, q4 k hk (by show F k ≠ _; rw [hv]; intro e; rw [e] at hne; cases hne)]
  exact congrArg some hv
theorem Cl.apart (K : Cl ci C T N ty) {s : State} {args : Array Value} {D : va_G} (hts : ∀ w ∈ lw_all, w.before args s = true) (hK : Kc D s) : ∀ x y, x < N → y < N → x ≠ y → (D.2 ci) x ≠ (D.2 ci) y := by
  intro x y hx hy hne
  obtain ⟨hS, -⟩ := hK.1 ci _ K.1
  obtain ⟨_, _, _, fa, hia, ea⟩ := hS x hx
  obtain ⟨_, _, _, fb, hib, eb⟩ := hS y hy
  rw [← ea, ← eb]
  refine u_apart (u_lays hts K.2.1 hx) (u_lays hts K.2.1 hy) hia hib ?_
  rw [(State.fieldFound?_type hia (K.2.2.1 x hx)).1, (State.fieldFound?_type hib (K.2.2.1 y hy)).1]
  exact K.2.2.2 x hx y hy hne
theorem v_put (hη : η a = some (some ow, ob ci F)) (K : Cl ci C T N ty) (k : Nat) (hk : k < N) (hlink : Cond.fieldLink mt.cls index (T k).1 (T k).2.1 (T k).2.2.1 ∈ lw_all) (hfin : (T k).2.2.2 = false) {v : Value} (hn : narrow (ty k) v = v) (hf : fits (ty k) v = true) (hdg : decode cc pc = .ok (.putfield index, 3))
    (kk : V G Γ mt cc nL ret tb d P kc ks (up η a (some ow, ob ci (updV F k v))) (pc + 3) lv rest) : V G Γ mt cc nL ret tb d P kc ks η pc lv (v :: .ref a :: rest) := fun Q H locs ls cells slots a1 a2 a3 a4 a5 => by
  obtain ⟨hA, r, h1, cell, q1, q2, q3, q4⟩ := (a1 a _ _ hη).1 (by simp)
  have hr : r = (C, T, N) := Option.some.inj (h1.symm.trans K.1)
  subst hr
  have hap := K.apart Q.2.2.2.2.1 Q.2.2.2.2.2.1.2.1
  obtain ⟨hS, hfc, kC, hkC, hkind⟩ := Q.2.2.2.2.2.1.2.1.1 ci _ K.1
  obtain ⟨cf, kf, fi, f, hi, hsl⟩ := hS k hk
  have hlay := Q.2.2.2.2.1 _ (K.2.1 _ (u_in_lay hk))
  unfold u_lay at hlay
  rw [if_neg (by rw [hfin]; decide)] at hlay
  have hst := (u_facts hfc hkC (u_lays Q.2.2.2.2.1 K.2.1 hk) hi).1
  have h6 := u_store hfc hkC hkind hlay hi (K.2.2.1 k hk) hn hf
  refine W.putK Q.1 Q.2.1 (f := f) ⟨Q.2.2.2.1, Q.2.2.2.2.1 _ hlink, ⟨_, _, _, hi⟩, hst⟩ (by rw [q2]; exact h6) q1 q3 (by rw [hsl]; exact k2_hasslot (q4 k hk)) rfl rfl hdg fun H' e1 e2 e3 => ?_
  rw [hsl] at e1 ⊢
  exact kk Q H' _ ls cells slots (a1.set (fun _ => hA) ⟨_, K.1, ⟨_, e1, q2, q3, t_set q4 hap hk v⟩⟩ e3) (a2.put e2 e3 hA) a3 a4 a5
theorem v_putN {host : String} (hη : η a = some (some ow, ob ci F)) (K : Cl ci C T N ty) (k : Nat) (hk : k < N) (hlink : Cond.fieldLinkNest mt.cls index (T k).1 (T k).2.1 (T k).2.2.1 host ∈ lw_tbl) (hfin : (T k).2.2.2 = false) {v : Value} (hn : narrow (ty k) v = v) (hf : fits (ty k) v = true) (hdg : decode cc pc = .ok (.putfield index, 3))
    (kk : V G Γ mt cc nL ret tb d P kc ks (up η a (some ow, ob ci (updV F k v))) (pc + 3) lv rest) : V G Γ mt cc nL ret tb d P kc ks η pc lv (v :: .ref a :: rest) := fun Q H locs ls cells slots a1 a2 a3 a4 a5 => by
  obtain ⟨hA, r, h1, cell, q1, q2, q3, q4⟩ := (a1 a _ _ hη).1 (by simp)
  have hr : r = (C, T, N) := Option.some.inj (h1.symm.trans K.1)
  subst hr
  have hap := K.apart Q.2.2.2.2.1 Q.2.2.2.2.2.1.2.1
  obtain ⟨hS, hfc, kC, hkC, hkind⟩ := Q.2.2.2.2.2.1.2.1.1 ci _ K.1
  obtain ⟨cf, kf, fi, f, hi, hsl⟩ := hS k hk
  have hlay := Q.2.2.2.2.1 _ (K.2.1 _ (u_in_lay hk))
  unfold u_lay at hlay
  rw [if_neg (by rw [hfin]; decide)] at hlay
  have hst := (u_facts hfc hkC (u_lays Q.2.2.2.2.1 K.2.1 hk) hi).1
  have h6 := u_store hfc hkC hkind hlay hi (K.2.2.1 k hk) hn hf
  refine va_WputK Q.1 Q.2.1 (f := f) Q.2.2.2.1 (Q.2.2.2.2.2.1.1.use hlink rfl) hi hst (by rw [q2]; exact h6) q1 q3 (by rw [hsl]; exact k2_hasslot (q4 k hk)) rfl rfl hdg fun H' e1 e2 e3 => ?_
  rw [hsl] at e1 ⊢
  exact kk Q H' _ ls cells slots (a1.set (fun _ => hA) ⟨_, K.1, ⟨_, e1, q2, q3, t_set q4 hap hk v⟩⟩ e3) (a2.put e2 e3 hA) a3 a4 a5
theorem v_putF (hη : η a = some (some ow, ob ci F)) (K : Cl ci C T N ty) (k : Nat) (hk : k < N) (hlink : Cond.fieldLink mt.cls index (T k).1 (T k).2.1 (T k).2.2.1 ∈ lw_all) (hfin : (T k).2.2.2 = true) (hin : mt.name = "<init>") (hd : (T k).1 = mt.cls) {v : Value} (hn : narrow (ty k) v = v) (hf : fits (ty k) v = true) (hdg : decode cc pc = .ok (.putfield index, 3))
    (kk : V G Γ mt cc nL ret tb d P kc ks (up η a (some ow, ob ci (updV F k v))) (pc + 3) lv rest) : V G Γ mt cc nL ret tb d P kc ks η pc lv (v :: .ref a :: rest) := fun Q H locs ls cells slots a1 a2 a3 a4 a5 => by
  obtain ⟨hA, r, h1, cell, q1, q2, q3, q4⟩ := (a1 a _ _ hη).1 (by simp)
  have hr : r = (C, T, N) := Option.some.inj (h1.symm.trans K.1)
  subst hr
  have hap := K.apart Q.2.2.2.2.1 Q.2.2.2.2.2.1.2.1
  obtain ⟨hS, hfc, kC, hkC, hkind⟩ := Q.2.2.2.2.2.1.2.1.1 ci _ K.1
  obtain ⟨cf, kf, fi, f, hi, hsl⟩ := hS k hk
  have hlay := Q.2.2.2.2.1 _ (K.2.1 _ (u_in_lay hk))
  unfold u_lay at hlay
  rw [if_pos hfin] at hlay
  have hst := (u_facts hfc hkC (u_lays Q.2.2.2.2.1 K.2.1 hk) hi).1
  have hcf : Γ.2.2.2.2.1.cls = cf := by
    obtain ⟨_, _, c', _, _, _, -, -, hf', -, -, -, hown2, -⟩ := Cond.laysFinal_spec hlay
    have e1 : c' = cf := by have := hi.symm.trans hf'; simp at this; exact this.1.symm
    rw [hd] at hown2
    rw [← e1]; exact Option.some.inj (Q.2.2.2.1.symm.trans hown2)
  have h6 := u_fits hfc hkC hkind (Or.inr hlay) hi (K.2.2.1 k hk) hn hf
  refine W.putFinK Q.1 Q.2.1 Q.2.2.2.1 (Q.2.2.2.2.1 _ hlink) hi hst hcf (Q.2.2.2.2.2.2.2.2.2.2.1.trans hin) (by rw [q2]; exact h6) q1 q3 (by rw [hsl]; exact k2_hasslot (q4 k hk)) rfl rfl hdg fun H' e1 e2 e3 => ?_
  rw [hsl] at e1 ⊢
  exact kk Q H' _ ls cells slots (a1.set (fun _ => hA) ⟨_, K.1, ⟨_, e1, q2, q3, t_set q4 hap hk v⟩⟩ e3) (a2.put e2 e3 hA) a3 a4 a5
theorem v_new (K : Cl ci C T N ty) {n kc' ks' : Nat} (hcl : Cond.classLink mt.cls index C ∈ lw_all) (hinst : Cond.instantiable C n ∈ lw_all) (hini : Cond.initialized C ∈ lw_all) (h1 : kc' + 1 ≤ kc) (h2 : ks' + n ≤ ks) (hdg : decode cc pc = .ok (.new index, 3))
    (kk : ∀ q : Nat, η q = none → V G Γ mt cc nL ret tb d P kc' ks' (up η q (some q, ob ci (fun k => defaultValue (ty k)))) (pc + 3) lv (.ref q :: rest)) : V G Γ mt cc nL ret tb d P kc ks η pc lv rest := fun Q H locs ls cells slots a1 a2 a3 a4 a5 => by
  have hKn := Q.2.2.2.2.2.1.2.1.1 ci _ K.1
  refine W.newcK Q.1 Q.2.1 Q.2.2.2.1 (Q.2.2.2.2.1 _ hcl) (Q.2.2.2.2.1 _ hinst) (Q.2.2.2.2.1 _ hini) rfl hdg (by omega) (by omega) hKn.2.1 rfl fun H1 kC hkC e1 z1 o1 => ?_
  have hz : G.2.2.1 ≤ H.size := Nat.le_trans Q.2.2.2.2.2.1.2.2.1 a2.1
  refine kk H.size (a1.fresh (Nat.le_refl _)) Q H1 locs ls _ _ ?_ ⟨Nat.le_trans a2.1 (by omega), fun x h1 h2 => (o1 x (Nat.lt_of_lt_of_le h1 a2.1)).trans (a2.2.1 x h1 h2), a2.2.2⟩ a3 (by omega) (by omega)
  intro b ob' e' hb
  by_cases hq : b = H.size
  · subst hq
    rw [up_s] at hb
    cases hb
    have hca : ca G.2.1 H.size (ob ci (fun k => defaultValue (ty k))) H1 := ⟨_, K.1, u_born ty Q.2.2.2.2.1 K.2.1 hKn hkC e1 K.2.2.1⟩
    exact ⟨fun _ => ⟨hz, hca⟩, hca.weak⟩
  · rw [up_n hq] at hb
    exact a1.kep hb (o1 b (a1 b _ _ hb).2.lt)
/-- what an array of a kind holds when it is made -/
def a0 (k : Nat) : (Nat → Int32) ⊕ (Nat → Int64) ⊕ (Nat → Option Nat) := match k with
  | 0 => .inl fun _ => 0
  | 1 => .inr (.inl fun _ => 0)
  | 2 => .inl fun _ => 0
  | 3 => .inl fun _ => 0
  | 4 => .inl fun _ => 0
  | _ => .inr (.inr fun _ => none)
theorem a0_ok : ∀ k, k < 10 → avf (a0 k) = fun _ => defaultValue (ak k)
  | 0, _ => rfl
  | 1, _ => rfl
  | 2, _ => rfl
  | 3, _ => rfl
  | 4, _ => rfl
  | 5, _ => rfl
  | 6, _ => rfl
  | 7, _ => rfl
  | 8, _ => rfl
  | 9, _ => rfl
  | k + 10, h => absurd h (by omega)
theorem v_newa (k n : Nat) {x : Int32} {kc' ks' : Nat} {atype : ArrayType} (hx : x = nI n) (hk : k < 10) (hty : newarray.typeOf atype = ak k) (harr : Cond.arrayClass (ak k) ∈ lw_all) (hb : n * componentBytes (ak k) ≤ 536870912) (hn : n < 2147483648) (h1 : kc' + 1 ≤ kc) (h2 : ks' + n ≤ ks) (hdg : decode cc pc = .ok (.newarray atype, 2))
    (kk : ∀ q : Nat, η q = none → V G Γ mt cc nL ret tb d P kc' ks' (up η q (some q, .inl (k, n, a0 k))) (pc + 2) lv (.ref q :: rest)) : V G Γ mt cc nL ret tb d P kc ks η pc lv (.int x :: rest) := fun Q H locs ls cells slots a1 a2 a3 a4 a5 => by
  subst hx
  have hN : (nI n).toNatClampNeg = n := nI_clamp hn
  refine va_newaK Q.1 Q.2.1 (atype := atype) (by rw [hty]; exact Q.2.2.2.2.1 _ harr) rfl hdg rfl (nI_pos hn) hN (by rw [hty]; exact hb) (by omega) (by omega) rfl fun H1 cA e1 z1 o1 hAr hNm => ?_
  have hz : G.2.2.1 ≤ H.size := Nat.le_trans Q.2.2.2.2.2.1.2.2.1 a2.1
  rw [hty] at e1 hNm
  have hcA : cA = G.2.1.1 (100 + k) := Option.some.inj (hNm.symm.trans (Q.2.2.2.2.2.1.2.1.2 k hk).2)
  subst hcA
  refine kk H.size (a1.fresh (Nat.le_refl _)) Q H1 locs ls _ _ ?_ ⟨Nat.le_trans a2.1 (by omega), fun x h1 h2 => (o1 x (Nat.lt_of_lt_of_le h1 a2.1)).trans (a2.2.1 x h1 h2), a2.2.2⟩ a3 (by omega) (by omega)
  intro b ob' e' hb
  by_cases hq : b = H.size
  · subst hq
    rw [up_s] at hb
    cases hb
    have hca : ca G.2.1 H.size (.inl (k, n, a0 k)) H1 := by
      show H1[H.size]? = some (arrV _ _ (avf (a0 k)))
      rw [a0_ok k hk]
      exact e1
    exact ⟨fun _ => ⟨hz, hca⟩, hca.weak⟩
  · rw [up_n hq] at hb
    exact a1.kep hb (o1 b (a1 b _ _ hb).2.lt)
theorem v_iald {n : Nat} {f : Nat → Int32} {i : Int32} (hη : η a = some (o, aI n f)) (hin : vp_in i n) (hdg : decode cc pc = .ok (.iaload, 1)) (kk : V G Γ mt cc nL ret tb d P kc ks η (pc + 1) lv (.int (f i.toNatClampNeg) :: rest)) : V G Γ mt cc nL ret tb d P kc ks η pc lv (.int i :: .ref a :: rest) := fun Q H locs ls cells slots a1 a2 a3 a4 a5 => by
  have hlt : i.toNatClampNeg < n := Nat.not_le.mp fun q => hin (Or.inr q)
  obtain ⟨cell, g1, g2, g3, g4, g5, g6⟩ := (a1 a _ _ hη).2.arr Q.2.2.2.2.2.1.2.1 (show 0 < 10 by decide)
  exact W.iald (v := .int (f i.toNatClampNeg)) Q.1 Q.2.1 g1 g2 g3 (fun q => hin (q.imp id (fun w => Nat.le_trans g4 w))) (g6 _ hlt) rfl rfl hdg (kk Q H locs ls cells slots a1 a2 a3 a4 a5)
theorem v_bald {n : Nat} {f : Nat → Int32} {i : Int32} (hη : η a = some (o, aB n f)) (hin : vp_in i n) (hdg : decode cc pc = .ok (.baload, 1)) (kk : V G Γ mt cc nL ret tb d P kc ks η (pc + 1) lv (.int (f i.toNatClampNeg) :: rest)) : V G Γ mt cc nL ret tb d P kc ks η pc lv (.int i :: .ref a :: rest) := fun Q H locs ls cells slots a1 a2 a3 a4 a5 => by
  have hlt : i.toNatClampNeg < n := Nat.not_le.mp fun q => hin (Or.inr q)
  obtain ⟨cell, g1, g2, g3, g4, g5, g6⟩ := (a1 a _ _ hη).2.arr Q.2.2.2.2.2.1.2.1 (show 2 < 10 by decide)
  exact W.bald (v := .int (f i.toNatClampNeg)) Q.1 Q.2.1 g1 g2 g3 (fun q => hin (q.imp id (fun w => Nat.le_trans g4 w))) (g6 _ hlt) rfl rfl hdg (kk Q H locs ls cells slots a1 a2 a3 a4 a5)
theorem v_zald {n : Nat} {f : Nat → Int32} {i : Int32} (hη : η a = some (o, aZ n f)) (hin : vp_in i n) (hdg : decode cc pc = .ok (.baload, 1)) (kk : V G Γ mt cc nL ret tb d P kc ks η (pc + 1) lv (.int (f i.toNatClampNeg) :: rest)) : V G Γ mt cc nL ret tb d P kc ks η pc lv (.int i :: .ref a :: rest) := fun Q H locs ls cells slots a1 a2 a3 a4 a5 => by
  have hlt : i.toNatClampNeg < n := Nat.not_le.mp fun q => hin (Or.inr q)
  obtain ⟨cell, g1, g2, g3, g4, g5, g6⟩ := (a1 a _ _ hη).2.arr Q.2.2.2.2.2.1.2.1 (show 3 < 10 by decide)
  exact W.zald (v := .int (f i.toNatClampNeg)) Q.1 Q.2.1 g1 g2 g3 (fun q => hin (q.imp id (fun w => Nat.le_trans g4 w))) (g6 _ hlt) rfl rfl hdg (kk Q H locs ls cells slots a1 a2 a3 a4 a5)
theorem v_sald {n : Nat} {f : Nat → Int32} {i : Int32} (hη : η a = some (o, aS n f)) (hin : vp_in i n) (hdg : decode cc pc = .ok (.saload, 1)) (kk : V G Γ mt cc nL ret tb d P kc ks η (pc + 1) lv (.int (f i.toNatClampNeg) :: rest)) : V G Γ mt cc nL ret tb d P kc ks η pc lv (.int i :: .ref a :: rest) := fun Q H locs ls cells slots a1 a2 a3 a4 a5 => by
  have hlt : i.toNatClampNeg < n := Nat.not_le.mp fun q => hin (Or.inr q)
  obtain ⟨cell, g1, g2, g3, g4, g5, g6⟩ := (a1 a _ _ hη).2.arr Q.2.2.2.2.2.1.2.1 (show 4 < 10 by decide)
  exact W.sald (v := .int (f i.toNatClampNeg)) Q.1 Q.2.1 g1 g2 g3 (fun q => hin (q.imp id (fun w => Nat.le_trans g4 w))) (g6 _ hlt) rfl rfl hdg (kk Q H locs ls cells slots a1 a2 a3 a4 a5)
theorem v_lald {n : Nat} {f : Nat → Int64} {i : Int32} (hη : η a = some (o, aL n f)) (hin : vp_in i n) (hdg : decode cc pc = .ok (.laload, 1)) (kk : V G Γ mt cc nL ret tb d P kc ks η (pc + 1) lv (.long (f i.toNatClampNeg) :: rest)) : V G Γ mt cc nL ret tb d P kc ks η pc lv (.int i :: .ref a :: rest) := fun Q H locs ls cells slots a1 a2 a3 a4 a5 => by
  have hlt : i.toNatClampNeg < n := Nat.not_le.mp fun q => hin (Or.inr q)
  obtain ⟨cell, g1, g2, g3, g4, g5, g6⟩ := (a1 a _ _ hη).2.arr Q.2.2.2.2.2.1.2.1 (show 1 < 10 by decide)
  exact W.lald (v := .long (f i.toNatClampNeg)) Q.1 Q.2.1 g1 g2 g3 (fun q => hin (q.imp id (fun w => Nat.le_trans g4 w))) (g6 _ hlt) rfl rfl hdg (kk Q H locs ls cells slots a1 a2 a3 a4 a5)
theorem v_iast {n : Nat} {f : Nat → Int32} {i : Int32} {x : Int32} (hη : η a = some (some ow, aI n f)) (hin : vp_in i n) (hdg : decode cc pc = .ok (.iastore, 1)) (kk : V G Γ mt cc nL ret tb d P kc ks (up η a (some ow, aI n (upd f i.toNatClampNeg x))) (pc + 1) lv rest) : V G Γ mt cc nL ret tb d P kc ks η pc lv (.int x :: .int i :: .ref a :: rest) := fun Q H locs ls cells slots a1 a2 a3 a4 a5 => by
  have hA := ((a1 a _ _ hη).1 (by simp)).1
  refine W.iast Q.1 Q.2.1 ((a1 a _ _ hη).1 (by simp)).2 ((Q.2.2.2.2.2.1.2.1.2 0 (by decide)).1 n (fun j => .int (f j))) (fun q => by cases q) (by show ¬ (i < 0 ∨ (arrV _ _ _).slots.size ≤ _); rw [arrV_size]; exact hin) rfl rfl hdg fun H1 e z oq => ?_
  refine kk Q H1 _ ls cells slots (a1.set (fun _ => hA) ?_ oq) (a2.put z oq hA) a3 a4 a5
  show H1[a]? = some (arrV _ _ _)
  rw [e]
  show some ((arrV _ _ _).setSlot _ _) = _
  rw [arrV_store]
  congr 2
  funext q
  by_cases hq : q = i.toNatClampNeg
  · subst hq
    simp [updV, upd, avf]
  · simp [updV, upd, avf, hq]
theorem v_bast {n : Nat} {f : Nat → Int32} {i : Int32} {x : Int32} (hη : η a = some (some ow, aB n f)) (hin : vp_in i n) (hn : narrow .byte (.int x) = .int x) (hdg : decode cc pc = .ok (.bastore, 1)) (kk : V G Γ mt cc nL ret tb d P kc ks (up η a (some ow, aB n (upd f i.toNatClampNeg x))) (pc + 1) lv rest) : V G Γ mt cc nL ret tb d P kc ks η pc lv (.int x :: .int i :: .ref a :: rest) := fun Q H locs ls cells slots a1 a2 a3 a4 a5 => by
  have hA := ((a1 a _ _ hη).1 (by simp)).1
  refine W.bast Q.1 Q.2.1 ((a1 a _ _ hη).1 (by simp)).2 ((Q.2.2.2.2.2.1.2.1.2 2 (by decide)).1 n (fun j => .int (f j))) (fun q => by cases q) (by show ¬ (i < 0 ∨ (arrV _ _ _).slots.size ≤ _); rw [arrV_size]; exact hin) rfl rfl hdg fun H1 e z oq => ?_
  rw [hn] at e
  refine kk Q H1 _ ls cells slots (a1.set (fun _ => hA) ?_ oq) (a2.put z oq hA) a3 a4 a5
  show H1[a]? = some (arrV _ _ _)
  rw [e]
  show some ((arrV _ _ _).setSlot _ _) = _
  rw [arrV_store]
  congr 2
  funext q
  by_cases hq : q = i.toNatClampNeg
  · subst hq
    simp [updV, upd, avf]
  · simp [updV, upd, avf, hq]
theorem v_zast {n : Nat} {f : Nat → Int32} {i : Int32} {x : Int32} (hη : η a = some (some ow, aZ n f)) (hin : vp_in i n) (hn : narrow .boolean (.int x) = .int x) (hdg : decode cc pc = .ok (.bastore, 1)) (kk : V G Γ mt cc nL ret tb d P kc ks (up η a (some ow, aZ n (upd f i.toNatClampNeg x))) (pc + 1) lv rest) : V G Γ mt cc nL ret tb d P kc ks η pc lv (.int x :: .int i :: .ref a :: rest) := fun Q H locs ls cells slots a1 a2 a3 a4 a5 => by
  have hA := ((a1 a _ _ hη).1 (by simp)).1
  refine W.zast Q.1 Q.2.1 ((a1 a _ _ hη).1 (by simp)).2 ((Q.2.2.2.2.2.1.2.1.2 3 (by decide)).1 n (fun j => .int (f j))) (fun q => by cases q) (by show ¬ (i < 0 ∨ (arrV _ _ _).slots.size ≤ _); rw [arrV_size]; exact hin) rfl rfl hdg fun H1 e z oq => ?_
  rw [hn] at e
  refine kk Q H1 _ ls cells slots (a1.set (fun _ => hA) ?_ oq) (a2.put z oq hA) a3 a4 a5
  show H1[a]? = some (arrV _ _ _)
  rw [e]
  show some ((arrV _ _ _).setSlot _ _) = _
  rw [arrV_store]
  congr 2
  funext q
  by_cases hq : q = i.toNatClampNeg
  · subst hq
    simp [updV, upd, avf]
  · simp [updV, upd, avf, hq]
theorem v_sast {n : Nat} {f : Nat → Int32} {i : Int32} {x : Int32} (hη : η a = some (some ow, aS n f)) (hin : vp_in i n) (hn : narrow .short (.int x) = .int x) (hdg : decode cc pc = .ok (.sastore, 1)) (kk : V G Γ mt cc nL ret tb d P kc ks (up η a (some ow, aS n (upd f i.toNatClampNeg x))) (pc + 1) lv rest) : V G Γ mt cc nL ret tb d P kc ks η pc lv (.int x :: .int i :: .ref a :: rest) := fun Q H locs ls cells slots a1 a2 a3 a4 a5 => by
  have hA := ((a1 a _ _ hη).1 (by simp)).1
  refine W.sast Q.1 Q.2.1 ((a1 a _ _ hη).1 (by simp)).2 ((Q.2.2.2.2.2.1.2.1.2 4 (by decide)).1 n (fun j => .int (f j))) (fun q => by cases q) (by show ¬ (i < 0 ∨ (arrV _ _ _).slots.size ≤ _); rw [arrV_size]; exact hin) rfl rfl hdg fun H1 e z oq => ?_
  rw [hn] at e
  refine kk Q H1 _ ls cells slots (a1.set (fun _ => hA) ?_ oq) (a2.put z oq hA) a3 a4 a5
  show H1[a]? = some (arrV _ _ _)
  rw [e]
  show some ((arrV _ _ _).setSlot _ _) = _
  rw [arrV_store]
  congr 2
  funext q
  by_cases hq : q = i.toNatClampNeg
  · subst hq
    simp [updV, upd, avf]
  · simp [updV, upd, avf, hq]
theorem v_last {n : Nat} {f : Nat → Int64} {i : Int32} {x : Int64} (hη : η a = some (some ow, aL n f)) (hin : vp_in i n) (hdg : decode cc pc = .ok (.lastore, 1)) (kk : V G Γ mt cc nL ret tb d P kc ks (up η a (some ow, aL n (vp_updL f i.toNatClampNeg x))) (pc + 1) lv rest) : V G Γ mt cc nL ret tb d P kc ks η pc lv (.long x :: .int i :: .ref a :: rest) := fun Q H locs ls cells slots a1 a2 a3 a4 a5 => by
  have hA := ((a1 a _ _ hη).1 (by simp)).1
  refine W.last Q.1 Q.2.1 ((a1 a _ _ hη).1 (by simp)).2 ((Q.2.2.2.2.2.1.2.1.2 1 (by decide)).1 n (fun j => .long (f j))) (fun q => by cases q) (by show ¬ (i < 0 ∨ (arrV _ _ _).slots.size ≤ _); rw [arrV_size]; exact hin) rfl rfl hdg fun H1 e z oq => ?_
  refine kk Q H1 _ ls cells slots (a1.set (fun _ => hA) ?_ oq) (a2.put z oq hA) a3 a4 a5
  show H1[a]? = some (arrV _ _ _)
  rw [e]
  show some ((arrV _ _ _).setSlot _ _) = _
  rw [arrV_store]
  congr 2
  funext q
  by_cases hq : q = i.toNatClampNeg
  · subst hq
    simp [updV, vp_updL, avf]
  · simp [updV, vp_updL, avf, hq]
theorem v_alen {k n : Nat} {x : (Nat → Int32) ⊕ (Nat → Int64) ⊕ (Nat → Option Nat)} (hη : η a = some (o, .inl (k, n, x))) (hk : k < 10) (hdg : decode cc pc = .ok (.arraylength, 1)) (kk : V G Γ mt cc nL ret tb d P kc ks η (pc + 1) lv (.int (nI n) :: rest)) : V G Γ mt cc nL ret tb d P kc ks η pc lv (.ref a :: rest) := fun Q H locs ls cells slots a1 a2 a3 a4 a5 => by
  obtain ⟨cell, g1, g2, g3, g4, g5, g6⟩ := (a1 a _ _ hη).2.arr Q.2.2.2.2.2.1.2.1 hk
  exact W.alen Q.1 Q.2.1 g1 g2 g5 rfl rfl hdg (kk Q H locs ls cells slots a1 a2 a3 a4 a5)
theorem v_aald {k n : Nat} {f : Nat → Option Nat} {i : Int32} (hη : η a = some (o, aR k n f)) (hk : 5 ≤ k ∧ k < 10) (hin : vp_in i n) {v : Value} (hv : va_rf (f i.toNatClampNeg) = v) (hdg : decode cc pc = .ok (.aaload, 1)) (kk : V G Γ mt cc nL ret tb d P kc ks η (pc + 1) lv (v :: rest)) : V G Γ mt cc nL ret tb d P kc ks η pc lv (.int i :: .ref a :: rest) := fun Q H locs ls cells slots a1 a2 a3 a4 a5 => by
  have hlt : i.toNatClampNeg < n := Nat.not_le.mp fun q => hin (Or.inr q)
  have hr : (ak k).isReference = true := by
    obtain ⟨h1, h2⟩ := hk
    rcases (show k = 5 ∨ k = 6 ∨ k = 7 ∨ k = 8 ∨ k = 9 by omega) with rfl | rfl | rfl | rfl | rfl <;> rfl
  obtain ⟨cell, g1, g2, g3, g4, g5, g6⟩ := (a1 a _ _ hη).2.arr Q.2.2.2.2.2.1.2.1 hk.2
  exact W.aald (v := v) (ty := ak k) Q.1 Q.2.1 g1 g2 hr g3 (fun q => hin (q.imp id (fun w => Nat.le_trans g4 w))) ((g6 _ hlt).trans (congrArg some hv)) rfl rfl hdg (kk Q H locs ls cells slots a1 a2 a3 a4 a5)
theorem v_ret {v : Option Value} {st : List Value} (w : ∀ (H : Heap) (locs : List Loc) (ls : Array Slot), Cx G Γ mt cc nL ret tb d → (∀ t : State, t.heap = H → Γ.2.2.2.1.WarmedH t.vm → Qo G P Γ.2.2.2.2.2.1 Γ.2.2.2.1 (.returned v) t) → (∀ q ∈ locs, Ar G q.base) → W Γ.1 G.1 Γ.2.1 Γ.2.2.1 Γ.2.2.2.1 Γ.2.2.2.2.1 Γ.2.2.2.2.2.1 Γ.2.2.2.2.2.2.1 Γ.2.2.2.2.2.2.2.1 Γ.2.2.2.2.2.2.2.2 H locs Γ.2.2.1.cells Γ.2.2.1.slots (MQ Γ.2.2.2.2.2.2.1 (Qo G P) Γ.2.2.2.2.2.1 Γ.2.2.2.1 Γ.2.2.1.cells Γ.2.2.1.slots (Ar G)) (F0 Γ.2.2.2.2.1 pc ls st)) (h : P (.inl v) η) : V G Γ mt cc nL ret tb d P kc ks η pc lv st := fun Q H locs ls cells slots a1 a2 a3 a4 a5 =>
  W.widen (k := Γ.2.2.1.cells) (n := Γ.2.2.1.slots) (by omega) (by omega) (vx_ret (w H locs ls Q (fun t ht hW => ⟨v, η, rfl, h, by rw [ht]; exact a1, a2.F ht⟩) a2.2.2))
theorem v_iret {x : Int32} (hr : ret = some .int) (hdg : decode cc pc = .ok (.ireturn, 1)) (h : P (.inl (some (.int x))) η) : V G Γ mt cc nL ret tb d P kc ks η pc lv [.int x] := v_ret (fun H locs ls Q hq hf => W.iret Q.1 Q.2.1 (Q.2.2.2.2.2.2.2.2.2.1.trans hr) hq hf hdg Q.2.2.2.2.2.2.1) h
theorem v_zret {x : Int32} {t : FieldType} (hr : ret = some t) (hn : narrow t (.int x) = .int x) (hdg : decode cc pc = .ok (.ireturn, 1)) (h : P (.inl (some (.int x))) η) : V G Γ mt cc nL ret tb d P kc ks η pc lv [.int x] := v_ret (fun H locs ls Q hq hf => W.zret Q.1 Q.2.1 (Q.2.2.2.2.2.2.2.2.2.1.trans hr) hn hq hf hdg Q.2.2.2.2.2.2.1) h
theorem v_lret {x : Int64} (hr : ret = some .long) (hdg : decode cc pc = .ok (.lreturn, 1)) (h : P (.inl (some (.long x))) η) : V G Γ mt cc nL ret tb d P kc ks η pc lv [.long x] := v_ret (fun H locs ls Q hq hf => W.lret Q.1 Q.2.1 (Q.2.2.2.2.2.2.2.2.2.1.trans hr) hq hf hdg Q.2.2.2.2.2.2.1) h
theorem v_vret (hr : ret = none) (hdg : decode cc pc = .ok (.return_, 1)) (h : P (.inl none) η) : V G Γ mt cc nL ret tb d P kc ks η pc lv [] := v_ret (fun H locs ls Q hq hf => W.vret Q.1 Q.2.1 (Q.2.2.2.2.2.2.2.2.2.1.trans hr) hq hf hdg Q.2.2.2.2.2.2.1) h
theorem v_aret {x : Nat} {t : FieldType} (hr : ret = some t) (ht : (∃ n, t = .object n) ∨ ∃ t', t = .array t') (hdg : decode cc pc = .ok (.areturn, 1)) (h : P (.inl (some (.ref x))) η) : V G Γ mt cc nL ret tb d P kc ks η pc lv [.ref x] := v_ret (fun H locs ls Q hq hf => W.aret Q.1 Q.2.1 (Q.2.2.2.2.2.2.2.2.2.1.trans hr) ht (Or.inr ⟨_, rfl⟩) hq hf hdg Q.2.2.2.2.2.2.1) h
theorem v_aretN {t : FieldType} (hr : ret = some t) (ht : (∃ n, t = .object n) ∨ ∃ t', t = .array t') (hdg : decode cc pc = .ok (.areturn, 1)) (h : P (.inl (some .null)) η) : V G Γ mt cc nL ret tb d P kc ks η pc lv [.null] := v_ret (fun H locs ls Q hq hf => W.aret Q.1 Q.2.1 (Q.2.2.2.2.2.2.2.2.2.1.trans hr) ht (Or.inl rfl) hq hf hdg Q.2.2.2.2.2.2.1) h
/-- q, of the class E, is thrown over the frame at pc -/
def VX (G : Gl) (Γ : Fx) (mt : MethodName) (cc : ByteArray) (nL : Nat) (ret : Option FieldType) (tb : List ExceptionTableEntry) (d : Nat) (P : Rs → AH → Prop) (kc ks : Nat) (η : AH) (pc : Nat) (lv : List (Option Value)) (st : List Value) (E : String) (q : Nat) : Prop :=
  Cx G Γ mt cc nL ret tb d → ∀ (H : Heap) (locs : List Loc) (ls : Array Slot) (cells slots : Nat) (ce : Cell), hp G η H → va_S (Ar G) Γ.2.2.2.1.heap H locs → lo ls nL lv → cells + kc ≤ Γ.2.2.1.cells → slots + ks ≤ Γ.2.2.1.slots → H[q]? = some ce → ce.vm = .none → Γ.2.2.2.1.vm.findClass E = some ce.cls →
    vx_W Γ.1 G.1 Γ.2.1 Γ.2.2.1 Γ.2.2.2.1 Γ.2.2.2.2.1 Γ.2.2.2.2.2.1 Γ.2.2.2.2.2.2.1 Γ.2.2.2.2.2.2.2.1 Γ.2.2.2.2.2.2.2.2 H locs cells slots (vx_MQ Γ.2.2.2.2.2.2.1 (Qo G P) (Xo G P) Γ.2.2.2.2.2.1 Γ.2.2.2.1 Γ.2.2.1.cells Γ.2.2.1.slots (Ar G)) (F0 Γ.2.2.2.2.1 pc ls st) q
theorem v_out {E : String} {q : Nat} (h : P (.inr (E, q)) η) : VX G Γ mt cc nL ret [] d P kc ks η pc lv rest E q := fun Q H locs ls cells slots ce a1 a2 a3 a4 a5 a6 a7 a8 =>
  vx_out (by rw [Q.2.2.2.2.2.2.2.2.2.2.2]; intro x hx; cases hx) Q.2.2.2.2.2.2.1 a6 a7 a8 (fun t ht hW => ⟨η, h, by rw [ht]; exact a1, a2.F ht⟩) a2.2.2 (by omega) (by omega)
/-- a method's name is no handle's, and it takes n arguments -/
def Mi (y : MethodName) (n : Nat) : Prop := y.cls ≠ "java/lang/invoke/MethodHandle" ∧ y.cls ≠ "java/lang/invoke/VarHandle" ∧ (parseMethodDescriptor y.desc).map (fun d => d.parameters.length) = some n
/-- the receiver's cell -/
theorem hp.recv {s : State} {H : Heap} (h : hp G η H) (hK : Kc G.2.1 s) (K : Cl ci C T N ty) (hη : η a = some (o, ob ci F)) : ∃ cell : Cell, H[a]? = some cell ∧ cell.vm.isStatics = false ∧ s.vm.findClass C = some cell.cls := by
  obtain ⟨r, h1, cell, q1, q2, q3, q5, q4⟩ := (h a _ _ hη).2
  exact ⟨cell, q1, q3, by rw [q2]; exact (hK.1 ci _ K.1).2.1⟩
variable {y : MethodName} {cy : ByteArray} {nY dy mc ms n kc' ks' : Nat} {rY : Option FieldType} {As st0 : List Value} {P' : Rs → AH → Prop}
theorem v_run (hr : Cx G Γ mt cc nL ret tb d → ∀ (H : Heap) (locs : List Loc) (ls : Array Slot) (cells slots : Nat), hp G η H → va_S (Ar G) Γ.2.2.2.1.heap H locs → lo ls nL lv → cells + mc ≤ Γ.2.2.1.cells → slots + ms ≤ Γ.2.2.1.slots → ∃ av, vx_Run Γ.1 G.1 Γ.2.1 Γ.2.2.1 Γ.2.2.2.1 Γ.2.2.2.2.1 Γ.2.2.2.2.2.1 Γ.2.2.2.2.2.2.1 Γ.2.2.2.2.2.2.2.1 Γ.2.2.2.2.2.2.2.2 H locs cells slots mc ms (F0 Γ.2.2.2.2.1 pc ls st0) rest (Qo G P' av) (Xo G P') (Ar G))
    (h1 : kc' + mc ≤ kc) (h2 : ks' + ms ≤ ks) (kr : ∀ v η', P' (.inl v) η' → V G Γ mt cc nL ret tb d P kc' ks' η' (pc + 3) lv (v.toList ++ rest)) (kx : ∀ E q η', P' (.inr (E, q)) η' → VX G Γ mt cc nL ret tb d P kc' ks' η' pc lv rest E q) : V G Γ mt cc nL ret tb d P kc ks η pc lv st0 := fun Q H locs ls cells slots a1 a2 a3 a4 a5 => by
  intro S hT X
  obtain ⟨av, hr⟩ := hr Q H locs ls cells slots a1 a2 a3 (by omega) (by omega)
  rcases hr S hT X with ⟨v, st₀, t, S', L, h0, X', hL, e1, e2, ⟨v', η', hv, hP, hh, hF⟩, st⟩ | ⟨q, st₀, t, S', L, E, ce, h0, X', hL, e1, e2, ⟨η', hP, hh, hF⟩, hce, hcv, hcl, st⟩
  · cases hv
    obtain ⟨k1, k2, k3⟩ := vx_keep h0 e1 a2 (fun _ _ h => h) (fun _ h => h) hL hF
    obtain ⟨t2, s2, q2⟩ := kr v η' hP Q S'.heap (locs ++ L) ls (cells + mc) (slots + ms) (by rw [e1]; exact hh) k3 a3 (by omega) (by omega) S' rfl X'
    exact ⟨t2, st t2 s2, q2⟩
  · obtain ⟨k1, k2, k3⟩ := vx_keep h0 e1 a2 (fun _ _ h => h) (fun _ h => h) hL hF
    obtain ⟨t2, s2, q2⟩ := kx E q η' hP Q S'.heap (locs ++ L) ls (cells + mc) (slots + ms) ce (by rw [e1]; exact hh) k3 a3 (by omega) (by omega) (by rw [e1]; exact hce) hcv hcl S' rfl X'
    exact ⟨t2, st.trans s2, q2⟩
theorem v_run5 (hr : Cx G Γ mt cc nL ret tb d → ∀ (H : Heap) (locs : List Loc) (ls : Array Slot) (cells slots : Nat), hp G η H → va_S (Ar G) Γ.2.2.2.1.heap H locs → lo ls nL lv → cells + mc ≤ Γ.2.2.1.cells → slots + ms ≤ Γ.2.2.1.slots → ∃ av, vx_Run5 Γ.1 G.1 Γ.2.1 Γ.2.2.1 Γ.2.2.2.1 Γ.2.2.2.2.1 Γ.2.2.2.2.2.1 Γ.2.2.2.2.2.2.1 Γ.2.2.2.2.2.2.2.1 Γ.2.2.2.2.2.2.2.2 H locs cells slots mc ms (F0 Γ.2.2.2.2.1 pc ls st0) rest (Qo G P' av) (Xo G P') (Ar G))
    (h1 : kc' + mc ≤ kc) (h2 : ks' + ms ≤ ks) (kr : ∀ v η', P' (.inl v) η' → V G Γ mt cc nL ret tb d P kc' ks' η' (pc + 5) lv (v.toList ++ rest)) (kx : ∀ E q η', P' (.inr (E, q)) η' → VX G Γ mt cc nL ret tb d P kc' ks' η' pc lv rest E q) : V G Γ mt cc nL ret tb d P kc ks η pc lv st0 := fun Q H locs ls cells slots a1 a2 a3 a4 a5 => by
  intro S hT X
  obtain ⟨av, hr⟩ := hr Q H locs ls cells slots a1 a2 a3 (by omega) (by omega)
  rcases hr S hT X with ⟨v, st₀, t, S', L, h0, X', hL, e1, e2, ⟨v', η', hv, hP, hh, hF⟩, st⟩ | ⟨q, st₀, t, S', L, E, ce, h0, X', hL, e1, e2, ⟨η', hP, hh, hF⟩, hce, hcv, hcl, st⟩
  · cases hv
    obtain ⟨k1, k2, k3⟩ := vx_keep h0 e1 a2 (fun _ _ h => h) (fun _ h => h) hL hF
    obtain ⟨t2, s2, q2⟩ := kr v η' hP Q S'.heap (locs ++ L) ls (cells + mc) (slots + ms) (by rw [e1]; exact hh) k3 a3 (by omega) (by omega) S' rfl X'
    exact ⟨t2, st t2 s2, q2⟩
  · obtain ⟨k1, k2, k3⟩ := vx_keep h0 e1 a2 (fun _ _ h => h) (fun _ h => h) hL hF
    obtain ⟨t2, s2, q2⟩ := kx E q η' hP Q S'.heap (locs ++ L) ls (cells + mc) (slots + ms) ce (by rw [e1]; exact hh) k3 a3 (by omega) (by omega) (by rw [e1]; exact hce) hcv hcl S' rfl X'
    exact ⟨t2, st.trans s2, q2⟩
theorem Cx.fix (Q : Cx G Γ mt cc nL ret tb d) : CallFix Γ.1 Γ.2.2.2.2.1 Γ.2.2.2.2.2.2.2.2 cc nL Γ.2.2.2.1 Γ.2.2.2.2.2.1 lw_all mt.cls := ⟨Q.1, Q.2.1, Q.2.2.1, Q.2.2.2.1, Q.2.2.2.2.1⟩
theorem Cx.rm (Q : Cx G Γ mt cc nL ret tb d) (hd : dy < d) (hm : nY ≤ 41) : (rmo dy mc ms).frames + 1 ≤ Γ.2.2.1.frames ∧ 8 + (nY + 11) + (rmo dy mc ms).locals ≤ Γ.2.2.1.locals := by
  have h1 := Q.2.2.2.2.2.2.2.1
  have h2 := Q.2.2.2.2.2.2.2.2.1
  unfold rmo
  exact ⟨by show dy + 1 ≤ _; omega, by show 8 + (nY + 11) + 60 * dy ≤ _; omega⟩
theorem Cx.pre (Q : Cx G Γ mt cc nL ret tb d) {H : Heap} {locs : List Loc} {Bs : List Value} (a1 : hp G η H) (a2 : va_S (Ar G) Γ.2.2.2.1.heap H locs) : ∀ U : State, U.heap = H → Γ.2.2.2.1.WarmedH U.vm → Pco G Bs η Bs.toArray U := fun U hU hW => ⟨rfl, by rw [hU]; exact (a2.ok Q.2.2.2.2.2.1).moved hW, by rw [hU]; exact a1⟩
theorem v_callS (hM : Ct G y cy nY rY dy mc ms As η P') (hT : GoodIn lw_all (va_wsS mt.cls index y (ws_ y cy nY rY))) (hI : Mi y n) (hst : st0 = As.reverse ++ rest) (hl : As.length = n) (hdy : dy < d) (hm : nY ≤ 41) (hW : (rest.map fun v => v.category).sum ≤ 8) (hb1 : kc' + mc ≤ kc) (hb2 : ks' + ms ≤ ks) (hdg : decode cc pc = .ok (.invokestatic index, 3)) (kr : ∀ v η', P' (.inl v) η' → V G Γ mt cc nL ret tb d P kc' ks' η' (pc + 3) lv (v.toList ++ rest)) (kx : ∀ E q η', P' (.inr (E, q)) η' → VX G Γ mt cc nL ret tb d P kc' ks' η' pc lv rest E q) : V G Γ mt cc nL ret tb d P kc ks η pc lv st0 :=
  v_run (fun Q H locs ls cells slots a1 a2 a3 a4 a5 => ⟨_, vx_runS (g := F0 Γ.2.2.2.2.1 pc ls st0) Q.fix hM (va_cwS n Q.2.2.2.2.1 hT rfl rfl rfl hI (Q.rm hdy hm)) ⟨Pco.blind, Q.pre a1 a2⟩ rfl hl a3.1 hst (lv_room hW) hdg ⟨a4, a5⟩⟩) hb1 hb2 kr kx
theorem v_callV (hM : Ct G y cy nY rY dy mc ms (.ref a :: As) η P') (hT : GoodIn lw_all (wsV mt.cls index C y (ws_ y cy nY rY))) (hI : Mi y n) (hC : y.cls = C) (K : Cl ci C T N ty) (hη : η a = some (o, ob ci F)) (hst : st0 = As.reverse ++ .ref a :: rest) (hl : As.length = n) (hdy : dy < d) (hm : nY ≤ 41) (hW : (rest.map fun v => v.category).sum ≤ 8) (hb1 : kc' + mc ≤ kc) (hb2 : ks' + ms ≤ ks) (hdg : decode cc pc = .ok (.invokevirtual index, 3)) (kr : ∀ v η', P' (.inl v) η' → V G Γ mt cc nL ret tb d P kc' ks' η' (pc + 3) lv (v.toList ++ rest)) (kx : ∀ E q η', P' (.inr (E, q)) η' → VX G Γ mt cc nL ret tb d P kc' ks' η' pc lv rest E q) : V G Γ mt cc nL ret tb d P kc ks η pc lv st0 :=
  v_run (fun Q H locs ls cells slots a1 a2 a3 a4 a5 => ⟨_, vx_runV (g := F0 Γ.2.2.2.2.1 pc ls st0) Q.fix hM (cwV n Q.2.2.2.2.1 hT rfl rfl rfl ⟨hC, hI⟩ (Q.rm hdy hm)) ⟨Pco.blind, a1.recv Q.2.2.2.2.2.1.2.1 K hη, Q.pre a1 a2⟩ rfl hl a3.1 hst (lv_room hW) hdg ⟨a4, a5⟩⟩) hb1 hb2 kr kx
theorem v_callI (hM : Ct G y cy nY none dy mc ms (.ref a :: As) η P') (hT : GoodIn lw_all (ws_ y cy nY none)) (hini : Cond.initialized y.cls ∈ lw_all) (hlk : Cond.methodLink mt.cls index y ∈ lw_all) (hin : Cond.instanceMethod y ∈ lw_all) (hn : y.name = "<init>") (hI : Mi y n) (hst : st0 = As.reverse ++ .ref a :: rest) (hl : As.length = n) (hdy : dy < d) (hm : nY ≤ 41) (hW : (rest.map fun v => v.category).sum ≤ 8) (hb1 : kc' + mc ≤ kc) (hb2 : ks' + ms ≤ ks) (hdg : decode cc pc = .ok (.invokespecial index, 3)) (kr : ∀ v η', P' (.inl v) η' → V G Γ mt cc nL ret tb d P kc' ks' η' (pc + 3) lv (v.toList ++ rest)) (kx : ∀ E q η', P' (.inr (E, q)) η' → VX G Γ mt cc nL ret tb d P kc' ks' η' pc lv rest E q) : V G Γ mt cc nL ret tb d P kc ks η pc lv st0 :=
  v_run (fun Q H locs ls cells slots a1 a2 a3 a4 a5 => ⟨_, vx_runI (g := F0 Γ.2.2.2.2.1 pc ls st0) Q.fix hM (cwI n Q.2.2.2.2.1 hT rfl rfl rfl (Q.2.2.2.2.1 _ hini) (Q.2.2.2.2.1 _ hlk) (Q.2.2.2.2.1 _ hin) hn hI (Q.rm hdy hm)) ⟨Pco.blind, Q.pre a1 a2⟩ rfl hl a3.1 hst (lv_room hW) hdg ⟨a4, a5⟩⟩) hb1 hb2 kr kx
theorem v_callSi {η2 : AH} {r : Int32} (hM : Ct G y cy nY rY dy 0 0 As η (re (some (.int r)) η2)) (hT : GoodIn lw_all (va_wsS mt.cls index y (ws_ y cy nY rY))) (hI : Mi y n) (hst : st0 = As.reverse ++ rest) (hl : As.length = n) (hdy : dy < d) (hm : nY ≤ 41) (hW : (rest.map fun v => v.category).sum ≤ 8) (hdg : decode cc pc = .ok (.invokestatic index, 3)) (kk : V G Γ mt cc nL ret tb d P kc ks η2 (pc + 3) lv (.int r :: rest)) : V G Γ mt cc nL ret tb d P kc ks η pc lv st0 :=
  v_callS hM hT hI hst hl hdy hm hW (Nat.le_refl _) (Nat.le_refl _) hdg (fun v η' h => by obtain ⟨h1, h2⟩ := h; cases h1; cases h2; exact kk) (fun E q η' h => by obtain ⟨h1, -⟩ := h; cases h1)
theorem v_callVi {η2 : AH} {r : Int32} (hM : Ct G y cy nY rY dy 0 0 (.ref a :: As) η (re (some (.int r)) η2)) (hT : GoodIn lw_all (wsV mt.cls index C y (ws_ y cy nY rY))) (hI : Mi y n) (hC : y.cls = C) (K : Cl ci C T N ty) (hη : η a = some (o, ob ci F)) (hst : st0 = As.reverse ++ .ref a :: rest) (hl : As.length = n) (hdy : dy < d) (hm : nY ≤ 41) (hW : (rest.map fun v => v.category).sum ≤ 8) (hdg : decode cc pc = .ok (.invokevirtual index, 3)) (kk : V G Γ mt cc nL ret tb d P kc ks η2 (pc + 3) lv (.int r :: rest)) : V G Γ mt cc nL ret tb d P kc ks η pc lv st0 :=
  v_callV hM hT hI hC K hη hst hl hdy hm hW (Nat.le_refl _) (Nat.le_refl _) hdg (fun v η' h => by obtain ⟨h1, h2⟩ := h; cases h1; cases h2; exact kk) (fun E q η' h => by obtain ⟨h1, -⟩ := h; cases h1)
theorem v_callSl {η2 : AH} {r : Int64} (hM : Ct G y cy nY rY dy 0 0 As η (re (some (.long r)) η2)) (hT : GoodIn lw_all (va_wsS mt.cls index y (ws_ y cy nY rY))) (hI : Mi y n) (hst : st0 = As.reverse ++ rest) (hl : As.length = n) (hdy : dy < d) (hm : nY ≤ 41) (hW : (rest.map fun v => v.category).sum ≤ 8) (hdg : decode cc pc = .ok (.invokestatic index, 3)) (kk : V G Γ mt cc nL ret tb d P kc ks η2 (pc + 3) lv (.long r :: rest)) : V G Γ mt cc nL ret tb d P kc ks η pc lv st0 :=
  v_callS hM hT hI hst hl hdy hm hW (Nat.le_refl _) (Nat.le_refl _) hdg (fun v η' h => by obtain ⟨h1, h2⟩ := h; cases h1; cases h2; exact kk) (fun E q η' h => by obtain ⟨h1, -⟩ := h; cases h1)
theorem v_callVl {η2 : AH} {r : Int64} (hM : Ct G y cy nY rY dy 0 0 (.ref a :: As) η (re (some (.long r)) η2)) (hT : GoodIn lw_all (wsV mt.cls index C y (ws_ y cy nY rY))) (hI : Mi y n) (hC : y.cls = C) (K : Cl ci C T N ty) (hη : η a = some (o, ob ci F)) (hst : st0 = As.reverse ++ .ref a :: rest) (hl : As.length = n) (hdy : dy < d) (hm : nY ≤ 41) (hW : (rest.map fun v => v.category).sum ≤ 8) (hdg : decode cc pc = .ok (.invokevirtual index, 3)) (kk : V G Γ mt cc nL ret tb d P kc ks η2 (pc + 3) lv (.long r :: rest)) : V G Γ mt cc nL ret tb d P kc ks η pc lv st0 :=
  v_callV hM hT hI hC K hη hst hl hdy hm hW (Nat.le_refl _) (Nat.le_refl _) hdg (fun v η' h => by obtain ⟨h1, h2⟩ := h; cases h1; cases h2; exact kk) (fun E q η' h => by obtain ⟨h1, -⟩ := h; cases h1)
theorem v_callSr {η2 : AH} {r : Nat} (hM : Ct G y cy nY rY dy 0 0 As η (re (some (.ref r)) η2)) (hT : GoodIn lw_all (va_wsS mt.cls index y (ws_ y cy nY rY))) (hI : Mi y n) (hst : st0 = As.reverse ++ rest) (hl : As.length = n) (hdy : dy < d) (hm : nY ≤ 41) (hW : (rest.map fun v => v.category).sum ≤ 8) (hdg : decode cc pc = .ok (.invokestatic index, 3)) (kk : V G Γ mt cc nL ret tb d P kc ks η2 (pc + 3) lv (.ref r :: rest)) : V G Γ mt cc nL ret tb d P kc ks η pc lv st0 :=
  v_callS hM hT hI hst hl hdy hm hW (Nat.le_refl _) (Nat.le_refl _) hdg (fun v η' h => by obtain ⟨h1, h2⟩ := h; cases h1; cases h2; exact kk) (fun E q η' h => by obtain ⟨h1, -⟩ := h; cases h1)
theorem v_callVr {η2 : AH} {r : Nat} (hM : Ct G y cy nY rY dy 0 0 (.ref a :: As) η (re (some (.ref r)) η2)) (hT : GoodIn lw_all (wsV mt.cls index C y (ws_ y cy nY rY))) (hI : Mi y n) (hC : y.cls = C) (K : Cl ci C T N ty) (hη : η a = some (o, ob ci F)) (hst : st0 = As.reverse ++ .ref a :: rest) (hl : As.length = n) (hdy : dy < d) (hm : nY ≤ 41) (hW : (rest.map fun v => v.category).sum ≤ 8) (hdg : decode cc pc = .ok (.invokevirtual index, 3)) (kk : V G Γ mt cc nL ret tb d P kc ks η2 (pc + 3) lv (.ref r :: rest)) : V G Γ mt cc nL ret tb d P kc ks η pc lv st0 :=
  v_callV hM hT hI hC K hη hst hl hdy hm hW (Nat.le_refl _) (Nat.le_refl _) hdg (fun v η' h => by obtain ⟨h1, h2⟩ := h; cases h1; cases h2; exact kk) (fun E q η' h => by obtain ⟨h1, -⟩ := h; cases h1)
theorem v_callSv {η2 : AH}  (hM : Ct G y cy nY rY dy 0 0 As η (re none η2)) (hT : GoodIn lw_all (va_wsS mt.cls index y (ws_ y cy nY rY))) (hI : Mi y n) (hst : st0 = As.reverse ++ rest) (hl : As.length = n) (hdy : dy < d) (hm : nY ≤ 41) (hW : (rest.map fun v => v.category).sum ≤ 8) (hdg : decode cc pc = .ok (.invokestatic index, 3)) (kk : V G Γ mt cc nL ret tb d P kc ks η2 (pc + 3) lv rest) : V G Γ mt cc nL ret tb d P kc ks η pc lv st0 :=
  v_callS hM hT hI hst hl hdy hm hW (Nat.le_refl _) (Nat.le_refl _) hdg (fun v η' h => by obtain ⟨h1, h2⟩ := h; cases h1; cases h2; exact kk) (fun E q η' h => by obtain ⟨h1, -⟩ := h; cases h1)
theorem v_callVv {η2 : AH}  (hM : Ct G y cy nY rY dy 0 0 (.ref a :: As) η (re none η2)) (hT : GoodIn lw_all (wsV mt.cls index C y (ws_ y cy nY rY))) (hI : Mi y n) (hC : y.cls = C) (K : Cl ci C T N ty) (hη : η a = some (o, ob ci F)) (hst : st0 = As.reverse ++ .ref a :: rest) (hl : As.length = n) (hdy : dy < d) (hm : nY ≤ 41) (hW : (rest.map fun v => v.category).sum ≤ 8) (hdg : decode cc pc = .ok (.invokevirtual index, 3)) (kk : V G Γ mt cc nL ret tb d P kc ks η2 (pc + 3) lv rest) : V G Γ mt cc nL ret tb d P kc ks η pc lv st0 :=
  v_callV hM hT hI hC K hη hst hl hdy hm hW (Nat.le_refl _) (Nat.le_refl _) hdg (fun v η' h => by obtain ⟨h1, h2⟩ := h; cases h1; cases h2; exact kk) (fun E q η' h => by obtain ⟨h1, -⟩ := h; cases h1)
end VS
theorem KX1 : Cl 0 RX1 TX1 19 tyX1 := ⟨rfl, in_X1, tyX1_ok, nmX1⟩
theorem KX2 : Cl 1 RX2 TX2 11 tyX2 := ⟨rfl, in_X2, tyX2_ok, nmX2⟩
theorem KJ2 : Cl 2 RJ2 TJ2 3 tyJ2 := ⟨rfl, in_J2, tyJ2_ok, nmJ2⟩
theorem KX3 : Cl 3 RX3 TX3 20 tyX3 := ⟨rfl, in_X3, tyX3_ok, nmX3⟩
theorem KX4 : Cl 4 RX4 TX4 5 tyX4 := ⟨rfl, in_X4, tyX4_ok, nmX4⟩
theorem KJ6 : Cl 5 RJ6 TJ6 1 tyJ6 := ⟨rfl, in_J6, tyJ6_ok, nmJ6⟩
theorem KJ8 : Cl 6 RJ8 TJ8 4 tyJ8 := ⟨rfl, in_J8, tyJ8_ok, nmJ8⟩
theorem KX6 : Cl 7 RX6 TX6 2 tyX6 := ⟨rfl, in_X6, tyX6_ok, nmX6⟩
theorem KX7 : Cl 8 RX7 TX7 4 tyX7 := ⟨rfl, in_X7, tyX7_ok, nmX7⟩
theorem KX8 : Cl 9 RX8 TX8 88 tyX8 := ⟨rfl, in_X8, tyX8_ok, nmX8⟩
theorem KJ13 : Cl 10 RJ13 TJ13 6 tyJ13 := ⟨rfl, in_J13, tyJ13_ok, nmJ13⟩
theorem KX9 : Cl 11 RX9 TX9 8 tyX9 := ⟨rfl, in_X9, tyX9_ok, nmX9⟩
theorem KX10 : Cl 12 RX10 TX10 7 tyX10 := ⟨rfl, in_X10, tyX10_ok, nmX10⟩
theorem KX11 : Cl 13 RX11 TX11 3 tyX11 := ⟨rfl, in_X11, tyX11_ok, nmX11⟩
theorem KX12 : Cl 14 RX12 TX12 2 tyX12 := ⟨rfl, in_X12, tyX12_ok, nmX12⟩
theorem KX13 : Cl 15 RX13 TX13 1 tyX13 := ⟨rfl, in_X13, tyX13_ok, nmX13⟩
theorem KX14 : Cl 16 RX14 TX14 1 tyX14 := ⟨rfl, in_X14, tyX14_ok, nmX14⟩
theorem KJ19 : Cl 17 RJ19 TJ19 4 tyJ19 := ⟨rfl, in_J19, tyJ19_ok, nmJ19⟩
theorem KX15 : Cl 18 RX15 TX15 1 tyX15 := ⟨rfl, in_X15, tyX15_ok, nmX15⟩
theorem KX16 : Cl 19 RX16 TX16 1 tyX16 := ⟨rfl, in_X16, tyX16_ok, nmX16⟩
theorem KJ20 : Cl 20 RJ20 TJ20 6 tyJ20 := ⟨rfl, in_J20, tyJ20_ok, nmJ20⟩
theorem KX17 : Cl 21 RX17 TX17 9 tyX17 := ⟨rfl, in_X17, tyX17_ok, nmX17⟩
theorem KX18 : Cl 22 RX18 TX18 9 tyX18 := ⟨rfl, in_X18, tyX18_ok, nmX18⟩
