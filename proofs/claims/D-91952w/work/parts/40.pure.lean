/-! ===== both readers of expressions read the same ===== -/
def TKo (T : Nat → Nat → Nat) (sz : Nat) : Prop := sz ≤ 700 ∧ ∀ p, p ≤ sz → T p 22 ≤ sz ∧ (¬ T p 23 = 0 → p < T p 22)
/-- an operand and what is behind it -/
def M1 (T : Nat → Nat → Nat) (lt : Nat → Nat) (nT n k nt c p : Nat) (ops : List Nat) (fs : List Fn) (ts : List Nat) : Er (Nat × Fn) := andT (opd T lt nT k nt c p ops ts) fun z => opr T lt nT n z.1 z.2.1 (fC z.2.2.2 :: fs) z.2.2.1
/-- nothing of these acts goes that is so strong -/
def BS (l : Nat) (ops : List Nat) : Prop := ∀ (least : Nat) (fs : List Fn), l ≤ least → drF least ops fs = (ops, fs)
theorem BS_nil (l : Nat) : BS l [] := fun _ _ _ => rfl
theorem BS_op (l : Nat) (ops : List Nat) : BS l (12 :: ops) := fun _ _ _ => drF_n (fun q => q.1 rfl)
theorem BS_a {l a : Nat} (ops : List Nat) (h : strN a < l) : BS l (a :: ops) := fun _ _ _ => drF_n (fun q => by omega)
theorem BS.le {l l' : Nat} {ops : List Nat} (h : BS l ops) (hl : l ≤ l') : BS l' ops := fun least fs h' => h least fs (by omega)
theorem kwT_s {t : Nat → Nat} (h : ¬ t 23 = 1) : kwT t = 0 := if_neg (fun q => h q.1)
theorem kwT_1 {t : Nat → Nat} (h : ¬ kwT t = 0) : t 23 = 1 := Classical.byContradiction fun q => h (kwT_s q)
def LC (T : Nat → Nat → Nat) (lt : Nat → Nat) (nT sz : Nat) (F : Nat → Er (Nat × Fn)) (j lv : Nat) (pn : Nat → Nat → Nat → Prop) (tin : Nat → Prop) (E : Nat → (Nat → Nat) → Nat → Prop) : Prop :=
  ∀ (p : Nat) (ops : List Nat) (fs : List Fn) (t : Nat) (ts : List Nat) (n k nt c : Nat), p ≤ sz → j + (t :: ts).length = 6 → BS lv ops → tin t → pn nt c p → sz < n + p → sz < k + p →
    (∀ e, F p = .error e → M1 T lt nT n k nt c p ops fs (t :: ts) = .error e) ∧
    ∀ p' f, F p = .ok (p', f) → p < p' ∧ p' ≤ sz ∧ ∃ n' ops' fs' t', sz < n' + p' ∧ M1 T lt nT n k nt c p ops fs (t :: ts) = opr T lt nT n' p' ops' fs' (t' :: ts) ∧ drF lv ops' fs' = (ops, f :: fs) ∧ E t (T p') t'
section SIM
variable {T : Nat → Nat → Nat} {lt : Nat → Nat} {nT sz : Nat}
theorem opr_op {n p a : Nat} {ops : List Nat} {fs : List Fn} {ts : List Nat} (h : opK (T p) (ts.headD 0) = a) (ha : ¬ a = 0) : opr T lt nT (n + 1) p ops fs ts = M1 T lt nT n 701 (ntK a) 0 (T p 22) (a :: (drF (strN a) ops fs).1) (drF (strN a) ops fs).2 (tsK a ts) := by
  show (if _ then _ else _) = _
  rw [h, if_pos ha]
  rfl
theorem opr_cl {n p : Nat} {ops : List Nat} {fs : List Fn} {ts : List Nat} (h : opK (T p) (ts.headD 0) = 0) (h2 : isS (T p) 41 ∧ 1 < ts.length) : opr T lt nT (n + 1) p ops fs ts = opr T lt nT n (T p 22) (drF 0 ops fs).1.tail (drF 0 ops fs).2 ts.tail := by
  show (if _ then _ else _) = _
  rw [if_neg (fun q => q h), if_pos h2]
theorem opr_er {n p : Nat} {ops : List Nat} {fs : List Fn} {ts : List Nat} (h : opK (T p) (ts.headD 0) = 0) (h2 : ¬ isS (T p) 41) (h3 : 1 < ts.length) : opr T lt nT (n + 1) p ops fs ts = .error (1, p) := by
  show (if _ then _ else _) = _
  rw [if_neg (fun q => q h), if_neg (fun q => h2 q.1), if_pos h3]
theorem opr_en {n p : Nat} {ops : List Nat} {fs : List Fn} {ts : List Nat} (h : opK (T p) (ts.headD 0) = 0) (h3 : ¬ 1 < ts.length) : opr T lt nT (n + 1) p ops fs ts = .ok (p, (drF 0 ops fs).2.headD (fK 0)) := by
  show (if _ then _ else _) = _
  rw [if_neg (fun q => q h), if_neg (fun q => h3 q.2), if_neg h3]
theorem chE_0 {sub : Nat → Er (Nat × Fn)} {op : (Nat → Nat) → Nat} {n p : Nat} {f : Fn} (h : op (T p) = 0) : chE T sub op (n + 1) p f = .ok (p, f) := if_pos h
theorem chE_1 {sub : Nat → Er (Nat × Fn)} {op : (Nat → Nat) → Nat} {n p : Nat} {f : Fn} (h : ¬ op (T p) = 0) : chE T sub op (n + 1) p f = andT (sub (T p 22)) fun z => chE T sub op n z.1 (fOp (op (T p)) f z.2) := if_neg h
theorem LC_ch {sub : Nat → Er (Nat × Fn)} {op : (Nat → Nat) → Nat} {j lv lv' : Nat} {pn : Nat → Nat → Nat → Prop} {tin : Nat → Prop} {E : Nat → (Nat → Nat) → Nat → Prop} (hT : TKo T sz) (h : LC T lt nT sz sub j lv' pn tin E) (hlt : lv < lv')
    (hop : ∀ (t : Nat → Nat) (fl : Nat), ¬ op t = 0 → ¬ t 23 = 0 ∧ strN (op t) = lv ∧ op t ≠ 12 ∧ op t ≠ 3 ∧ opK t fl = op t)
    (htk : ∀ (tok : Nat → Nat) (t t1 : Nat) (ts : List Nat), ¬ op tok = 0 → tin t → E t tok t1 → ∃ t2, tsK (op tok) (t1 :: ts) = t2 :: ts ∧ tin t2 ∧ ∀ tok2 t3, E t2 tok2 t3 → E t tok2 t3)
    (hpn : ∀ (tok : Nat → Nat) (p : Nat), ¬ op tok = 0 → pn (ntK (op tok)) 0 p) : LC T lt nT sz (chT T sub op) j lv pn tin (fun t tok t' => E t tok t' ∧ op tok = 0) := by
  intro p ops fs t ts n k nt c hp hj hb ht hpc hn hk
  obtain ⟨hE, hO⟩ := h p ops fs t ts n k nt c hp hj (hb.le (by omega)) ht hpc hn hk
  have loop : ∀ (m n1 p1 : Nat) (f1 : Fn) (ops1 : List Nat) (fs1 : List Fn) (t1 : Nat), p < p1 → p1 ≤ sz → sz < m + p1 → sz < n1 + p1 → drF lv ops1 fs1 = (ops, f1 :: fs) → E t (T p1) t1 →
      (∀ e, chE T sub op m p1 f1 = .error e → opr T lt nT n1 p1 ops1 fs1 (t1 :: ts) = .error e) ∧
      ∀ p' f, chE T sub op m p1 f1 = .ok (p', f) → p < p' ∧ p' ≤ sz ∧ ∃ n' ops' fs' t', sz < n' + p' ∧ opr T lt nT n1 p1 ops1 fs1 (t1 :: ts) = opr T lt nT n' p' ops' fs' (t' :: ts) ∧ drF lv ops' fs' = (ops, f :: fs) ∧ E t (T p') t' ∧ op (T p') = 0 := by
    intro m
    induction m with
    | zero => intro n1 p1 f1 ops1 fs1 t1 h1 h2 h3; omega
    | succ m ih =>
      intro n1 p1 f1 ops1 fs1 t1 h1 h2 h3 h4 h5 h6
      by_cases c0 : op (T p1) = 0
      · rw [chE_0 c0]
        refine ⟨fun e he => (by cases he), fun p' f he => ?_⟩
        cases he
        exact ⟨h1, h2, n1, ops1, fs1, t1, h4, rfl, h5, h6, c0⟩
      · obtain ⟨w1, w2, w3, w4, w5⟩ := hop (T p1) t1 c0
        obtain ⟨t2, u1, u2, u3⟩ := htk (T p1) t t1 ts c0 ht h6
        have hz := hT.2 p1 h2
        have hp2 := hz.2 w1
        cases n1 with
        | zero => omega
        | succ n2 =>
          rw [opr_op (T := T) (ts := t1 :: ts) w5 c0, u1, w2, h5, chE_1 c0]
          obtain ⟨gE, gO⟩ := h (T p1 22) (op (T p1) :: ops) (f1 :: fs) t2 ts n2 701 (ntK (op (T p1))) 0 hz.1 hj (BS_a _ (by omega)) u2 (hpn _ _ c0) (by omega) (by have := hT.1; omega)
          cases hs : sub (T p1 22) with
          | error e =>
            rw [andT_er (rfl : (Except.error e : Er (Nat × Fn)) = _)]
            exact ⟨fun e' he => (by cases he; exact gE e hs), fun p' f he => (by cases he)⟩
          | ok z =>
            obtain ⟨p3, g⟩ := z
            obtain ⟨g1, g2, n3, ops3, fs3, t3, g3, g4, g5, g6⟩ := gO p3 g hs
            rw [andT_ok (rfl : (Except.ok (p3, g) : Er (Nat × Fn)) = _), g4]
            refine ih n3 p3 (fOp (op (T p1)) f1 g) ops3 fs3 t3 (by omega) g2 (by omega) g3 ?_ (u3 _ _ g6)
            rw [← drF_drF (show lv ≤ lv' by omega) ops3 fs3, g5, drF_y w3 (by omega), apF_a w4]
            exact hb lv _ (Nat.le_refl _)
  unfold chT
  cases hs : sub p with
  | error e =>
    rw [andT_er (rfl : (Except.error e : Er (Nat × Fn)) = _)]
    exact ⟨fun e' he => (by cases he; exact hE e hs), fun p' f he => (by cases he)⟩
  | ok z =>
    obtain ⟨p1, f1⟩ := z
    obtain ⟨q1, q2, n1, ops1, fs1, t1, q3, q4, q5, q6⟩ := hO p1 f1 hs
    rw [andT_ok (rfl : (Except.ok (p1, f1) : Er (Nat × Fn)) = _), q4]
    refine loop 701 n1 p1 f1 ops1 fs1 t1 q1 q2 (by have := hT.1; omega) q3 ?_ q6
    rw [← drF_drF (show lv ≤ lv' by omega) ops1 fs1, q5]
    exact hb lv _ (Nat.le_refl _)
abbrev pnA (T : Nat → Nat → Nat) : Nat → Nat → Nat → Prop := fun nt _ p => nt = 1 → ¬ kwT (T p) = 17
abbrev pnB : Nat → Nat → Nat → Prop := fun nt c _ => nt = 1 ∧ c = 0
abbrev EC : Nat → (Nat → Nat) → Nat → Prop := fun _ tok t' => (opM tok = 0 ∧ opS tok = 0) ∧ (¬ opC tok = 0 → t' = 1)
/-- a bracketed expression -/
def LX (T : Nat → Nat → Nat) (lt : Nat → Nat) (nT sz : Nat) (ex : Nat → Er (Nat × Fn)) (j : Nat) : Prop := ∀ (p : Nat) (ops : List Nat) (fs : List Fn) (t : Nat) (ts : List Nat) (n k : Nat), p ≤ sz → j + (t :: ts).length = 6 → sz < n + p → sz < k + p →
    (∀ e, ex p = .error e → (if (t :: ts).length < 6 then M1 T lt nT n k 1 0 p (12 :: ops) fs (0 :: t :: ts) else .error (if isB (T p) then 2 else 1, p)) = .error e) ∧
    ∀ p' f, ex p = .ok (p', f) → p < p' ∧ p' ≤ sz ∧ ∃ n' ops' fs' t', sz < n' + p' ∧ (if (t :: ts).length < 6 then M1 T lt nT n k 1 0 p (12 :: ops) fs (0 :: t :: ts) else .error (if isB (T p) then 2 else 1, p)) = opr T lt nT n' p' ops' fs' (t' :: t :: ts) ∧ drF 1 ops' fs' = (12 :: ops, f :: fs) ∧ opK (T p') t' = 0
theorem opd_br {n nt c p : Nat} {ops ts : List Nat} (h : isS (T p) 40) : opd T lt nT (n + 1) nt c p ops ts = if ts.length < 6 then opd T lt nT n 1 0 (T p 22) (12 :: ops) (0 :: ts) else .error (if isB (T (T p 22)) then 2 else 1, T p 22) := by
  show (if _ then _ else _) = _
  rw [if_neg (fun q => by rw [kwT_s (by omega)] at q; omega), if_pos h]
theorem opd_pt {n nt c p : Nat} {ops ts : List Nat} (h : ¬ isS (T p) 40) (h2 : nt = 1 → ¬ kwT (T p) = 17) : opd T lt nT (n + 1) nt c p ops ts = andT (partC T lt nT p) fun c => .ok (T p 22, ops, ts, c) := by
  show (if _ then _ else _) = _
  rw [if_neg (fun q => h2 q.1 q.2), if_neg h]
theorem partC_ok {p : Nat} {c : Nat × Nat} (h : partC T lt nT p = .ok c) : ¬ T p 23 = 0 := by
  unfold partC at h
  intro q
  rw [if_neg (by omega), if_neg (by omega)] at h
  cases h
theorem LC_part {ex : Nat → Er (Nat × Fn)} {j : Nat} (hT : TKo T sz) (hx : LX T lt nT sz ex j) : LC T lt nT sz (rdPart T lt nT ex) j 7 (pnA T) (fun _ => True) (fun t _ t' => t' = t) := by
  intro p ops fs t ts n k nt c hp hj hb _ hpc hn hk
  have hz := hT.2 p hp
  cases k with
  | zero => omega
  | succ k =>
    by_cases c40 : isS (T p) 40
    · have hlt := hz.2 (by omega)
      have e1 : M1 T lt nT n (k + 1) nt c p ops fs (t :: ts) = if (t :: ts).length < 6 then M1 T lt nT n k 1 0 (T p 22) (12 :: ops) fs (0 :: t :: ts) else .error (if isB (T (T p 22)) then 2 else 1, T p 22) := by
        unfold M1
        rw [opd_br c40]
        split <;> rfl
      obtain ⟨hE, hO⟩ := hx (T p 22) ops fs t ts n k hz.1 hj (by omega) (by omega)
      rw [e1]
      unfold rdPart
      rw [if_pos c40]
      cases hs : ex (T p 22) with
      | error e =>
        rw [andT_er (rfl : (Except.error e : Er (Nat × Fn)) = _)]
        exact ⟨fun e' he => (by cases he; exact hE e hs), fun p' f he => (by cases he)⟩
      | ok z =>
        obtain ⟨p1, f1⟩ := z
        obtain ⟨q1, q2, n1, ops1, fs1, t1, q3, q4, q5, q6⟩ := hO p1 f1 hs
        rw [andT_ok (rfl : (Except.ok (p1, f1) : Er (Nat × Fn)) = _), q4]
        cases n1 with
        | zero => omega
        | succ n2 =>
          by_cases c41 : isS (T p1) 41
          · have hz1 := hT.2 p1 q2
            have hl1 := hz1.2 (by omega)
            rw [if_pos (show isS (T (p1, f1).1) 41 from c41), opr_cl (ts := t1 :: t :: ts) q6 ⟨c41, by simp⟩]
            have e2 : drF 0 ops1 fs1 = (12 :: ops, f1 :: fs) := by
              rw [← drF_drF (show 0 ≤ 1 by omega) ops1 fs1, q5]
              exact BS_op 0 ops 0 _ (Nat.le_refl _)
            rw [e2]
            refine ⟨fun e' he => (by cases he), fun p' f he => ?_⟩
            cases he
            exact ⟨by dsimp only; omega, hz1.1, n2, ops, f1 :: fs, t, by dsimp only; omega, rfl, hb 7 _ (Nat.le_refl _), rfl⟩
          · rw [if_neg (show ¬ isS (T (p1, f1).1) 41 from c41), opr_er (ts := t1 :: t :: ts) q6 c41 (by simp)]
            exact ⟨fun e' he => (by cases he; rfl), fun p' f he => (by cases he)⟩
    · unfold M1 rdPart
      rw [opd_pt c40 hpc, if_neg c40]
      cases hs : partC T lt nT p with
      | error e =>
        refine ⟨fun e' he => ?_, fun p' f he => ?_⟩
        · cases he; rfl
        · cases he
      | ok z =>
        refine ⟨fun e' he => ?_, fun p' f he => ?_⟩
        · cases he
        · cases he
          exact ⟨hz.2 (partC_ok hs), hz.1, n, ops, fC z :: fs, t, by have := hz.2 (partC_ok hs); omega, rfl, hb 7 _ (Nat.le_refl _), rfl⟩
theorem opM_ok (t : Nat → Nat) (fl : Nat) (h : ¬ opM t = 0) : ¬ t 23 = 0 ∧ strN (opM t) = 6 ∧ opM t ≠ 12 ∧ opM t ≠ 3 ∧ opK t fl = opM t := by
  unfold opM at h ⊢
  split at h
  · next c => rw [if_pos c]; exact ⟨by omega, rfl, by decide, by decide, by unfold opK; rw [kwT_s (by omega), if_neg (by omega), if_neg (by omega), if_neg (by omega), if_neg (by omega), if_neg (by omega), if_neg (by omega), if_pos c]⟩
  · next c =>
    split at h
    · next c2 => rw [if_neg c, if_pos c2]; exact ⟨by omega, rfl, by decide, by decide, by unfold opK; rw [kwT_s (by omega), if_neg (by omega), if_neg (by omega), if_neg (by omega), if_neg (by omega), if_neg (by omega), if_neg (by omega), if_neg c, if_pos c2]⟩
    · exact absurd rfl h
theorem opS_ok (t : Nat → Nat) (fl : Nat) (h : ¬ opS t = 0) : ¬ t 23 = 0 ∧ strN (opS t) = 5 ∧ opS t ≠ 12 ∧ opS t ≠ 3 ∧ opK t fl = opS t := by
  unfold opS at h ⊢
  split at h
  · next c => rw [if_pos c]; exact ⟨by omega, rfl, by decide, by decide, by unfold opK; rw [kwT_s (by omega), if_neg (by omega), if_neg (by omega), if_neg (by omega), if_neg (by omega), if_pos c]⟩
  · next c =>
    split at h
    · next c2 => rw [if_neg c, if_pos c2]; exact ⟨by omega, rfl, by decide, by decide, by unfold opK; rw [kwT_s (by omega), if_neg (by omega), if_neg (by omega), if_neg (by omega), if_neg (by omega), if_neg c, if_pos c2]⟩
    · exact absurd rfl h
theorem opA_ok (t : Nat → Nat) (fl : Nat) (h : ¬ opA t = 0) : ¬ t 23 = 0 ∧ strN (opA t) = 2 ∧ opA t ≠ 12 ∧ opA t ≠ 3 ∧ opK t fl = opA t := by
  unfold opA at h ⊢
  split at h
  · next c => rw [if_pos c]; exact ⟨by have := kwT_1 (t := t) (by omega); omega, rfl, by decide, by decide, by unfold opK; rw [if_pos c]⟩
  · exact absurd rfl h
theorem opO_ok (t : Nat → Nat) (fl : Nat) (h : ¬ opO t = 0) : ¬ t 23 = 0 ∧ strN (opO t) = 1 ∧ opO t ≠ 12 ∧ opO t ≠ 3 ∧ opK t fl = opO t := by
  unfold opO at h ⊢
  split at h
  · next c => rw [if_pos c]; exact ⟨by have := kwT_1 (t := t) (by omega); omega, rfl, by decide, by decide, by unfold opK; rw [if_neg (by omega), if_pos c]⟩
  · exact absurd rfl h
theorem opC_ok (t : Nat → Nat) (h : ¬ opC t = 0) : ¬ t 23 = 0 ∧ strN (opC t) = 4 ∧ opC t ≠ 12 ∧ opC t ≠ 3 ∧ opK t 0 = opC t ∧ ntK (opC t) = 0 ∧ ∀ x ts, tsK (opC t) (x :: ts) = 1 :: ts := by
  unfold opC at h ⊢
  split at h
  · next c => rw [if_pos c]; exact ⟨by omega, rfl, by decide, by decide, by unfold opK; rw [kwT_s (by omega), if_neg (by omega), if_neg (by omega), if_pos ⟨c, rfl⟩], rfl, fun _ _ => rfl⟩
  · next c =>
    split at h
    · next c2 => rw [if_neg c, if_pos c2]; exact ⟨by omega, rfl, by decide, by decide, by unfold opK; rw [kwT_s (by omega), if_neg (by omega), if_neg (by omega), if_neg (by omega), if_pos ⟨c2, rfl⟩], rfl, fun _ _ => rfl⟩
    · exact absurd rfl h
theorem opM_tk {t : Nat → Nat} (h : ¬ opM t = 0) : ntK (opM t) = 0 ∧ ∀ ts, tsK (opM t) ts = ts := by
  unfold opM at h ⊢
  split at h
  · next c => rw [if_pos c]; exact ⟨rfl, fun _ => rfl⟩
  · next c =>
    split at h
    · next c2 => rw [if_neg c, if_pos c2]; exact ⟨rfl, fun _ => rfl⟩
    · exact absurd rfl h
theorem opS_tk {t : Nat → Nat} (h : ¬ opS t = 0) : ntK (opS t) = 0 ∧ ∀ ts, tsK (opS t) ts = ts := by
  unfold opS at h ⊢
  split at h
  · next c => rw [if_pos c]; exact ⟨rfl, fun _ => rfl⟩
  · next c =>
    split at h
    · next c2 => rw [if_neg c, if_pos c2]; exact ⟨rfl, fun _ => rfl⟩
    · exact absurd rfl h
theorem opA_tk {t : Nat → Nat} (h : ¬ opA t = 0) : ntK (opA t) = 1 ∧ ∀ x ts, tsK (opA t) (x :: ts) = 0 :: ts := by
  unfold opA at h ⊢
  split at h
  · next c => rw [if_pos c]; exact ⟨rfl, fun _ _ => rfl⟩
  · exact absurd rfl h
theorem opO_tk {t : Nat → Nat} (h : ¬ opO t = 0) : ntK (opO t) = 1 ∧ ∀ x ts, tsK (opO t) (x :: ts) = 0 :: ts := by
  unfold opO at h ⊢
  split at h
  · next c => rw [if_pos c]; exact ⟨rfl, fun _ _ => rfl⟩
  · exact absurd rfl h
theorem opK_0 {t : Nat → Nat} {fl : Nat} (h1 : opM t = 0) (h2 : opS t = 0) (h3 : ¬ opC t = 0 → fl = 1) (h4 : opA t = 0) (h5 : opO t = 0) : opK t fl = 0 := by
  have a1 : ¬ isS t 42 := fun c => by unfold opM at h1; rw [if_pos c] at h1; cases h1
  have a2 : ¬ isS t 47 := fun c => by unfold opM at h1; rw [if_neg a1, if_pos c] at h1; cases h1
  have a3 : ¬ isS t 43 := fun c => by unfold opS at h2; rw [if_pos c] at h2; cases h2
  have a4 : ¬ isS t 45 := fun c => by unfold opS at h2; rw [if_neg a3, if_pos c] at h2; cases h2
  have a5 : ¬ kwT t = 15 := fun c => by unfold opA at h4; rw [if_pos c] at h4; cases h4
  have a6 : ¬ kwT t = 16 := fun c => by unfold opO at h5; rw [if_pos c] at h5; cases h5
  have a7 : ¬ (isS t 60 ∧ fl = 0) := fun c => by
    have := h3 (by unfold opC; rw [if_pos c.1]; decide)
    omega
  have a8 : ¬ (isS t 61 ∧ fl = 0) := fun c => by
    have := h3 (by unfold opC; split; decide; rw [if_pos c.1]; decide)
    omega
  unfold opK
  rw [if_neg a5, if_neg a6, if_neg a7, if_neg a8, if_neg a3, if_neg a4, if_neg a1, if_neg a2]
theorem LC_sum {ex : Nat → Er (Nat × Fn)} {j : Nat} (hT : TKo T sz) (hx : LX T lt nT sz ex j) : LC T lt nT sz (rdSum T lt nT ex) j 5 (pnA T) (fun _ => True) (fun t tok t' => (t' = t ∧ opM tok = 0) ∧ opS tok = 0) := by
  refine LC_ch hT (LC_ch hT (LC_part hT hx) (by omega) opM_ok ?_ ?_) (by omega) opS_ok ?_ ?_
  · intro tok t t1 ts h _ e
    exact ⟨t, by rw [(opM_tk h).2, e], trivial, fun _ _ q => q⟩
  · intro tok p h q
    rw [(opM_tk h).1] at q
    exact absurd q (by decide)
  · intro tok t t1 ts h _ e
    exact ⟨t, by rw [(opS_tk h).2, e.1], trivial, fun _ _ q => q⟩
  · intro tok p h q
    rw [(opS_tk h).1] at q
    exact absurd q (by decide)
theorem LC_cmp {ex : Nat → Er (Nat × Fn)} {j : Nat} (hT : TKo T sz) (hx : LX T lt nT sz ex j) : LC T lt nT sz (rdCmp T lt nT ex) j 4 (pnA T) (fun t => t = 0) EC := by
  intro p ops fs t ts n k nt c hp hj hb ht hpc hn hk
  subst ht
  obtain ⟨hE, hO⟩ := LC_sum hT hx p ops fs 0 ts n k nt c hp hj (hb.le (by omega)) trivial hpc hn hk
  unfold rdCmp
  cases hs : rdSum T lt nT ex p with
  | error e =>
    rw [andT_er (rfl : (Except.error e : Er (Nat × Fn)) = _)]
    exact ⟨fun e' he => (by cases he; exact hE e hs), fun p' f he => (by cases he)⟩
  | ok z =>
    obtain ⟨p1, f1⟩ := z
    obtain ⟨q1, q2, n1, ops1, fs1, t1, q3, q4, q5, ⟨q6, q7⟩, q8⟩ := hO p1 f1 hs
    subst q6
    have e4 : drF 4 ops1 fs1 = (ops, f1 :: fs) := by
      rw [← drF_drF (show 4 ≤ 5 by omega) ops1 fs1, q5]
      exact hb 4 _ (Nat.le_refl _)
    rw [andT_ok (rfl : (Except.ok (p1, f1) : Er (Nat × Fn)) = _), q4]
    by_cases c0 : opC (T p1) = 0
    · rw [if_pos (show opC (T (p1, f1).1) = 0 from c0)]
      refine ⟨fun e he => (by cases he), fun p' f he => ?_⟩
      cases he
      exact ⟨q1, q2, n1, ops1, fs1, 0, q3, rfl, e4, ⟨q7, q8⟩, fun q => absurd c0 q⟩
    · rw [if_neg (show ¬ opC (T (p1, f1).1) = 0 from c0)]
      obtain ⟨w1, w2, w3, w4, w5, w6, w7⟩ := opC_ok (T p1) c0
      have hz := hT.2 p1 q2
      have hp2 := hz.2 w1
      cases n1 with
      | zero => omega
      | succ n2 =>
        rw [opr_op (T := T) (ts := 0 :: ts) w5 c0, w7, w2, e4, w6]
        obtain ⟨gE, gO⟩ := LC_sum hT hx (T p1 22) (opC (T p1) :: ops) (f1 :: fs) 1 ts n2 701 0 0 hz.1 hj (BS_a _ (by omega)) trivial (fun q => absurd q (by decide)) (by omega) (by have := hT.1; omega)
        cases hs2 : rdSum T lt nT ex (T p1 22) with
        | error e =>
          rw [andT_er (rfl : (Except.error e : Er (Nat × Fn)) = _)]
          exact ⟨fun e' he => (by cases he; exact gE e hs2), fun p' f he => (by cases he)⟩
        | ok z =>
          obtain ⟨p3, g⟩ := z
          obtain ⟨g1, g2, n3, ops3, fs3, t3, g3, g4, g5, ⟨g6, g7⟩, g8⟩ := gO p3 g hs2
          rw [andT_ok (rfl : (Except.ok (p3, g) : Er (Nat × Fn)) = _), g4]
          refine ⟨fun e he => (by cases he), fun p' f he => ?_⟩
          cases he
          refine ⟨by omega, g2, n3, ops3, fs3, t3, g3, rfl, ?_, ⟨g7, g8⟩, fun _ => g6⟩
          rw [← drF_drF (show 4 ≤ 5 by omega) ops3 fs3, g5, drF_y w3 (by omega), apF_a w4]
          exact hb 4 _ (Nat.le_refl _)
theorem LN {ex : Nat → Er (Nat × Fn)} {j : Nat} (hT : TKo T sz) (hx : LX T lt nT sz ex j) : ∀ (i p : Nat) (ops : List Nat) (fs : List Fn) (ts : List Nat) (n k c : Nat), c + i = 6 → p ≤ sz → j + (0 :: ts).length = 6 → BS 4 ops → sz < n + p → sz < k + p →
    (∀ e, rdNot T lt nT ex i p = .error e → M1 T lt nT n k 1 c p ops fs (0 :: ts) = .error e) ∧
    ∀ p' f, rdNot T lt nT ex i p = .ok (p', f) → p < p' ∧ p' ≤ sz ∧ ∃ n' ops' fs' t', sz < n' + p' ∧ M1 T lt nT n k 1 c p ops fs (0 :: ts) = opr T lt nT n' p' ops' fs' (t' :: ts) ∧ drF 3 ops' fs' = drF 3 ops (f :: fs) ∧ EC 0 (T p') t' := by
  have base : ∀ (p : Nat) (ops : List Nat) (fs : List Fn) (ts : List Nat) (n k c : Nat), p ≤ sz → j + (0 :: ts).length = 6 → BS 4 ops → sz < n + p → sz < k + p → ¬ kwT (T p) = 17 →
      (∀ e, rdCmp T lt nT ex p = .error e → M1 T lt nT n k 1 c p ops fs (0 :: ts) = .error e) ∧
      ∀ p' f, rdCmp T lt nT ex p = .ok (p', f) → p < p' ∧ p' ≤ sz ∧ ∃ n' ops' fs' t', sz < n' + p' ∧ M1 T lt nT n k 1 c p ops fs (0 :: ts) = opr T lt nT n' p' ops' fs' (t' :: ts) ∧ drF 3 ops' fs' = drF 3 ops (f :: fs) ∧ EC 0 (T p') t' := by
    intro p ops fs ts n k c hp hj hb hn hk h17
    obtain ⟨hE, hO⟩ := LC_cmp hT hx p ops fs 0 ts n k 1 c hp hj hb rfl (fun _ => h17) hn hk
    refine ⟨hE, fun p' f he => ?_⟩
    obtain ⟨q1, q2, n1, ops1, fs1, t1, q3, q4, q5, q6⟩ := hO p' f he
    exact ⟨q1, q2, n1, ops1, fs1, t1, q3, q4, by rw [← drF_drF (show 3 ≤ 4 by omega) ops1 fs1, q5], q6⟩
  intro i
  induction i with
  | zero =>
    intro p ops fs ts n k c hc hp hj hb hn hk
    by_cases h17 : kwT (T p) = 17
    · rw [show rdNot T lt nT ex 0 p = _ from if_pos h17]
      cases k with
      | zero => omega
      | succ k =>
        have e : opd T lt nT (k + 1) 1 c p ops (0 :: ts) = .error (2, p) := by
          show (if _ then _ else _) = _
          rw [if_pos ⟨rfl, h17⟩, if_pos (by omega)]
        refine ⟨fun e' he => ?_, fun p' f he => (by cases he)⟩
        cases he
        unfold M1
        rw [e]
        rfl
    · rw [show rdNot T lt nT ex 0 p = _ from if_neg h17]
      exact base p ops fs ts n k c hp hj hb hn hk h17
  | succ i ih =>
    intro p ops fs ts n k c hc hp hj hb hn hk
    by_cases h17 : kwT (T p) = 17
    · rw [show rdNot T lt nT ex (i + 1) p = _ from if_pos h17]
      have hz := hT.2 p hp
      have hp2 := hz.2 (by have := kwT_1 (t := T p) (by omega); omega)
      cases k with
      | zero => omega
      | succ k =>
        have e : M1 T lt nT n (k + 1) 1 c p ops fs (0 :: ts) = M1 T lt nT n k 1 (c + 1) (T p 22) (3 :: ops) fs (0 :: ts) := by
          have e0 : opd T lt nT (k + 1) 1 c p ops (0 :: ts) = opd T lt nT k 1 (c + 1) (T p 22) (3 :: ops) (0 :: ts) := by
            show (if _ then _ else _) = _
            rw [if_pos ⟨rfl, h17⟩, if_neg (by omega)]
          unfold M1
          rw [e0]
        rw [e]
        obtain ⟨gE, gO⟩ := ih (T p 22) (3 :: ops) fs ts n k (c + 1) (by omega) hz.1 hj (BS_a _ (by decide)) (by omega) (by omega)
        cases hs : rdNot T lt nT ex i (T p 22) with
        | error e =>
          rw [andT_er (rfl : (Except.error e : Er (Nat × Fn)) = _)]
          exact ⟨fun e' he => (by cases he; exact gE e hs), fun p' f he => (by cases he)⟩
        | ok z =>
          obtain ⟨p3, g⟩ := z
          obtain ⟨g1, g2, n3, ops3, fs3, t3, g3, g4, g5, g6⟩ := gO p3 g hs
          rw [andT_ok (rfl : (Except.ok (p3, g) : Er (Nat × Fn)) = _), g4]
          refine ⟨fun e he => (by cases he), fun p' f he => ?_⟩
          cases he
          refine ⟨by omega, g2, n3, ops3, fs3, t3, g3, rfl, ?_, g6⟩
          rw [g5, drF_y (by decide) (by decide), apF_3]
    · rw [show rdNot T lt nT ex (i + 1) p = _ from if_neg h17]
      exact base p ops fs ts n k c hp hj hb hn hk h17
theorem LC_not {ex : Nat → Er (Nat × Fn)} {j : Nat} (hT : TKo T sz) (hx : LX T lt nT sz ex j) : LC T lt nT sz (rdNot T lt nT ex 6) j 3 pnB (fun t => t = 0) EC := by
  intro p ops fs t ts n k nt c hp hj hb ht hpc hn hk
  subst ht
  obtain ⟨rfl, rfl⟩ := hpc
  obtain ⟨hE, hO⟩ := LN hT hx 6 p ops fs ts n k 0 rfl hp hj (hb.le (by omega)) hn hk
  refine ⟨hE, fun p' f he => ?_⟩
  obtain ⟨q1, q2, n1, ops1, fs1, t1, q3, q4, q5, q6⟩ := hO p' f he
  exact ⟨q1, q2, n1, ops1, fs1, t1, q3, q4, by rw [q5]; exact hb 3 _ (Nat.le_refl _), q6⟩
theorem LC_or {ex : Nat → Er (Nat × Fn)} {j : Nat} (hT : TKo T sz) (hx : LX T lt nT sz ex j) : LC T lt nT sz (rdOr T lt nT ex) j 1 pnB (fun t => t = 0) (fun t tok t' => (EC t tok t' ∧ opA tok = 0) ∧ opO tok = 0) := by
  refine LC_ch hT (LC_ch hT (LC_not hT hx) (by omega) opA_ok ?_ ?_) (by omega) opO_ok ?_ ?_
  · intro tok t t1 ts h _ e
    exact ⟨0, (opA_tk h).2 _ _, rfl, fun _ _ q => q⟩
  · intro tok p h
    exact ⟨(opA_tk h).1, rfl⟩
  · intro tok t t1 ts h _ e
    exact ⟨0, (opO_tk h).2 _ _, rfl, fun _ _ q => q⟩
  · intro tok p h
    exact ⟨(opO_tk h).1, rfl⟩
theorem opd_nb {n p : Nat} {ops ts : List Nat} (h : ¬ isB (T p)) : opd T lt nT (n + 1) 1 0 p ops ts = .error (1, p) := by
  rw [opd_pt (fun q => h (Or.inr (Or.inr q))) (fun _ q => h (Or.inr (Or.inl (kwT_1 (by omega)))))]
  unfold partC
  rw [if_neg (fun q => h (Or.inl q)), if_neg (fun q => h (Or.inr (Or.inl q)))]
  rfl
theorem LX_rd (hT : TKo T sz) : ∀ j, LX T lt nT sz (rdEx T lt nT j) j
  | 0 => by
    intro p ops fs t ts n k hp hj hn hk
    rw [if_neg (by omega)]
    exact ⟨fun e he => he, fun p' f he => (by cases he)⟩
  | j + 1 => by
    intro p ops fs t ts n k hp hj hn hk
    have hl : (0 :: t :: ts).length = (t :: ts).length + 1 := rfl
    rw [if_pos (by omega)]
    by_cases hb : isB (T p)
    · obtain ⟨hE, hO⟩ := LC_or hT (LX_rd hT j) p (12 :: ops) fs 0 (t :: ts) n k 1 0 hp (by omega) (BS_op 1 ops) rfl ⟨rfl, rfl⟩ hn hk
      rw [show rdEx T lt nT (j + 1) p = _ from if_pos hb]
      refine ⟨hE, fun p' f he => ?_⟩
      obtain ⟨q1, q2, n1, ops1, fs1, t1, q3, q4, q5, ⟨⟨⟨q6, q7⟩, q8⟩, q9⟩, q10⟩ := hO p' f he
      exact ⟨q1, q2, n1, ops1, fs1, t1, q3, q4, q5, opK_0 q6 q7 q8 q9 q10⟩
    · rw [show rdEx T lt nT (j + 1) p = _ from if_neg hb]
      refine ⟨fun e he => ?_, fun p' f he => (by cases he)⟩
      cases he
      cases k with
      | zero => omega
      | succ k =>
        unfold M1
        rw [opd_nb hb]
        rfl
theorem exM_rd (hT : TKo T sz) {p : Nat} (hp : p ≤ sz) : exM T lt nT p = rdEx T lt nT 6 p := by
  have e0 : exM T lt nT p = M1 T lt nT 701 701 1 0 p [] [] [0] := rfl
  rw [e0]
  by_cases hb : isB (T p)
  · obtain ⟨hE, hO⟩ := LC_or hT (LX_rd hT 5) p [] [] 0 [] 701 701 1 0 hp rfl (BS_nil 1) rfl ⟨rfl, rfl⟩ (by have := hT.1; omega) (by have := hT.1; omega)
    rw [show rdEx T lt nT 6 p = _ from if_pos hb]
    cases hs : rdOr T lt nT (rdEx T lt nT 5) p with
    | error e => exact hE e hs
    | ok z =>
      obtain ⟨p', f⟩ := z
      obtain ⟨q1, q2, n1, ops1, fs1, t1, q3, q4, q5, ⟨⟨⟨q6, q7⟩, q8⟩, q9⟩, q10⟩ := hO p' f hs
      rw [q4]
      cases n1 with
      | zero => omega
      | succ n2 =>
        rw [opr_en (ts := [t1]) (opK_0 q6 q7 q8 q9 q10) (by simp), ← drF_drF (show 0 ≤ 1 by omega) ops1 fs1, q5]
        rfl
  · rw [show rdEx T lt nT 6 p = _ from if_neg hb]
    unfold M1
    rw [opd_nb hb]
    rfl
end SIM
