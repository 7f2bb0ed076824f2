/-! ===== the simple calls, as both sides must answer them ===== -/
theorem Ct.post {G : Gl} {y : MethodName} {cy : ByteArray} {nY : Nat} {rY : Option FieldType} {d kc ks : Nat} {args : List Value} {η : AH} {P P' : Rs → AH → Prop} (hM : Ct G y cy nY rY d kc ks args η P) (hp : ∀ r η, P r η → P' r η) : Ct G y cy nY rY d kc ks args η P' := fun p e h1 h2 h3 s m args' below hf ha hP hK => by
  obtain ⟨n, o, q1, q2, q3, q4⟩ := hM p e h1 h2 h3 s m args' below hf ha hP hK
  refine ⟨n, o, q1, q2, q3, ?_⟩
  rcases q4 with ⟨⟨v, η', e, h, r⟩, q5⟩ | ⟨q, e, E, ce, L, ⟨η', h, r⟩, q5⟩
  · exact Or.inl ⟨⟨v, η', e, hp _ _ h, r⟩, q5⟩
  · exact Or.inr ⟨q, e, E, ce, L, ⟨η', hp _ _ h, r⟩, q5⟩
def spCount (A : AS) (a : Int32) : Option Int32 := (nOf a 7).map fun j => nI (if j = 0 then tN A.1 29 else if j = 1 then tN A.1 30 else if j = 2 then tN A.1 31 else if j = 3 then tN A.1 32 else if j = 4 then (if tN A.1 33 = 0 then 0 else 1) else if j = 5 then A.2.2.2.2.2.1.length else A.2.2.1)
def sp2 (n1 n2 : Nat) (f : Nat → Nat → Int32) (a b : Int32) : Option Int32 := match nOf a n1 with
  | none => none
  | some i => (nOf b n2).map fun j => f i j
theorem sp2_y {n1 n2 i j : Nat} {f : Nat → Nat → Int32} (hi : i < n1) (hj : j < n2) (h1 : n1 < 2147483648) (h2 : n2 < 2147483648) : sp2 n1 n2 f (nI i) (nI j) = some (f i j) := by
  unfold sp2
  rw [nOf_some hi h1, nOf_some hj h2]
  rfl
theorem sp2_n {n1 n2 : Nat} {f : Nat → Nat → Int32} {a b : Int32} (h : ¬ (inr a n1 ∧ inr b n2)) (h1 : n1 < 2147483648) (h2 : n2 < 2147483648) : sp2 n1 n2 f a b = none := by
  unfold sp2
  by_cases c : inr a n1
  · obtain ⟨i, hi, e⟩ := c
    rw [e, nOf_some hi h1, nOf_none (fun q => h ⟨⟨i, hi, e⟩, q⟩) h2]
    rfl
  · rw [nOf_none c h1]
def spThing (A : AS) : Int32 → Int32 → Option Int32 := sp2 (tN A.1 30) 3 fun i j => nI (if j = 0 then tA A.1 38 i else if j = 1 then tA A.1 39 i else tA A.1 40 i)
def spBoat (A : AS) : Int32 → Int32 → Option Int32 := sp2 (tN A.1 31) 3 fun i j => nI (if j = 0 then tA A.1 41 i else if j = 1 then tA A.1 42 i else tA A.1 43 i)
def spWater (A : AS) : Int32 → Int32 → Option Int32 := sp2 (tN A.1 29) (tN A.1 29) fun i j => nI (flT A.1 i j)
def spBars (A : AS) (s l : Nat) : Int32 → Int32 → Option Int32 := sp2 (tN A.1 29 + 1) 3 fun i j => nI (bfT A.1 i (if i = tN A.1 29 then 1 else j) l (s % 2 ^ tN A.1 30))
def spSafe (A : AS) (l : Nat) : Int32 → Int32 → Option Int32 := sp2 (tN A.1 29 + 1) 3 fun i j => nI (sfN (fun s => bfT A.1 i (if i = tN A.1 29 then 1 else j) l s) (2 ^ tN A.1 30))
/-- a pair of numbers is right, or not -/
theorem pr_cases {m : Nat} {ad : Nat → Nat} {η0 : AH} {rt : Td → Nat} {A : AS} {n1 n2 : Nat} {f : Nat → Nat → Int32} {a b : Int32} (h1 : n1 < 2147483648) (h2 : n2 < 2147483648) {Q : Int32 → AH → Prop} (hn : ¬ (inr a n1 ∧ inr b n2) → ∀ r η, Q r η → ∃ σ2, η = MH m ad σ2 η0 ∧ MG rt σ2 A ∧ gN σ2 0 = 1) (hy : ∀ i j, i < n1 → j < n2 → a = nI i → b = nI j → ∀ r η, Q r η → r = f i j ∧ ∃ σ2, η = MH m ad σ2 η0 ∧ MG rt σ2 A ∧ gN σ2 0 = 0) : ∀ r η, ri Q r η → ap rt m ad η0 (sp2 n1 n2 f a b) A r η := by
  rintro r η ⟨x, rfl, hq⟩
  by_cases c : inr a n1 ∧ inr b n2
  · obtain ⟨⟨i, hi, e1⟩, ⟨j, hj, e2⟩⟩ := c
    obtain ⟨rfl, σ2, h3, h4, h5⟩ := hy i j hi hj e1 e2 x η hq
    rw [e1, e2, sp2_y hi hj h1 h2]
    exact ⟨_, rfl, σ2, h3, h4, fun q => (by cases q), fun v q => (by cases q; exact ⟨rfl, h5⟩)⟩
  · obtain ⟨σ2, h3, h4, h5⟩ := hn c x η hq
    rw [sp2_n c h1 h2]
    exact ⟨_, rfl, σ2, h3, h4, fun _ => h5, fun v q => (by cases q)⟩
theorem cA_count {G : Gl} {m : Nat} {ad : Nat → Nat} {η0 : AH} (hap : Mp m ad) (σ : MS) {rt : Td → Nat} (A : AS) (hG : MG rt σ A) (a : Int32) : Ct G yX8_count cX8_count 2 (some .int) 2 0 0 [.ref m, .int a] (MH m ad σ η0) (ap rt m ad η0 (spCount A a) A) := by
  have hl := hG.1.1.1.1
  refine Ct.post (cM_count hap σ a (by rw [hG.1.1.2.1.2.2.2.2.1]; omega)) ?_
  rintro r η ⟨x, rfl, h1, h2⟩
  by_cases c : inr a 7
  · obtain ⟨j, hj, rfl⟩ := c
    obtain ⟨rfl, rfl⟩ := h2 j hj rfl
    unfold spCount
    rw [nOf_some hj (by decide)]
    obtain ⟨e1, e2, e3, e4, e5, -⟩ := hG.1.1.2.1
    refine ⟨_, rfl, sN σ 0 0, rfl, hG, fun q => (by cases q), fun v q => ?_⟩
    simp only [Option.map_some] at q
    cases q
    rw [e1, e2, e3, e4, e5, hG.2.2.2.2.2.2.2.1.1, hG.2.1.2.1]
    exact ⟨rfl, rfl⟩
  · obtain ⟨rfl, rfl⟩ := h1 c
    unfold spCount
    rw [nOf_none c (by decide)]
    exact ⟨_, rfl, sN σ 0 1, rfl, hG, fun _ => rfl, fun v q => (by cases q)⟩
theorem cA_thing_2 {G : Gl} {m : Nat} {ad : Nat → Nat} {η0 : AH} (hap : Mp m ad) (σ : MS) {rt : Td → Nat} (A : AS) (hG : MG rt σ A) (a b : Int32) : Ct G yX8_thing_2 cX8_thing_2 3 (some .int) 2 0 0 [.ref m, .int a, .int b] (MH m ad σ η0) (ap rt m ad η0 (spThing A a b) A) := by
  have hl := hG.1.1.1.1
  have e2 := hG.1.1.2.1.2.1
  refine Ct.post (cM_thing_2 hap σ a b (by omega)) (pr_cases (by omega) (by decide) (fun c r η h => (by obtain ⟨-, rfl⟩ := h.1 (by rw [e2]; exact c); exact ⟨sN σ 0 1, rfl, hG, rfl⟩)) (fun i j hi hj e1 e3 r η h => ?_))
  obtain ⟨rfl, rfl⟩ := h.2 i j (by omega) hj e1 e3
  obtain ⟨f1, f2, f3⟩ := hG.1.1.2.2.1 i hi
  rw [f1, f2, f3]
  exact ⟨rfl, sN σ 0 0, rfl, hG, rfl⟩
theorem cA_boat_2 {G : Gl} {m : Nat} {ad : Nat → Nat} {η0 : AH} (hap : Mp m ad) (σ : MS) {rt : Td → Nat} (A : AS) (hG : MG rt σ A) (a b : Int32) : Ct G yX8_boat_2 cX8_boat_2 3 (some .int) 2 0 0 [.ref m, .int a, .int b] (MH m ad σ η0) (ap rt m ad η0 (spBoat A a b) A) := by
  have hl := hG.1.1.1.1
  have e2 := hG.1.1.2.1.2.2.1
  refine Ct.post (cM_boat_2 hap σ a b (by omega)) (pr_cases (by omega) (by decide) (fun c r η h => (by obtain ⟨-, rfl⟩ := h.1 (by rw [e2]; exact c); exact ⟨sN σ 0 1, rfl, hG, rfl⟩)) (fun i j hi hj e1 e3 r η h => ?_))
  obtain ⟨rfl, rfl⟩ := h.2 i j (by omega) hj e1 e3
  obtain ⟨f1, f2, f3⟩ := hG.1.1.2.2.2.1 i hi
  rw [f1, f2, f3]
  exact ⟨rfl, sN σ 0 0, rfl, hG, rfl⟩
theorem cA_water_2 {G : Gl} {m : Nat} {ad : Nat → Nat} {η0 : AH} (hap : Mp m ad) (σ : MS) {rt : Td → Nat} (A : AS) (hG : MG rt σ A) (a b : Int32) : Ct G yX8_water_2 cX8_water_2 3 (some .boolean) 2 0 0 [.ref m, .int a, .int b] (MH m ad σ η0) (ap rt m ad η0 (spWater A a b) A) := by
  have hl := hG.1.1.1.1
  have e2 := hG.1.1.2.1.1
  have e13 := hG.1.1.2.1.2.2.2.2.2
  have hz : ∀ k, k < 16 → gA σ 12 k < 2 := fun k hk => by rw [hG.1.1.2.2.2.2.1 k hk]; exact hG.1.1.1.2.2.2.1 k hk
  refine Ct.post (cM_water_2 hap σ a b (by omega) (by omega) hz) (pr_cases (by omega) (by omega) (fun c r η h => (by obtain ⟨-, rfl⟩ := h.1 (by rw [e2]; exact c); exact ⟨sN σ 0 1, rfl, hG, rfl⟩)) (fun i j hi hj e1 e3 r η h => ?_))
  obtain ⟨rfl, rfl⟩ := h.2 i j (by omega) (by omega) e1 e3
  rw [e13, hG.1.1.2.2.2.2.1 _ (by omega)]
  exact ⟨rfl, sN σ 0 0, rfl, hG, rfl⟩
theorem MG.cp {rt : Td → Nat} {σ : MS} {A : AS} (h : MG rt σ A) {c : Nat → Nat} {p : Nat → Int32} (hc : Cch (bfT A.1) c) : MG rt (sCP σ c p) A := ⟨⟨h.1.1, hc, h.1.2.2⟩, h.2⟩
theorem cA_bars {G : Gl} {m : Nat} {ad : Nat → Nat} {η0 : AH} (hap : Mp m ad) (σ : MS) {rt : Td → Nat} (A : AS) (hG : MG rt σ A) (s : Nat) (a b : Int32) (l : Nat) (hl2 : l < 2) : Ct G yX8_bars cX8_bars 5 (some .int) 5 0 0 [.ref m, .int (nI s), .int a, .int b, .int (nI l)] (MH m ad σ η0) (ap rt m ad η0 (spBars A s l a b) A) := by
  have hl := hG.1.1.1.1
  have e1 := hG.1.1.2.1.1
  have e2 := hG.1.1.2.1.2.1
  refine Ct.post (cM_bars hap σ (bfT A.1) hG.1.1.2.2.2.2.2 hG.1.2.1 s a b l hl2) (pr_cases (by omega) (by decide) (fun c r η h => (by obtain ⟨-, rfl⟩ := h.1 (by rw [e1]; exact c); exact ⟨sN σ 0 1, rfl, hG, rfl⟩)) (fun i j hi hj e3 e4 r η h => ?_))
  obtain ⟨rfl, c, p, hc, rfl⟩ := h.2 i j (by omega) hj e3 e4
  rw [e1, e2]
  exact ⟨rfl, sCP (sN σ 0 0) c p, rfl, MG.cp (σ := sN σ 0 0) hG hc, rfl⟩
theorem cA_safe {G : Gl} {m : Nat} {ad : Nat → Nat} {η0 : AH} (hap : Mp m ad) (σ : MS) {rt : Td → Nat} (A : AS) (hG : MG rt σ A) (a b : Int32) (l : Nat) (hl2 : l < 2) : Ct G yX8_safe cX8_safe 6 (some .int) 5 0 0 [.ref m, .int a, .int b, .int (nI l)] (MH m ad σ η0) (ap rt m ad η0 (spSafe A l a b) A) := by
  have hl := hG.1.1.1.1
  have e1 := hG.1.1.2.1.1
  have e2 := hG.1.1.2.1.2.1
  refine Ct.post (cM_safe hap σ (bfT A.1) hG.1.1.2.2.2.2.2 hG.1.2.1 a b l hl2) (pr_cases (by omega) (by decide) (fun c r η h => (by obtain ⟨-, rfl⟩ := h.1 (by rw [e1]; exact c); exact ⟨sN σ 0 1, rfl, hG, rfl⟩)) (fun i j hi hj e3 e4 r η h => ?_))
  obtain ⟨rfl, c, p, hc, rfl⟩ := h.2 i j (by omega) hj e3 e4
  rw [e1, e2]
  exact ⟨rfl, sCP (sN σ 0 0) c p, rfl, MG.cp (σ := sN σ 0 0) hG hc, rfl⟩
theorem cA_fault {G : Gl} {m : Nat} {ad : Nat → Nat} {η0 : AH} (hap : Mp m ad) (σ : MS) {rt : Td → Nat} (A : AS) (hG : MG rt σ A)  : Ct G yX8_fault cX8_fault 1 (some .int) 1 0 0 [.ref m] (MH m ad σ η0) (ap rt m ad η0 (some (oI (A.2.2.2.1))) A) := by
  refine Ct.post (cM_fault hap σ) ?_
  rintro r η ⟨rfl, rfl⟩
  rw [hG.2.2.1.1]
  exact ⟨_, rfl, sN σ 0 0, rfl, hG, fun q => (by cases q), fun v q => (by cases q; exact ⟨rfl, rfl⟩)⟩
theorem cA_law {G : Gl} {m : Nat} {ad : Nat → Nat} {η0 : AH} (hap : Mp m ad) (σ : MS) {rt : Td → Nat} (A : AS) (hG : MG rt σ A)  : Ct G yX8_law cX8_law 1 (some .int) 1 0 0 [.ref m] (MH m ad σ η0) (ap rt m ad η0 (some (oI (A.2.2.2.2.2.2))) A) := by
  refine Ct.post (cM_law hap σ) ?_
  rintro r η ⟨rfl, rfl⟩
  rw [hG.2.2.2.2.2.2.2.2.1]
  exact ⟨_, rfl, sN σ 0 0, rfl, hG, fun q => (by cases q), fun v q => (by cases q; exact ⟨rfl, rfl⟩)⟩
def layT (tp : Nat → Nat) (n : Nat) (v : Int32) : Nat → Nat := va_up (va_up (va_up (va_up tp n (byI v 24)) (n + 1) (byI v 16)) (n + 2) (byI v 8)) (n + 3) (byI v 0)
theorem layT_lt {tp : Nat → Nat} {n : Nat} {v : Int32} (h : ∀ k, k < 700 → tp k < 256) : ∀ k, k < 700 → layT tp n v k < 256 := fun k hk => va_upQ (P := fun x => x < 256) (va_upQ (P := fun x => x < 256) (va_upQ (P := fun x => x < 256) (va_upQ (P := fun x => x < 256) (h k hk) (Nat.mod_lt _ (by decide))) (Nat.mod_lt _ (by decide))) (Nat.mod_lt _ (by decide))) (Nat.mod_lt _ (by decide))
def spFeed (A : AS) (v1 v2 v3 v4 v5 : Int32) : Int32 × AS := if 680 < A.2.2.1 then (-1, A) else (nI (A.2.2.1 + 20), (A.1, layT (layT (layT (layT (layT A.2.1 A.2.2.1 v1) (A.2.2.1 + 4) v2) (A.2.2.1 + 8) v3) (A.2.2.1 + 12) v4) (A.2.2.1 + 16) v5, A.2.2.1 + 20, A.2.2.2))
theorem cA_feed {G : Gl} {m : Nat} {ad : Nat → Nat} {η0 : AH} (hap : Mp m ad) (σ : MS) {rt : Td → Nat} (A : AS) (hG : MG rt σ A) (v1 v2 v3 v4 v5 : Int32) : Ct G yX8_feed cX8_feed 6 (some .int) 2 0 0 [.ref m, .int v1, .int v2, .int v3, .int v4, .int v5] (MH m ad σ η0) (ap rt m ad η0 (some (spFeed A v1 v2 v3 v4 v5).1) (spFeed A v1 v2 v3 v4 v5).2) := by
  obtain ⟨t1, t2, t3, t4, t5⟩ := hG.2.1
  refine Ct.post (cM_feed hap σ v1 v2 v3 v4 v5 (by omega)) ?_
  rintro r η ⟨h1, h2⟩
  unfold spFeed
  rw [t2] at h1 h2
  split
  · next c =>
    obtain ⟨rfl, rfl⟩ := h1 c
    exact ⟨_, rfl, sN σ 0 0, rfl, hG, fun q => (by cases q), fun v q => (by cases q; exact ⟨rfl, rfl⟩)⟩
  · next c =>
    obtain ⟨rfl, rfl⟩ := h2 (by omega)
    refine ⟨_, rfl, _, rfl, ⟨hG.1, ⟨?_, ?_, by show A.2.2.1 + 20 ≤ 700; omega, layT_lt (layT_lt (layT_lt (layT_lt (layT_lt t4)))), t5⟩, hG.2.2⟩, fun q => (by cases q), fun v q => (by cases q; exact ⟨rfl, rfl⟩)⟩
    · show layT (layT (layT (layT (layT (gA σ 17) (gN σ 18) v1) (gN σ 18 + 4) v2) (gN σ 18 + 4 + 4) v3) (gN σ 18 + 4 + 4 + 4) v4) (gN σ 18 + 4 + 4 + 4 + 4) v5 = _
      rw [t1, t2]
    · show gN σ 18 + 4 + 4 + 4 + 4 + 4 = _
      rw [t2]
def spBack (A : AS) : Int32 × AS := if A.2.2.2.2.2.1.length = 0 then (-1, A) else (nI (A.2.2.2.2.2.1.length - 1), (A.1, A.2.1, A.2.2.1, A.2.2.2.1, A.2.2.2.2.1, A.2.2.2.2.2.1.take (A.2.2.2.2.2.1.length - 1), A.2.2.2.2.2.2))
theorem lgL.take {τ : Td} {l : List Mv} (h : lgL τ l) (n : Nat) : lgL τ (l.take n) := fun i hi => by
  rw [List.length_take] at hi
  have := h i (by omega)
  rw [List.take_take, show min i n = i by omega, List.getD_eq_getElem?_getD, List.getElem?_take_of_lt (by omega), ← List.getD_eq_getElem?_getD]
  exact this
theorem cA_back {G : Gl} {m : Nat} {ad : Nat → Nat} {η0 : AH} (hap : Mp m ad) (σ : MS) {rt : Td → Nat} (A : AS) (hG : MG rt σ A)  : Ct G yX8_back cX8_back 1 (some .int) 1 0 0 [.ref m] (MH m ad σ η0) (ap rt m ad η0 (some (spBack A).1) (spBack A).2) := by
  obtain ⟨p1, p2, p3, p4, p5⟩ := hG.2.2.2.2.2.2.2.1
  refine Ct.post (cM_back hap σ (by omega)) ?_
  rintro r η ⟨h1, h2⟩
  unfold spBack
  rw [p1] at h1 h2
  split
  · next c =>
    obtain ⟨rfl, rfl⟩ := h1 c
    exact ⟨_, rfl, sN σ 0 0, rfl, hG, fun q => (by cases q), fun v q => (by cases q; exact ⟨rfl, rfl⟩)⟩
  · next c =>
    obtain ⟨rfl, rfl⟩ := h2 c
    obtain ⟨a1, a2, a3, a4, a5, a6, a7, -, a9⟩ := hG
    refine ⟨_, rfl, _, rfl, ⟨a1, a2, a3, a4, a5, a6, a7, ⟨?_, ?_, fun i hi => ?_, fun z hz => p4 z (List.mem_of_mem_take hz), lgL.take p5 _⟩, a9⟩, fun q => (by cases q), fun v q => (by cases q; exact ⟨rfl, rfl⟩)⟩
    · show A.2.2.2.2.2.1.length - 1 = _
      rw [List.length_take]
      omega
    · show (A.2.2.2.2.2.1.take _).length ≤ 60
      rw [List.length_take]
      omega
    · have hi : i ≤ (A.2.2.2.2.2.1.take (A.2.2.2.2.2.1.length - 1)).length := hi
      rw [List.length_take] at hi
      show gA σ 86 i = stL A.1 ((A.2.2.2.2.2.1.take _).take i) ∧ stL A.1 ((A.2.2.2.2.2.1.take _).take i) < _ ∧ gA σ 87 i = mnL A.1 ((A.2.2.2.2.2.1.take _).take i)
      rw [List.take_take, show min i (A.2.2.2.2.2.1.length - 1) = i by omega]
      exact p3 i (by omega)
def spText (A : AS) (a : Int32) : Option Int32 × AS := match nOf a (A.2.2.1 + 1) with
  | none => (none, A)
  | some n => match textE (tk A.2.1 n) with
    | .ok τ => (some (nI 0), (τ, A.2.1, 0, 0, none, [], 0))
    | .error e => (some (nI e.1), (A.1, A.2.1, 0, tk A.2.1 n e.2 24 + 1, A.2.2.2.2))
theorem cA_text {G : Gl} {m : Nat} {ad : Nat → Nat} {η0 : AH} (hap : Mp m ad) (σ : MS) {rt : Td → Nat} (A : AS) (hG : MG rt σ A) (a : Int32) : Ct G yX8_text cX8_text 3 (some .int) 9 0 0 [.ref m, .int a] (MH m ad σ η0) (ap rt m ad η0 (spText A a).1 (spText A a).2) := by
  obtain ⟨t1, t2, t3, t4, t5⟩ := hG.2.1
  refine Ct.post (cM_text hap σ a (by omega) (by rw [t1]; exact t4) t5) ?_
  rintro r η ⟨x, rfl, h1, h2⟩
  rw [t2] at h1 h2
  by_cases c : inr a (A.2.2.1 + 1)
  · obtain ⟨n, hn, rfl⟩ := c
    obtain ⟨h3, h4⟩ := h2 n (by omega) rfl
    have E0 := nOf_some hn (show A.2.2.1 + 1 < 2^31 by omega)
    rw [t1] at h3 h4
    cases hx : textE (tk A.2.1 n) with
    | ok τ =>
      obtain ⟨rfl, σ2, c, k1, k2, k3, k4, k5, k6, k7, k8, rfl⟩ := h3 τ hx
      have E : spText A (nI n) = (some (nI 0), (τ, A.2.1, 0, 0, none, [], 0)) := by
        unfold spText
        rw [E0]
        dsimp only
        rw [hx]
      rw [E]
      refine ⟨_, rfl, BG σ2 c, rfl, ⟨⟨k1, fun s sh b l q1 q2 q3 q4 => Or.inl (k3 _ (by omega)), rfl, by show 0 < 2; decide, by show gN σ2 66 < 2; rw [k7]; exact hG.1.2.2.2.2.1, fun q => absurd (show 0 = 1 from q) (by decide)⟩, ⟨k8, k5, Nat.zero_le _, t4, k2⟩, ⟨k6, trivial⟩, rfl, ⟨by show 0 < 3; decide, fun q => absurd (show 0 = 1 from q) (by decide), fun q => absurd (show 0 = 2 from q) (by decide)⟩, ⟨Or.inl (show va_up (va_up (gA σ2 81) 0 0) 1 0 0 = 0 by rw [va_up_n (by decide), va_up_e]), Or.inl (show va_up (va_up (gA σ2 81) 0 0) 1 0 1 = 0 from va_up_e)⟩, Or.inl rfl, ⟨rfl, by show 0 ≤ 60; decide, fun i hi => ?_, fun z hz => (by cases hz), fun i hi => absurd hi (by show ¬ i < 0; omega)⟩, rfl, by show 0 ≤ 12; decide⟩, fun q => (by cases q), fun v q => (by cases q; exact ⟨rfl, k4⟩)⟩
      have hi : i ≤ 0 := hi
      have e : i = 0 := by omega
      subst e
      have e3 : st0 (gA σ2 11) (gN σ2 3) (gN σ2 5) = stT τ := by
        unfold stT st0
        rw [k1.2.1.2.2.1, k1.2.1.2.2.2.2.1, stN_congr (fun i hi => (k1.2.2.2.1 i hi).2.2)]
      exact ⟨(show va_up (gA σ2 86) 0 _ 0 = _ from va_up_e).trans e3, stT_lt k1.1, show va_up (gA σ2 87) 0 0 0 = 0 from va_up_e⟩
    | error e =>
      obtain ⟨k, q⟩ := e
      obtain ⟨rfl, σ2, rfl, k1, k2, k3⟩ := h4 k q hx
      have E : spText A (nI n) = (some (nI k), (A.1, A.2.1, 0, tk A.2.1 n q 24 + 1, A.2.2.2.2)) := by
        unfold spText
        rw [E0]
        dsimp only
        rw [hx]
      rw [E]
      have n : ∀ k, k < 19 ∧ k ≠ 0 ∧ k ≠ 18 ∨ 49 < k → gN σ2 k = gN σ k := fun k hk => by
        rw [k1.1 k (by omega)]
        unfold TX0
        simp only [gN_sN]
        repeat rw [if_neg (by omega)]
      have av : ∀ k, k < 18 ∨ 49 < k → gA σ2 k = gA σ k := fun k hk => k1.2.1 k hk
      have bv : ∀ k, k ≠ 44 → gB σ2 k = gB σ k := fun k hk => k1.2.2.1 k hk
      refine ⟨_, rfl, σ2, rfl, ?_, fun q => (by cases q), fun v q => (by cases q; exact ⟨rfl, k1.1 0 (by decide)⟩)⟩
      obtain ⟨⟨⟨h1, h2, h3, h4, h5, h6⟩, m2, m3, m4, m5, m6⟩, ⟨b1, b2, b3, b4, b5⟩, ⟨c1, c2⟩, d, e, f, g, p, i, j⟩ := hG
      refine ⟨⟨⟨h1, ?_, ?_, ?_, ?_, ?_⟩, by rw [av 50 (by decide)]; exact m2, (n 52 (by decide)).trans m3, by rw [n 67 (by decide)]; exact m4, by rw [n 66 (by decide)]; exact m5, ?_⟩, ⟨(av 17 (by decide)).trans b1, k1.1 18 (by decide), Nat.zero_le _, b4, k2⟩, ⟨k3, trivial⟩, d.q (n 70 (by decide)) (n 71 (by decide)) (fun k h1 h2 => av k (by omega)), ?_, ?_, ?_, ?_, (n 85 (by decide)).trans i, j⟩
      · rw [n 1 (by decide), n 2 (by decide), n 3 (by decide), n 4 (by decide), n 5 (by decide), n 13 (by decide)]
        exact h2
      · rw [av 6 (by decide), av 7 (by decide), av 8 (by decide)]
        exact h3
      · rw [av 9 (by decide), av 10 (by decide), av 11 (by decide)]
        exact h4
      · rw [av 12 (by decide)]
        exact h5
      · unfold BarO
        rw [n 1 (by decide), n 2 (by decide), n 4 (by decide), av 6 (by decide), av 7 (by decide), av 15 (by decide), av 16 (by decide), bv 14 (by decide)]
        exact h6
      · unfold FD XM FSA
        rw [n 67 (by decide), n 66 (by decide), n 54 (by decide), n 55 (by decide), av 56 (by decide), av 57 (by decide), av 58 (by decide), av 59 (by decide), av 60 (by decide), av 61 (by decide), av 62 (by decide), av 63 (by decide), av 64 (by decide)]
        exact m6
      · unfold LK
        rw [n 78 (by decide), n 79 (by decide), n 80 (by decide)]
        exact e
      · unfold SKn
        rw [av 81 (by decide)]
        exact f
      · unfold RK
        rw [n 82 (by decide)]
        exact g
      · unfold PL
        rw [n 84 (by decide), av 86 (by decide), av 87 (by decide)]
        exact p
  · obtain ⟨rfl, rfl⟩ := h1 c
    unfold spText
    rw [nOf_none c (by omega)]
    exact ⟨_, rfl, sN σ 0 1, rfl, hG, fun _ => rfl, fun v q => (by cases q)⟩
