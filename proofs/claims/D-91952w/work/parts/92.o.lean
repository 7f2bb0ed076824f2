set_option maxRecDepth 100000
/-! ===== the classes' kinds ===== -/
def kdX7 : Nat → Nat := fun k => match k with
  | 0 => 3
  | 1 => 10
  | 2 => 10
  | 3 => 1
  | _ => 0
def lnX7 : Nat → Nat := fun k => match k with
  | 1 => 2
  | 2 => 4
  | _ => 0
abbrev scX7 : Sc := (8, 4, kdX7, lnX7)
def kdX2 : Nat → Nat := fun k => match k with
  | 0 => 0
  | 1 => 0
  | 2 => 1
  | 3 => 0
  | 4 => 10
  | 5 => 10
  | 6 => 10
  | 7 => 3
  | 8 => 3
  | 9 => 3
  | 10 => 3
  | _ => 0
def lnX2 : Nat → Nat := fun k => match k with
  | 4 => 8
  | 5 => 8
  | 6 => 8
  | _ => 0
abbrev scX2 : Sc := (1, 11, kdX2, lnX2)
def kdX17 : Nat → Nat := fun k => match k with
  | 0 => 3
  | 1 => 1
  | 2 => 1
  | 3 => 0
  | 4 => 0
  | 5 => 0
  | 6 => 0
  | 7 => 3
  | 8 => 0
  | _ => 0
def lnX17 : Nat → Nat := fun _ => 0
abbrev scX17 : Sc := (21, 9, kdX17, lnX17)
def kdX3 : Nat → Nat := fun k => match k with
  | 0 => 3
  | 1 => 3
  | 2 => 10
  | 3 => 11
  | 4 => 10
  | 5 => 10
  | 6 => 10
  | 7 => 10
  | 8 => 10
  | 9 => 0
  | 10 => 0
  | 11 => 0
  | 12 => 11
  | 13 => 11
  | 14 => 0
  | 15 => 0
  | 16 => 10
  | 17 => 11
  | 18 => 11
  | 19 => 12
  | _ => 0
def lnX3 : Nat → Nat := fun k => match k with
  | 2 => 2000
  | 3 => 8192
  | 4 => 2000
  | 5 => 2001
  | 6 => 40000
  | 7 => 40000
  | 8 => 40000
  | 12 => 2000
  | 13 => 2000
  | 16 => 40000
  | 17 => 2000
  | 18 => 40000
  | 19 => 2000
  | _ => 0
abbrev scX3 : Sc := (3, 20, kdX3, lnX3)
def kdX1 : Nat → Nat := fun k => match k with
  | 0 => 3
  | 1 => 13
  | 2 => 0
  | 3 => 1
  | 4 => 3
  | 5 => 3
  | 6 => 0
  | 7 => 3
  | 8 => 3
  | 9 => 1
  | 10 => 3
  | 11 => 0
  | 12 => 0
  | 13 => 2
  | 14 => 2
  | 15 => 0
  | 16 => 0
  | 17 => 0
  | 18 => 0
  | _ => 0
def lnX1 : Nat → Nat := fun k => match k with
  | 1 => 700
  | _ => 0
abbrev scX1 : Sc := (0, 19, kdX1, lnX1)
def kdX4 : Nat → Nat := fun k => match k with
  | 0 => 3
  | 1 => 0
  | 2 => 0
  | 3 => 0
  | 4 => 0
  | _ => 0
def lnX4 : Nat → Nat := fun _ => 0
abbrev scX4 : Sc := (4, 5, kdX4, lnX4)
def kdX18 : Nat → Nat := fun k => match k with
  | 0 => 3
  | 1 => 3
  | 2 => 3
  | 3 => 12
  | 4 => 3
  | 5 => 3
  | 6 => 0
  | 7 => 0
  | 8 => 3
  | _ => 0
def lnX18 : Nat → Nat := fun k => match k with
  | 3 => 1024
  | _ => 0
abbrev scX18 : Sc := (22, 9, kdX18, lnX18)
def kdX9 : Nat → Nat := fun k => match k with
  | 0 => 0
  | 1 => 3
  | 2 => 0
  | 3 => 0
  | 4 => 0
  | 5 => 0
  | 6 => 0
  | 7 => 3
  | _ => 0
def lnX9 : Nat → Nat := fun _ => 0
abbrev scX9 : Sc := (11, 8, kdX9, lnX9)
def kdX11 : Nat → Nat := fun k => match k with
  | 0 => 0
  | 1 => 0
  | 2 => 0
  | _ => 0
def lnX11 : Nat → Nat := fun _ => 0
abbrev scX11 : Sc := (13, 3, kdX11, lnX11)
def kdX12 : Nat → Nat := fun k => match k with
  | 0 => 3
  | 1 => 2
  | _ => 0
def lnX12 : Nat → Nat := fun _ => 0
abbrev scX12 : Sc := (14, 2, kdX12, lnX12)
def kdX13 : Nat → Nat := fun k => match k with
  | 0 => 0
  | _ => 0
def lnX13 : Nat → Nat := fun _ => 0
abbrev scX13 : Sc := (15, 1, kdX13, lnX13)
def kdX14 : Nat → Nat := fun k => match k with
  | 0 => 0
  | _ => 0
def lnX14 : Nat → Nat := fun _ => 0
abbrev scX14 : Sc := (16, 1, kdX14, lnX14)
def kdX15 : Nat → Nat := fun k => match k with
  | 0 => 0
  | _ => 0
def lnX15 : Nat → Nat := fun _ => 0
abbrev scX15 : Sc := (18, 1, kdX15, lnX15)
def kdX16 : Nat → Nat := fun k => match k with
  | 0 => 3
  | _ => 0
def lnX16 : Nat → Nat := fun _ => 0
abbrev scX16 : Sc := (19, 1, kdX16, lnX16)
def kdX6 : Nat → Nat := fun k => match k with
  | 0 => 3
  | 1 => 3
  | _ => 0
def lnX6 : Nat → Nat := fun _ => 0
abbrev scX6 : Sc := (7, 2, kdX6, lnX6)
def kdJ2 : Nat → Nat := fun k => match k with
  | 0 => 2
  | 1 => 3
  | 2 => 0
  | _ => 0
def lnJ2 : Nat → Nat := fun _ => 0
abbrev scJ2 : Sc := (2, 3, kdJ2, lnJ2)
def kdJ6 : Nat → Nat := fun k => match k with
  | 0 => 2
  | _ => 0
def lnJ6 : Nat → Nat := fun _ => 0
abbrev scJ6 : Sc := (5, 1, kdJ6, lnJ6)
def kdJ19 : Nat → Nat := fun k => match k with
  | 0 => 3
  | 1 => 0
  | 2 => 0
  | 3 => 0
  | _ => 0
def lnJ19 : Nat → Nat := fun _ => 0
abbrev scJ19 : Sc := (17, 4, kdJ19, lnJ19)
theorem GO.rcv {S : Sc} {η : AH} {o : Option Nat} {a : Nat} {ad : Nat → Nat} {σ : MS} (h : GO S η o a ad σ) : ∃ z : Option Nat × (Nat → Value), η a = some (z.1, ob S.1 z.2) := by
  obtain ⟨F, h1, -⟩ := h
  exact ⟨(o, F), h1⟩
/-- a list of references (java.util.ArrayList): its elements, the room of its array -/
def AL (G : Gl) (η : AH) (o : Option Nat) (l : Nat) (xs : List Nat) (cap : Nat) : Prop := ∃ (ad : Nat → Nat) (σ : MS) (e : Nat) (f : Nat → Option Nat), GO scJ2 η o l ad σ ∧ gN σ 1 = e + 1 ∧ gN σ 2 = xs.length ∧ xs.length ≤ cap ∧ cap ≤ 20000 ∧ ((cap = 0 ∧ e = G.2.2.2 503 ∧ η e = some (none, aR 9 0 (fun _ => none))) ∨ (0 < cap ∧ η e = some (o, aR 9 cap f))) ∧ ∀ i, i < xs.length → f i = xs[i]?
theorem AL.kp {G : Gl} {lo hi : Nat} {η η' : AH} {o : Option Nat} {l cap : Nat} {xs : List Nat} (h : AL G η o l xs cap) (hk : Kp lo hi η η') (ho : ∀ w, o = some w → w < lo ∨ hi ≤ w) : AL G η' o l xs cap := by
  obtain ⟨ad, σ, e, f, h1, h2, h3, h4, h5, h6, h7⟩ := h
  refine ⟨ad, σ, e, f, h1.kp hk ho, h2, h3, h4, h5, ?_, h7⟩
  rcases h6 with ⟨g1, g2, g3⟩ | ⟨g1, g2⟩
  · exact Or.inl ⟨g1, g2, hk.celN g3⟩
  · exact Or.inr ⟨g1, hk.cel g2 ho⟩
theorem AL.kpN {G : Gl} {lo hi : Nat} {η η' : AH} {l cap : Nat} {xs : List Nat} (h : AL G η none l xs cap) (hk : Kp lo hi η η') : AL G η' none l xs cap := h.kp hk (fun _ q => nomatch q)
theorem AL.kpS {G : Gl} {lo hi t : Nat} {η η' : AH} {l cap : Nat} {xs : List Nat} (h : AL G η (some t) l xs cap) (hk : Kp lo hi η η') (ho : t < lo ∨ hi ≤ t) : AL G η' (some t) l xs cap := h.kp hk (fun w q => by cases q; exact ho)
theorem AL.rt {G : Gl} {η : AH} {t : Nat} {g : Nat → Option Nat} {l cap : Nat} {xs : List Nat} (h : AL G η (some t) l xs cap) : AL G (rtg g η) (g t) l xs cap := by
  obtain ⟨ad, σ, e, f, h1, h2, h3, h4, h5, h6, h7⟩ := h
  refine ⟨ad, σ, e, f, h1.rt, h2, h3, h4, h5, ?_, h7⟩
  rcases h6 with ⟨g1, g2, g3⟩ | ⟨g1, g2⟩
  · exact Or.inl ⟨g1, g2, rtg_n g3⟩
  · exact Or.inr ⟨g1, rtg_s g2⟩
theorem AL.rcv {G : Gl} {η : AH} {o : Option Nat} {l cap : Nat} {xs : List Nat} (h : AL G η o l xs cap) : ∃ z : Option Nat × (Nat → Value), η l = some (z.1, ob 2 z.2) := by
  obtain ⟨ad, σ, e, f, h1, -⟩ := h
  exact h1.rcv
/-- what the array of a list holds -/
theorem AL.el {G : Gl} {η : AH} {o : Option Nat} {l cap : Nat} {xs : List Nat} (h : AL G η o l xs cap) : ∃ (ad : Nat → Nat) (σ : MS) (e : Nat) (oe : Option Nat) (f : Nat → Option Nat), GO scJ2 η o l ad σ ∧ gN σ 1 = e + 1 ∧ gN σ 2 = xs.length ∧ xs.length ≤ cap ∧ cap ≤ 20000 ∧ η e = some (oe, aR 9 cap f) ∧ ∀ i, i < xs.length → f i = xs[i]? := by
  obtain ⟨ad, σ, e, f, h1, h2, h3, h4, h5, h6, h7⟩ := h
  rcases h6 with ⟨g1, g2, g3⟩ | ⟨g1, g2⟩
  · subst g1
    exact ⟨ad, σ, e, none, _, h1, h2, h3, h4, h5, g3, fun i hi => absurd hi (by omega)⟩
  · exact ⟨ad, σ, e, o, f, h1, h2, h3, h4, h5, g2, h7⟩
/-- what the world's own fields hold: L says where its other objects lie -/
def wsg (τ : Td) (L : Nat → Nat) : MS := (fun k => match k with
  | 0 => tN τ 29
  | 1 => tN τ 30
  | 2 => tN τ 33
  | 3 => if tN τ 37 = 0 then 1 else 0
  | k + 4 => L (k + 4) + 1, fun _ => 0, 0, fun k => match k with
  | 4 => tA τ 38
  | 5 => tA τ 39
  | _ => tA τ 40, fun _ _ => 0, fun _ => 0)
theorem ws_4 {τ : Td} {L : Nat → Nat} {i : Nat} : gA (wsg τ L) 4 i = tA τ 38 i := rfl
theorem ws_5 {τ : Td} {L : Nat → Nat} {i : Nat} : gA (wsg τ L) 5 i = tA τ 39 i := rfl
theorem ws_6 {τ : Td} {L : Nat → Nat} {i : Nat} : gA (wsg τ L) 6 i = tA τ 40 i := rfl
def bsg (τ : Td) (i : Nat) : MS := (fun k => match k with
  | 0 => tA τ 41 i
  | 1 => tA τ 42 i
  | _ => tA τ 43 i, fun _ => 0, 0, fun _ _ => 0, fun _ _ => 0, fun _ => 0)
/-- the rows of the waters at r -/
def Wwt (η : AH) (o : Option Nat) (r : Nat) (f : Nat → Nat) : Prop := ∃ g, η r = some (o, aR 5 4 g) ∧ ∀ a, a < 4 → ∃ q c, g a = some q ∧ η q = some (o, aZ 4 c) ∧ ∀ b, b < 4 → c b = nI (f (4 * a + b))
/-- the rows of what is barred -/
def Wbr (η : AH) (o : Option Nat) (r : Nat) (S M : Nat) (bf : Nat → Nat → Nat → Nat → Nat) : Prop := ∃ g4, η r = some (o, aR 8 5 g4) ∧ ∀ sh, sh ≤ S → ∃ a3 g3, g4 sh = some a3 ∧ η a3 = some (o, aR 7 3 g3) ∧ ∀ b, b < 3 → ∃ a2 g2, g3 b = some a2 ∧ η a2 = some (o, aR 6 2 g2) ∧ ∀ l, l < 2 → ∃ a1 g1, g2 l = some a1 ∧ η a1 = some (o, aS M g1) ∧ ∀ s, s < M → g1 s = nI (bf sh (if sh = S then 1 else b) l s)
def Wbo (G : Gl) (η : AH) (o : Option Nat) (r : Nat) (τ : Td) : Prop := ∃ xs cap, AL G η o r xs cap ∧ xs.length = tN τ 31 ∧ ∀ i, i < tN τ 31 → ∃ q ad, xs[i]? = some q ∧ GO scX11 η none q ad (bsg τ i)
/-- a world that is told: never written any more -/
def WdL (G : Gl) (η : AH) (w : Nat) (τ : Td) (ad L : Nat → Nat) : Prop := TB τ ∧ GO scX2 η none w ad (wsg τ L) ∧ Wwt η none (L 7) (tA τ 48) ∧ Wbo G η none (L 8) τ ∧ (∃ xs cap, AL G η none (L 9) xs cap ∧ xs.length = tN τ 32) ∧ Wbr η none (L 10) (tN τ 29) (2 ^ tN τ 30) (bfT τ)
def Wd (G : Gl) (η : AH) (w : Nat) (τ : Td) : Prop := ∃ ad L, WdL G η w τ ad L
theorem Wwt.kp {lo hi : Nat} {η η' : AH} {o : Option Nat} {r : Nat} {f : Nat → Nat} (h : Wwt η o r f) (hk : Kp lo hi η η') (ho : ∀ w, o = some w → w < lo ∨ hi ≤ w) : Wwt η' o r f := by
  obtain ⟨g, h1, h2⟩ := h
  refine ⟨g, hk.cel h1 ho, fun a ha => ?_⟩
  obtain ⟨q, c, g1, g2, g3⟩ := h2 a ha
  exact ⟨q, c, g1, hk.cel g2 ho, g3⟩
theorem Wbr.kp {lo hi : Nat} {η η' : AH} {o : Option Nat} {r S M : Nat} {bf : Nat → Nat → Nat → Nat → Nat} (h : Wbr η o r S M bf) (hk : Kp lo hi η η') (ho : ∀ w, o = some w → w < lo ∨ hi ≤ w) : Wbr η' o r S M bf := by
  obtain ⟨g4, h1, h2⟩ := h
  refine ⟨g4, hk.cel h1 ho, fun sh hsh => ?_⟩
  obtain ⟨a3, g3, e3, c3, d3⟩ := h2 sh hsh
  refine ⟨a3, g3, e3, hk.cel c3 ho, fun b hb => ?_⟩
  obtain ⟨a2, g2, e2, c2, d2⟩ := d3 b hb
  refine ⟨a2, g2, e2, hk.cel c2 ho, fun l hl => ?_⟩
  obtain ⟨a1, g1, e1, c1, d1⟩ := d2 l hl
  exact ⟨a1, g1, e1, hk.cel c1 ho, d1⟩
theorem Wbo.kp {G : Gl} {lo hi : Nat} {η η' : AH} {o : Option Nat} {r : Nat} {τ : Td} (h : Wbo G η o r τ) (hk : Kp lo hi η η') (ho : ∀ w, o = some w → w < lo ∨ hi ≤ w) : Wbo G η' o r τ := by
  obtain ⟨xs, cap, h1, h2, h3⟩ := h
  refine ⟨xs, cap, h1.kp hk ho, h2, fun i hi => ?_⟩
  obtain ⟨q, ad, g1, g2⟩ := h3 i hi
  exact ⟨q, ad, g1, g2.kpN hk⟩
theorem WdL.kp {G : Gl} {lo hi : Nat} {η η' : AH} {w : Nat} {τ : Td} {ad L : Nat → Nat} (h : WdL G η w τ ad L) (hk : Kp lo hi η η') : WdL G η' w τ ad L := by
  obtain ⟨h0, h1, h2, h3, ⟨xs, cap, h4, h5⟩, h6⟩ := h
  exact ⟨h0, h1.kpN hk, h2.kp hk (fun _ q => nomatch q), h3.kp hk (fun _ q => nomatch q), ⟨xs, cap, h4.kpN hk, h5⟩, h6.kp hk (fun _ q => nomatch q)⟩
theorem Wd.kp {G : Gl} {lo hi : Nat} {η η' : AH} {w : Nat} {τ : Td} (h : Wd G η w τ) (hk : Kp lo hi η η') : Wd G η' w τ := by
  obtain ⟨ad, L, h⟩ := h
  exact ⟨ad, L, h.kp hk⟩
/-- an Integer that holds v -/
def Bx (η : AH) (q : Nat) (v : Int32) : Prop := ∃ F, η q = some (none, ob 5 F) ∧ F 0 = .int v
theorem Bx.kp {lo hi : Nat} {η η' : AH} {q : Nat} {v : Int32} (h : Bx η q v) (hk : Kp lo hi η η') : Bx η' q v := by
  obtain ⟨F, h1, h2⟩ := h
  exact ⟨F, hk.celN h1, h2⟩
/-- what the constants hold: texts, small Integers, the empty array of lists -/
def CsT (G : Gl) (η : AH) : Prop := ∀ (i : Nat) (q : String × Nat × String), cstS[i]? = some q → ∃ F, η (G.2.2.2 i) = some (none, ob 6 F) ∧ F 0 = .ref (G.2.2.2 (100 + i)) ∧ F 1 = .int 0 ∧ η (G.2.2.2 (100 + i)) = some (none, aB q.2.2.length (fun j => nI ((q.2.2.toList.getD j 'a').toNat)))
def CsB (G : Gl) (η : AH) : Prop := ∀ j, j < 256 → Bx η (G.2.2.2 (600 + j)) (vb_c j)
def CsE (G : Gl) (η : AH) : Prop := η (G.2.2.2 503) = some (none, aR 9 0 (fun _ => none))
def Cs (G : Gl) (η : AH) : Prop := CsT G η ∧ CsB G η ∧ CsE G η
theorem Cs.kp {G : Gl} {lo hi : Nat} {η η' : AH} (h : Cs G η) (hk : Kp lo hi η η') : Cs G η' := by
  obtain ⟨h1, h2, h3⟩ := h
  refine ⟨fun i q hq => ?_, fun j hj => (h2 j hj).kp hk, hk.celN h3⟩
  obtain ⟨F, g1, g2, g3, g4⟩ := h1 i q hq
  exact ⟨F, hk.celN g1, g2, g3, hk.celN g4⟩
