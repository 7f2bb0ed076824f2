/-! ===== a whole text: what is told (numbers and rows by the model's fields, laws as functions) ===== -/
abbrev Td : Type := (Nat → Nat) × (Nat → Nat → Nat) × (Nat → Fn)
def tN (τ : Td) (k : Nat) : Nat := τ.1 k
def tA (τ : Td) (k : Nat) : Nat → Nat := τ.2.1 k
def tF_ (τ : Td) (j : Nat) : Fn := τ.2.2 j
def uN (τ : Td) (k v : Nat) : Td := (fun j => if j = k then v else τ.1 j, τ.2)
def uA (τ : Td) (k i v : Nat) : Td := (τ.1, fun j => if j = k then va_up (τ.2.1 k) i v else τ.2.1 j, τ.2.2)
def uF (τ : Td) (j : Nat) (f : Fn) : Td := (τ.1, τ.2.1, va_up τ.2.2 j f)
theorem tN_uN (τ : Td) (k v j : Nat) : tN (uN τ k v) j = if j = k then v else tN τ j := rfl
theorem tN_uA (τ : Td) (k i v j : Nat) : tN (uA τ k i v) j = tN τ j := rfl
theorem tN_uF (τ : Td) (i : Nat) (f : Fn) (j : Nat) : tN (uF τ i f) j = tN τ j := rfl
theorem tA_uN (τ : Td) (k v j : Nat) : tA (uN τ k v) j = tA τ j := rfl
theorem tA_uA (τ : Td) (k i v j : Nat) : tA (uA τ k i v) j = if j = k then va_up (tA τ k) i v else tA τ j := rfl
theorem tA_uF (τ : Td) (i : Nat) (f : Fn) (j : Nat) : tA (uF τ i f) j = tA τ j := rfl
theorem tF_uN (τ : Td) (k v j : Nat) : tF_ (uN τ k v) j = tF_ τ j := rfl
theorem tF_uA (τ : Td) (k i v j : Nat) : tF_ (uA τ k i v) j = tF_ τ j := rfl
theorem tF_uF (τ : Td) (i : Nat) (f : Fn) (j : Nat) : tF_ (uF τ i f) j = va_up (fun j => tF_ τ j) i f j := rfl
section TX
variable (T : Nat → Nat → Nat)
/-- 'never' at p: the place behind, what bars, its scope -/
def neverE (lt : Nat → Nat) (nT S L p : Nat) : Er (Nat × Fn × Nat) := if L = 12 then .error (2, p) else andT (rdEx T lt nT 6 (T p 22)) fun z => if kwT (T z.1) = 13 then .ok (T z.1 22, z.2, 1) else if kwT (T z.1) = 14 then .ok (T z.1 22, z.2, 2) else if kwT (T z.1) = 12 then andT (eSh T S 0 (T z.1 22)) fun y => .ok (y.2, z.2, y.1 + 3) else .ok (z.1, z.2, 0)
def semiE (p : Nat) (τ : Td) : Er (Nat × Td) := if isS (T p) 59 then .ok (T p 22, τ) else .error (1, p)
def thingU (τ : Td) (z : Nat × Nat × Nat × Nat) : Td := uN (uA (uA (uA τ 40 (tN τ 30) z.1) 38 (tN τ 30) z.2.1) 39 (tN τ 30) z.2.2.1) 30 (tN τ 30 + 1)
def boatU (τ : Td) (z : Nat × Nat × Nat × Nat) : Td := uN (uA (uA (uA τ 41 (tN τ 31) z.1) 42 (tN τ 31) z.2.1) 43 (tN τ 31) z.2.2.1) 31 (tN τ 31 + 1)
def waterU (τ : Td) (both : Nat) (a b : Nat) : Td := let u := uA (uN τ 37 1) 48 (4 * a + b) 1; if both = 0 then u else uA u 48 (4 * b + a) 1
def neverU (τ : Td) (f : Fn) (s : Nat) : Td := uN (uF (uA τ 44 (tN τ 32) s) (tN τ 32) f) 32 (tN τ 32 + 1)
def clauseE (τ : Td) (p : Nat) : Er (Nat × Td) :=
  if kwT (T p) = 2 then andT (thingE T (tA τ 40) (tN τ 30) p) fun z => semiE T z.2.2.2 (thingU τ z)
  else if kwT (T p) = 3 then andT (boatE T (tN τ 29) (tN τ 31) p) fun z => semiE T z.2.2.2 (boatU τ z)
  else if kwT (T p) = 4 ∨ kwT (T p) = 5 then andT (waterE T (tN τ 29) p) fun z => semiE T z.2.2 (waterU τ (if kwT (T p) = 4 then 1 else 0) z.1 z.2.1)
  else if kwT (T p) = 6 then andT (lampE T (tN τ 29) (tN τ 33) p) fun z => semiE T z.2 (uN τ 33 (z.1 + 1))
  else if kwT (T p) = 7 then andT (neverE T (tA τ 40) (tN τ 30) (tN τ 29) (tN τ 32) p) fun z => semiE T z.1 (neverU τ z.2.1 z.2.2)
  else .error (1, p)
def clausesE : Nat → Td → Nat → Er Td
  | 0, _, p => .error (0, p)
  | n + 1, τ, p => if T p 23 = 0 then .ok τ else andT (clauseE T τ p) fun z => clausesE n z.2 z.1
def td0 : Td := (fun k => if k = 29 then 2 else 0, fun _ _ => 0, fun _ => fK 0)
def textE : Er Td := if kwT (T 0) = 1 then andT (eNum T 2 4 (T 0 22)) fun z => (if isS (T z.2) 59 then clausesE T 701 (uN td0 29 z.1) (T z.2 22) else .error (1, z.2)) else clausesE T 701 td0 0
end TX
/-- only what is for reading has changed -/
def RO (σ σ2 : MS) : Prop := (∀ k, k < 19 ∨ k = 21 ∨ 49 < k → gN σ2 k = gN σ k) ∧ (∀ k, k < 18 ∨ 49 < k → gA σ2 k = gA σ k) ∧ (∀ k, k ≠ 44 → gB σ2 k = gB σ k) ∧ gC σ2 = gC σ
theorem RO.rfl' (σ : MS) : RO σ σ := ⟨fun _ _ => rfl, fun _ _ => rfl, fun _ _ => rfl, rfl⟩
theorem RO.sN {σ σ2 : MS} (h : RO σ σ2) {k v : Nat} (hk : 19 ≤ k ∧ k ≠ 21 ∧ k ≤ 49) : RO σ (sN σ2 k v) := ⟨fun j hj => by rw [gN_sN, if_neg (by omega)]; exact h.1 j hj, h.2.1, h.2.2.1, h.2.2.2⟩
theorem RO.sA {σ σ2 : MS} (h : RO σ σ2) {k i v : Nat} (hk : 18 ≤ k ∧ k ≤ 49) : RO σ (sA σ2 k i v) := ⟨h.1, fun j hj => by rw [gA_sA, if_neg (by omega)]; exact h.2.1 j hj, h.2.2.1, h.2.2.2⟩
theorem RO.stA {σ σ2 : MS} (h : RO σ σ2) {k : Nat} {f : Nat → Nat} (hk : 18 ≤ k ∧ k ≤ 49) : RO σ (stA σ2 k f) := ⟨h.1, fun j hj => by rw [gA_stA, if_neg (by omega)]; exact h.2.1 j hj, h.2.2.1, h.2.2.2⟩
theorem RO.sB {σ σ2 : MS} (h : RO σ σ2) {i : Nat} {v : Int32} : RO σ (sB σ2 44 i v) := ⟨h.1, h.2.1, fun j hj => by rw [gB_sB, if_neg hj]; exact h.2.2.1 j hj, h.2.2.2⟩
theorem RO.ts_ {σ σ2 : MS} (h : RO σ σ2) {p : Nat} : RO σ (TS σ2 p) := ⟨fun j hj => by rw [← h.1 j hj]; unfold TS setTok gN; dsimp only; rw [if_neg (by omega)], h.2.1, h.2.2.1, h.2.2.2⟩
theorem RO.flt {σ σ2 : MS} (h : RO σ σ2) {k p : Nat} : RO σ (flt σ2 k p) := (h.sN (by decide)).sN (by decide)
theorem RO.XS {σ σ2 : MS} (h : RO σ σ2) {p : Nat} {rd : Nat → Nat} {tp : Nat} {wt : Nat → Nat} {wn dp : Nat} {td : Nat → Nat} : RO σ (XS σ2 p rd tp wt wn dp td) := (((((h.ts_.stA (by decide)).stA (by decide)).stA (by decide)).sN (by decide)).sN (by decide)).sN (by decide)
theorem RO.trans {σ σ1 σ2 : MS} (h : RO σ σ1) (h2 : RO σ1 σ2) : RO σ σ2 := ⟨fun k hk => (h2.1 k hk).trans (h.1 k hk), fun k hk => (h2.2.1 k hk).trans (h.2.1 k hk), fun k hk => (h2.2.2.1 k hk).trans (h.2.2.1 k hk), h2.2.2.2.trans h.2.2.2⟩
theorem RO.tqe {σ σ2 : MS} (h : RO σ σ2) : tq σ2 = tq σ := by
  funext p
  unfold tq
  rw [h.2.1 17 (by decide), h.1 21 (by decide)]
theorem RO.po {σ σ2 : MS} (h : RO σ σ2) (hP : PO σ) : PO σ2 := by
  unfold PO
  rw [h.2.1 17 (by decide), h.1 21 (by decide)]
  exact hP
theorem TS_sN (σ : MS) (p k v : Nat) (hk : k < 21 ∨ 27 < k) : sN (TS σ p) k v = TS (sN σ k v) p := by
  refine MS_ext (fun j => ?_) rfl ?_ (fun j => rfl) rfl
  · unfold TS setTok gN sN
    dsimp only
    by_cases h : j = k
    · subst h
      rw [if_pos rfl, if_neg (by omega), if_pos rfl]
    · rw [if_neg h, if_neg h]
      have e : (if 21 = k then v else σ.1 21) = σ.1 21 := if_neg (by omega)
      show _ = if 22 ≤ j ∧ j ≤ 27 then tk (gA σ 17) (if 21 = k then v else σ.1 21) p j else σ.1 j
      rw [e]
  · show tk (gA σ 17) (gN σ 21) p 28 = tk (gA σ 17) (if 21 = k then v else gN σ 21) p 28
    rw [if_neg (by omega)]
theorem TS_sA (σ : MS) (p k i v : Nat) (hk : k ≠ 17) : sA (TS σ p) k i v = TS (sA σ k i v) p := by
  have e : gA (sA σ k i v) 17 = gA σ 17 := by rw [gA_sA, if_neg (Ne.symm hk)]
  unfold TS
  rw [e]
  rfl
theorem TS_sB (σ : MS) (p k i : Nat) (v : Int32) : sB (TS σ p) k i v = TS (sB σ k i v) p := rfl
theorem TS_stA (σ : MS) (p k : Nat) (f : Nat → Nat) (hk : k ≠ 17) : stA (TS σ p) k f = TS (stA σ k f) p := by
  have e : gA (stA σ k f) 17 = gA σ 17 := by rw [gA_stA, if_neg (Ne.symm hk)]
  unfold TS
  rw [e]
  rfl
def XU (σ : MS) (rd : Nat → Nat) (tp : Nat) (wt : Nat → Nat) (wn dp : Nat) (td : Nat → Nat) : MS := sN (sN (sN (stA (stA (stA σ 46 rd) 47 wt) 49 td) 34 tp) 35 wn) 36 dp
theorem XS_TS (σ : MS) (p : Nat) (rd : Nat → Nat) (tp : Nat) (wt : Nat → Nat) (wn dp : Nat) (td : Nat → Nat) : XS σ p rd tp wt wn dp td = TS (XU σ rd tp wt wn dp td) p := by
  unfold XS XU
  rw [TS_stA _ _ _ _ (by decide), TS_stA _ _ _ _ (by decide), TS_stA _ _ _ _ (by decide), TS_sN _ _ _ _ (by decide), TS_sN _ _ _ _ (by decide), TS_sN _ _ _ _ (by decide)]
theorem flt_TS (σ : MS) (p k pl : Nat) : flt (TS σ p) k pl = TS (flt σ k pl) p := by
  unfold flt
  rw [TS_sN _ _ _ _ (by decide), TS_sN _ _ _ _ (by decide)]
theorem RO.XU {σ σ2 : MS} (h : RO σ σ2) {rd : Nat → Nat} {tp : Nat} {wt : Nat → Nat} {wn dp : Nat} {td : Nat → Nat} : RO σ (XU σ2 rd tp wt wn dp td) := (((((h.stA (by decide)).stA (by decide)).stA (by decide)).sN (by decide)).sN (by decide)).sN (by decide)
/-- the model has read what τ says, its code up to its top -/
def RDl (rd : Nat → Nat) (lat : Nat → Nat) (scp : Nat → Int32) (tp : Nat) (τ : Td) : Prop := ∀ j, j < tN τ 32 → tA τ 44 j < 8 ∧ scp j = scI (tA τ 44 j) ∧ ∃ r, pN rd (lat j) (0 :: r) ∧ Sm r [tF_ τ j] ∧ lat j + r.length + 1 ≤ tp
def RD (σ : MS) (τ : Td) : Prop := (gN σ 29 = tN τ 29 ∧ gN σ 30 = tN τ 30 ∧ gN σ 31 = tN τ 31 ∧ gN σ 32 = tN τ 32 ∧ gN σ 33 = tN τ 33 ∧ gN σ 37 = tN τ 37) ∧ (2 ≤ tN τ 29 ∧ tN τ 29 ≤ 4 ∧ tN τ 30 ≤ 8 ∧ tN τ 31 ≤ 2 ∧ tN τ 32 ≤ 12 ∧ tN τ 33 ≤ tN τ 29 ∧ tN τ 37 < 2) ∧
  (∀ i, i < tN τ 30 → gA σ 38 i = tA τ 38 i ∧ gA σ 39 i = tA τ 39 i ∧ gA σ 40 i = tA τ 40 i ∧ tA τ 38 i ≤ 99 ∧ tA τ 39 i ≤ 99 ∧ tA τ 40 i < 256) ∧ (∀ i, i < tN τ 31 → gA σ 41 i = tA τ 41 i ∧ gA σ 42 i = tA τ 42 i ∧ gA σ 43 i = tA τ 43 i ∧ 1 ≤ tA τ 41 i ∧ tA τ 41 i ≤ 8 ∧ tA τ 42 i ≤ 999 ∧ tA τ 43 i < tN τ 29) ∧
  (∀ i, i < 16 → gA σ 48 i = tA τ 48 i ∧ tA τ 48 i < 2) ∧ (∀ i, i < 4 → tA τ 48 (4 * i + i) = 0) ∧ RDl (gA σ 46) (gA σ 45) (gB σ 44) (gN σ 34) τ
theorem pN_low {f g : Nat → Nat} {lo tp : Nat} : ∀ {r : List Nat}, pN f lo r → lo + r.length ≤ tp → (∀ i, i < tp → g i = f i) → pN g lo r
  | [], _, _, _ => trivial
  | a :: r, h, hl, hg => by
    simp only [List.length_cons] at hl
    exact ⟨(hg _ (by omega)).trans h.1, pN_low h.2 (by omega) hg⟩
theorem RDl.low {rd rd2 lat lat2 : Nat → Nat} {scp scp2 : Nat → Int32} {tp tp2 : Nat} {τ : Td} (h : RDl rd lat scp tp τ) (h1 : ∀ i, i < tp → rd2 i = rd i) (h2 : ∀ j, j < tN τ 32 → lat2 j = lat j) (h3 : ∀ j, j < tN τ 32 → scp2 j = scp j) (ht : tp ≤ tp2) : RDl rd2 lat2 scp2 tp2 τ := fun j hj => by
  obtain ⟨a1, a2, r, a3, a4, a5⟩ := h j hj
  exact ⟨a1, by rw [h3 j hj]; exact a2, r, by rw [h2 j hj]; exact pN_low a3 (by simp only [List.length_cons]; omega) h1, a4, by rw [h2 j hj]; omega⟩
theorem nmF_congr {f g : Nat → Nat} {c : Nat} : ∀ {n k : Nat}, (∀ i, k ≤ i → i < k + n → f i = g i) → nmF f c n k = nmF g c n k
  | 0, _, _ => rfl
  | n + 1, k, h => by
    unfold nmF
    rw [h k (Nat.le_refl _) (by omega), nmF_congr (fun i h1 h2 => h i (by omega) (by omega))]
