set_option maxRecDepth 100000
/-- an element that is frozen -/
def ElN (η : AH) (y : Nat) : Prop := ∃ (ci N : Nat) (C : String) (T : u_T) (ty : Nat → FieldType) (F : Nat → Value), Cl ci C T N ty ∧ Cond.castable C "java/lang/Object" ∈ lw_tbl ∧ η y = some (none, ob ci F)
theorem ElN.kp {lo hi : Nat} {η η' : AH} {y : Nat} (h : ElN η y) (hk : Kp lo hi η η') : ElN η' y := by
  obtain ⟨c1, N, C, T, ty, F1, K, h1, h2⟩ := h
  exact ⟨c1, N, C, T, ty, F1, K, h1, hk.celN h2⟩
theorem ElN.el {η : AH} {y : Nat} (h : ElN η y) : ElO η y := by
  obtain ⟨c1, N, C, T, ty, F1, K, h1, h2⟩ := h
  exact ⟨c1, N, C, T, ty, none, F1, K, h1, h2⟩
theorem EX0.el {η : AH} {q : Nat} {f : Fn} (h : EX0 η q f) : ElN η q := by
  rcases h with ⟨n, ad, σ, h1, -⟩ | ⟨n, ad, σ, h1, -⟩ | ⟨n, ad, σ, h1, -⟩
  · obtain ⟨F, h0⟩ := h1.me
    exact ⟨15, _, _, _, _, F, KX13, q2599, h0⟩
  · obtain ⟨F, h0⟩ := h1.me
    exact ⟨16, _, _, _, _, F, KX14, q2600, h0⟩
  · obtain ⟨F, h0⟩ := h1.me
    exact ⟨18, _, _, _, _, F, KX15, q2603, h0⟩
theorem EX.el {G : Gl} {η : AH} : ∀ {k q : Nat} {f : Fn}, EX G η k q f → ElN η q
  | 0, q, f, h => EX0.el h
  | k + 1, q, f, h => by
    rcases h with h | ⟨e, g, ad, σ, h1, -⟩ | ⟨pl, sb, cap, capS, xs, cs, fs, ad, σ, h1, -⟩
    · exact EX0.el h
    · obtain ⟨F, h0⟩ := h1.me
      exact ⟨19, _, _, _, _, F, KX16, q2604, h0⟩
    · obtain ⟨F, h0⟩ := h1.me
      exact ⟨7, _, _, _, _, F, KX6, q2598, h0⟩
/-- a chain that is built: its tags t (itself), t + 1 (its list), t + 2 (its signs) -/
def CHb (G : Gl) (η : AH) (t q : Nat) (xs cs : List Nat) (cap capS : Nat) : Prop := ∃ ad σ pl sb, GO scX6 η (some t) q ad σ ∧ gN σ 0 = pl + 1 ∧ gN σ 1 = sb + 1 ∧ AL G η (some (t + 1)) pl xs cap ∧ SBq η (some (t + 2)) sb cs capS
theorem CHb.kp {G : Gl} {η η' : AH} {t q lo hi cap capS : Nat} {xs cs : List Nat} (h : CHb G η t q xs cs cap capS) (hk : Kp lo hi η η') (hh : hi ≤ t ∨ t + 3 ≤ lo) : CHb G η' t q xs cs cap capS := by
  obtain ⟨ad, σ, pl, sb, h1, h2, h3, h4, h5⟩ := h
  exact ⟨ad, σ, pl, sb, h1.kpS hk (by omega), h2, h3, h4.kpS hk (by omega), h5.kp hk (fun w e => by cases e; omega)⟩
theorem CHb.rcv {G : Gl} {η : AH} {t q cap capS : Nat} {xs cs : List Nat} (h : CHb G η t q xs cs cap capS) : ∃ z : Option Nat × (Nat → Value), η q = some (z.1, ob 7 z.2) := by
  obtain ⟨ad, σ, pl, sb, h1, -⟩ := h
  exact h1.rcv
theorem cC_chAdd {G : Gl} {η0 : AH} {t q v c cap capS : Nat} {xs cs : List Nat} (h : CHb G η0 t q xs cs cap capS) (hx1 : cap ≤ 13000) (hx2 : capS ≤ 9000) (hxs : ∀ y ∈ xs, ElN η0 y) (hv : ElN η0 v) (hc : c < 128) : Ct G yX6_add cX6_add 3 none 8 (cpC xs.length cap + cbC cs.length capS) (cpS xs.length cap + cbS cs.length capS) [.ref q, .int (nI c), .ref v] η0 (rv fun η => CHb G η t q (xs ++ [v]) (cs ++ [c]) (cpA xs.length cap) (cpB cs.length capS) ∧ Kp t (t + 3) η0 η) := by
  refine Ct.start rfl rfl (Nat.le_of_ble_eq_true rfl) (fun Γ => ?_)
  obtain ⟨ad, σ, pl, sb, h, h1, h2, hA, hS⟩ := h
  refine v_aload_n (i := 0) dX6_add_0 rfl rfl ?_
  refine go_get3 h KX6 1 (by decide) rfl (sb) h2 q1682 dX6_add_1 ?_
  refine v_iload_n (i := 1) dX6_add_4 rfl rfl ?_
  refine v_callVe (kc' := cpC xs.length cap) (ks' := cpS xs.length cap) (cJ_SBapp hS hx2 hc) (lw_V q1696 q1697 q1698 q153 q1699) iJ19_append_3 rfl KJ19 hS.rcv rfl rfl (by decide) (by decide) (Nat.le_of_ble_eq_true rfl) (Nat.le_refl _) (Nat.le_refl _) dX6_add_5 (kr_R (fun r_ η h_ => ?_)) kx_R
  obtain ⟨-, hS, hk⟩ := h_
  have h := h.kpS hk (by omega)
  have hA := hA.kpS hk (by omega)
  have hv := hv.kp hk
  have hxs : ∀ y ∈ xs, ElN η y := fun y hy => (hxs y hy).kp hk
  refine v_pop dX6_add_8 rfl ?_
  refine v_aload_n (i := 0) dX6_add_9 rfl rfl ?_
  refine go_get3 h KX6 0 (by decide) rfl (pl) h1 q1681 dX6_add_10 ?_
  refine v_aload_n (i := 2) dX6_add_13 rfl rfl ?_
  refine v_Ladd (kc' := 0) (ks' := 0) hA hx1 (fun y hy => (hxs y hy).el) hv.el q1680 (by decide) (Nat.le_of_ble_eq_true rfl) (by omega) (by omega) dX6_add_14 (fun η hA hk2 _ => ?_)
  refine v_pop dX6_add_19 rfl ?_
  exact v_vret rfl dX6_add_20 ⟨rfl, ⟨ad, σ, pl, sb, h.kpS hk2 (by omega), h1, h2, hA, hS.kp hk2 (fun w e => by cases e; omega)⟩, (hk.mono (by omega) (by omega)).tr (hk2.mono (by omega) (by omega))⟩
