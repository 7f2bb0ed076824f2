set_option maxRecDepth 100000
/-- a chain's worth behind n signs -/
def chV (fs : Nat → Fn) (cs : List Nat) (val : Nat → Nat) : Nat → Int32
  | 0 => fs 0 val
  | n + 1 => wkI (opc (cs.getD n 0)) (chV fs cs val n) (fs (n + 1) val)
def chF (fs : Nat → Fn) (cs : List Nat) : Fn := fun val => chV fs cs val cs.length
def EX0 (η : AH) (q : Nat) (f : Fn) : Prop := (∃ n ad σ, GO scX13 η none q ad σ ∧ gN σ 0 = n ∧ f = fK n) ∨ (∃ n ad σ, GO scX14 η none q ad σ ∧ gN σ 0 = n ∧ n < 8 ∧ f = fV n) ∨ ∃ n ad σ, GO scX15 η none q ad σ ∧ gN σ 0 = n ∧ n < 6 ∧ f = fV (wcd n)
theorem EX0.kp {lo hi : Nat} {η η' : AH} (hk : Kp lo hi η η') {q : Nat} {f : Fn} (h : EX0 η q f) : EX0 η' q f := by
  rcases h with ⟨n, ad, σ, h1, h2⟩ | ⟨n, ad, σ, h1, h2⟩ | ⟨n, ad, σ, h1, h2⟩
  · exact Or.inl ⟨n, ad, σ, h1.kpN hk, h2⟩
  · exact Or.inr (Or.inl ⟨n, ad, σ, h1.kpN hk, h2⟩)
  · exact Or.inr (Or.inr ⟨n, ad, σ, h1.kpN hk, h2⟩)
/-- an expression that is told (frozen): its depth, its object, what it means -/
def EX (G : Gl) (η : AH) : Nat → Nat → Fn → Prop
  | 0, q, f => EX0 η q f
  | k + 1, q, f => EX0 η q f ∨ (∃ e g ad σ, GO scX16 η none q ad σ ∧ gN σ 0 = e + 1 ∧ EX G η k e g ∧ f = fNo g) ∨ ∃ pl sb cap capS xs cs fs ad σ, GO scX6 η none q ad σ ∧ gN σ 0 = pl + 1 ∧ gN σ 1 = sb + 1 ∧ AL G η none pl xs cap ∧ SBq η none sb cs capS ∧ xs.length = cs.length + 1 ∧ (∀ c ∈ cs, sgn c) ∧ (∀ i x, xs[i]? = some x → EX G η k x (fs i)) ∧ f = chF fs cs
theorem EX.kp {G : Gl} {lo hi : Nat} {η η' : AH} (hk : Kp lo hi η η') : ∀ {k q : Nat} {f : Fn}, EX G η k q f → EX G η' k q f
  | 0, q, f, h => EX0.kp hk h
  | k + 1, q, f, h => by
    rcases h with h | ⟨e, g, ad, σ, h1, h2, h3, h4⟩ | ⟨pl, sb, cap, capS, xs, cs, fs, ad, σ, h1, h2, h3, h4, h5, h6, h7, h8, h9⟩
    · exact Or.inl (EX0.kp hk h)
    · exact Or.inr (Or.inl ⟨e, g, ad, σ, h1.kpN hk, h2, EX.kp hk h3, h4⟩)
    · exact Or.inr (Or.inr ⟨pl, sb, cap, capS, xs, cs, fs, ad, σ, h1.kpN hk, h2, h3, h4.kpN hk, h5.kp hk (fun _ q => nomatch q), h6, h7, fun i x hx => EX.kp hk (h8 i x hx), h9⟩)
theorem EX.leaf {G : Gl} {η : AH} {q : Nat} {f : Fn} (h : EX0 η q f) : ∀ k, EX G η k q f
  | 0 => h
  | _ + 1 => Or.inl h
theorem EX.up_ {G : Gl} {η : AH} : ∀ {k k2 q : Nat} {f : Fn}, EX G η k q f → k ≤ k2 → EX G η k2 q f
  | 0, k2, q, f, h, _ => EX.leaf h k2
  | k + 1, 0, q, f, h, hk => absurd hk (by omega)
  | k + 1, k2 + 1, q, f, h, hk => by
    rcases h with h | ⟨e, g, ad, σ, h1, h2, h3, h4⟩ | ⟨pl, sb, cap, capS, xs, cs, fs, ad, σ, h1, h2, h3, h4, h5, h6, h7, h8, h9⟩
    · exact Or.inl h
    · exact Or.inr (Or.inl ⟨e, g, ad, σ, h1, h2, EX.up_ h3 (by omega), h4⟩)
    · exact Or.inr (Or.inr ⟨pl, sb, cap, capS, xs, cs, fs, ad, σ, h1, h2, h3, h4, h5, h6, h7, fun i x hx => EX.up_ (h8 i x hx) (by omega), h9⟩)
/-- what calling value on the expression q answers -/
def ExC (G : Gl) (η : AH) (q a : Nat) (v : Int32) (d : Nat) : Prop := (∃ F, η q = some (none, ob 15 F) ∧ Ct G yX13_value cX13_value 2 (some .int) d 0 0 [.ref q, .ref a] η (re (some (.int v)) η)) ∨ (∃ F, η q = some (none, ob 16 F) ∧ Ct G yX14_value cX14_value 2 (some .int) d 0 0 [.ref q, .ref a] η (re (some (.int v)) η)) ∨ (∃ F, η q = some (none, ob 18 F) ∧ Ct G yX15_value cX15_value 2 (some .int) d 0 0 [.ref q, .ref a] η (re (some (.int v)) η)) ∨ (∃ F, η q = some (none, ob 19 F) ∧ Ct G yX16_value cX16_value 2 (some .int) d 0 0 [.ref q, .ref a] η (re (some (.int v)) η)) ∨ (∃ F, η q = some (none, ob 7 F) ∧ Ct G yX6_value cX6_value 4 (some .int) d 0 0 [.ref q, .ref a] η (re (some (.int v)) η))
section VEX
variable {G : Gl} {Γ : Fx} {mt : MethodName} {cc : ByteArray} {nL : Nat} {ret : Option FieldType} {tb : List ExceptionTableEntry} {d : Nat} {P : Rs → AH → Prop} {kc ks : Nat} {η : AH} {pc : Nat} {lv : List (Option Value)} {rest : List Value} {index : Nat} {q a dd : Nat} {v : Int32}
theorem v_Exval (h : ExC G η q a v dd) (hd : dd < d) (hlink : Cond.methodLink mt.cls index ⟨"FerryHall$Ex", "value", "(LFerryHall$Asked;)I"⟩ ∈ lw_all) (hW : (rest.map fun v => v.category).sum ≤ 8) (hdg : decode cc pc = .ok (.invokevirtual index, 3)) (kk : V G Γ mt cc nL ret tb d P kc ks η (pc + 3) lv (.int v :: rest)) : V G Γ mt cc nL ret tb d P kc ks η pc lv (.ref a :: .ref q :: rest) := by
  rcases h with ⟨F, h1, h2⟩ | ⟨F, h1, h2⟩ | ⟨F, h1, h2⟩ | ⟨F, h1, h2⟩ | ⟨F, h1, h2⟩
  · exact v_callA (n := 1) (owner := "FerryHall$Ex") (x := ⟨"FerryHall$Ex", "value", "(LFerryHall$Asked;)I"⟩) h2 (lw_U hlink q425 q496 q438 q150 q439) q424 ⟨by decide, by decide, by decide +kernel⟩ KX13 h1 rfl rfl hd (by decide) hW (Nat.le_refl _) (Nat.le_refl _) hdg (kr_ei kk) kx_e
  · exact v_callA (n := 1) (owner := "FerryHall$Ex") (x := ⟨"FerryHall$Ex", "value", "(LFerryHall$Asked;)I"⟩) h2 (lw_U hlink q425 q494 q433 q151 q434) q424 ⟨by decide, by decide, by decide +kernel⟩ KX14 h1 rfl rfl hd (by decide) hW (Nat.le_refl _) (Nat.le_refl _) hdg (kr_ei kk) kx_e
  · exact v_callA (n := 1) (owner := "FerryHall$Ex") (x := ⟨"FerryHall$Ex", "value", "(LFerryHall$Asked;)I"⟩) h2 (lw_U hlink q425 q497 q440 q154 q441) q424 ⟨by decide, by decide, by decide +kernel⟩ KX15 h1 rfl rfl hd (by decide) hW (Nat.le_refl _) (Nat.le_refl _) hdg (kr_ei kk) kx_e
  · exact v_callA (n := 1) (owner := "FerryHall$Ex") (x := ⟨"FerryHall$Ex", "value", "(LFerryHall$Asked;)I"⟩) h2 (lw_U hlink q425 q495 q435 q155 q436) q424 ⟨by decide, by decide, by decide +kernel⟩ KX16 h1 rfl rfl hd (by decide) hW (Nat.le_refl _) (Nat.le_refl _) hdg (kr_ei kk) kx_e
  · exact v_callA (n := 1) (owner := "FerryHall$Ex") (x := ⟨"FerryHall$Ex", "value", "(LFerryHall$Asked;)I"⟩) h2 (lw_U hlink q425 q426 q427 q134 q428) q424 ⟨by decide, by decide, by decide +kernel⟩ KX6 h1 rfl rfl hd (by decide) hW (Nat.le_refl _) (Nat.le_refl _) hdg (kr_ei kk) kx_e
theorem v_Excast (h : ExC G η q a v dd) (hcl : Cond.classLink mt.cls index "FerryHall$Ex" ∈ lw_all) (hdg : decode cc pc = .ok (.checkcast index, 3)) (kk : V G Γ mt cc nL ret tb d P kc ks η (pc + 3) lv (.ref q :: rest)) : V G Γ mt cc nL ret tb d P kc ks η pc lv (.ref q :: rest) := by
  rcases h with ⟨F, h1, h2⟩ | ⟨F, h1, h2⟩ | ⟨F, h1, h2⟩ | ⟨F, h1, h2⟩ | ⟨F, h1, h2⟩
  · exact v_castY h1 KX13 hcl q2584 hdg kk
  · exact v_castY h1 KX14 hcl q2582 hdg kk
  · exact v_castY h1 KX15 hcl q2585 hdg kk
  · exact v_castY h1 KX16 hcl q2583 hdg kk
  · exact v_castY h1 KX6 hcl q2581 hdg kk
end VEX
theorem cE_holds {G : Gl} {η : AH} {q a d : Nat} {v : Int32} (h : ExC G η q a v d) : Ct G yX5_holds cX5_holds 2 (some .boolean) (d + 1) 0 0 [.ref q, .ref a] η (re (some (.int (nI (if v = 0 then 0 else 1)))) η) := by
  refine Ct.start rfl rfl (Nat.le_of_ble_eq_true rfl) (fun Γ => ?_)
  refine v_aload_n (i := 0) dX5_holds_0 rfl rfl ?_
  refine v_aload_n (i := 1) dX5_holds_1 rfl rfl ?_
  refine v_Exval h (Nat.lt_succ_self _) q423 (Nat.le_of_ble_eq_true rfl) dX5_holds_2 ?_
  refine v_if_eq (tgt := 12) dX5_holds_5 rfl (fun c5 => ?_) (fun c5 => ?_)
  · refine v_iconst (v := nI 0) dX5_holds_12 k_iconst_0 ?_
    exact v_zret rfl rfl dX5_holds_13 ⟨(by rw [if_pos (by first | exact c5 | exact c5)]), rfl⟩
  · refine v_iconst (v := nI 1) dX5_holds_8 k_iconst_1 ?_
    refine v_goto (tgt := 13) dX5_holds_9 rfl ?_
    exact v_zret rfl rfl dX5_holds_13 ⟨(by rw [if_neg (by first | exact c5 | exact fun z => c5 z)]), rfl⟩
section VEY
variable {G : Gl} {Γ : Fx} {mt : MethodName} {cc : ByteArray} {nL : Nat} {ret : Option FieldType} {tb : List ExceptionTableEntry} {d : Nat} {P : Rs → AH → Prop} {kc ks : Nat} {η : AH} {pc : Nat} {lv : List (Option Value)} {rest : List Value} {index : Nat} {q a dd : Nat} {v : Int32}
theorem v_Exhol (h : ExC G η q a v dd) (hd : dd + 1 < d) (hlink : Cond.methodLink mt.cls index ⟨"FerryHall$Ex", "holds", "(LFerryHall$Asked;)Z"⟩ ∈ lw_all) (hW : (rest.map fun v => v.category).sum ≤ 8) (hdg : decode cc pc = .ok (.invokevirtual index, 3)) (kk : V G Γ mt cc nL ret tb d P kc ks η (pc + 3) lv (.int (nI (if v = 0 then 0 else 1)) :: rest)) : V G Γ mt cc nL ret tb d P kc ks η pc lv (.ref a :: .ref q :: rest) := by
  have hc := cE_holds h
  rcases h with ⟨F, h1, h2⟩ | ⟨F, h1, h2⟩ | ⟨F, h1, h2⟩ | ⟨F, h1, h2⟩ | ⟨F, h1, h2⟩
  · exact v_callU (n := 1) (owner := "FerryHall$Ex") (x := ⟨"FerryHall$Ex", "holds", "(LFerryHall$Asked;)Z"⟩) hc (lw_U hlink q416 q420 q415 q133 q422) rfl ⟨by decide, by decide, by decide +kernel⟩ KX13 h1 rfl rfl hd (by decide) hW (Nat.le_refl _) (Nat.le_refl _) hdg (kr_ei kk) kx_e
  · exact v_callU (n := 1) (owner := "FerryHall$Ex") (x := ⟨"FerryHall$Ex", "holds", "(LFerryHall$Asked;)Z"⟩) hc (lw_U hlink q416 q418 q415 q133 q422) rfl ⟨by decide, by decide, by decide +kernel⟩ KX14 h1 rfl rfl hd (by decide) hW (Nat.le_refl _) (Nat.le_refl _) hdg (kr_ei kk) kx_e
  · exact v_callU (n := 1) (owner := "FerryHall$Ex") (x := ⟨"FerryHall$Ex", "holds", "(LFerryHall$Asked;)Z"⟩) hc (lw_U hlink q416 q421 q415 q133 q422) rfl ⟨by decide, by decide, by decide +kernel⟩ KX15 h1 rfl rfl hd (by decide) hW (Nat.le_refl _) (Nat.le_refl _) hdg (kr_ei kk) kx_e
  · exact v_callU (n := 1) (owner := "FerryHall$Ex") (x := ⟨"FerryHall$Ex", "holds", "(LFerryHall$Asked;)Z"⟩) hc (lw_U hlink q416 q419 q415 q133 q422) rfl ⟨by decide, by decide, by decide +kernel⟩ KX16 h1 rfl rfl hd (by decide) hW (Nat.le_refl _) (Nat.le_refl _) hdg (kr_ei kk) kx_e
  · exact v_callU (n := 1) (owner := "FerryHall$Ex") (x := ⟨"FerryHall$Ex", "holds", "(LFerryHall$Asked;)Z"⟩) hc (lw_U hlink q416 q417 q415 q133 q422) rfl ⟨by decide, by decide, by decide +kernel⟩ KX6 h1 rfl rfl hd (by decide) hW (Nat.le_refl _) (Nat.le_refl _) hdg (kr_ei kk) kx_e
end VEY
theorem cE_num {G : Gl} {η0 : AH} {oa : Option Nat} {a w : Nat} {τ : Td} {s b l sh : Nat} (hA : As4 G η0 oa a w τ s b l sh) {q n d : Nat} {ad : Nat → Nat} {σ : MS} (h : GO scX13 η0 none q ad σ) (h1 : gN σ 0 = n) : Ct G yX13_value cX13_value 2 (some .int) (d + 4) 0 0 [.ref q, .ref a] η0 (re (some (.int (fK n (vaM τ s b l sh)))) η0) := by
  refine Ct.start rfl rfl (Nat.le_of_ble_eq_true rfl) (fun Γ => ?_)
  obtain ⟨ada, σa, hAo, a0, a1, a2, a3, a4, hW, b1, b2, b3, b4⟩ := id hA
  refine v_aload_n (i := 0) dX13_value_0 rfl rfl ?_
  refine go_get0 h KX13 0 (by decide) rfl (n) h1 q1416 dX13_value_1 ?_
  exact v_iret rfl dX13_value_4 ⟨rfl, rfl⟩
theorem cE_mem {G : Gl} {η0 : AH} {oa : Option Nat} {a w : Nat} {τ : Td} {s b l sh : Nat} (hA : As4 G η0 oa a w τ s b l sh) {q n d : Nat} {ad : Nat → Nat} {σ : MS} (h : GO scX14 η0 none q ad σ) (h1 : gN σ 0 = n) (hn : n < 8) : Ct G yX14_value cX14_value 2 (some .int) (d + 4) 0 0 [.ref q, .ref a] η0 (re (some (.int (fV n (vaM τ s b l sh)))) η0) := by
  refine Ct.start rfl rfl (Nat.le_of_ble_eq_true rfl) (fun Γ => ?_)
  obtain ⟨ada, σa, hAo, a0, a1, a2, a3, a4, hW, b1, b2, b3, b4⟩ := id hA
  refine v_aload_n (i := 1) dX14_value_0 rfl rfl ?_
  refine go_get0N hAo KX4 1 (by decide) rfl (s) a1 q359 dX14_value_1 ?_
  refine v_aload_n (i := 0) dX14_value_4 rfl rfl ?_
  refine go_get0 h KX14 0 (by decide) rfl (n) h1 q1426 dX14_value_5 ?_
  refine vn_ishr (by omega) (by omega) dX14_value_8 ?_
  refine v_iconst (v := nI 1) dX14_value_9 k_iconst_1 ?_
  refine vn_and1 dX14_value_10 ?_
  exact v_iret rfl dX14_value_11 ⟨by unfold fV vaM valM bt; rw [if_pos (by omega)], rfl⟩
theorem cE_word {G : Gl} {η0 : AH} {oa : Option Nat} {a w : Nat} {τ : Td} {s b l sh : Nat} (hA : As4 G η0 oa a w τ s b l sh) {q n d : Nat} {ad : Nat → Nat} {σ : MS} (h : GO scX15 η0 none q ad σ) (h1 : gN σ 0 = n) (hn : n < 6) : Ct G yX15_value cX15_value 2 (some .int) (d + 4) 0 0 [.ref q, .ref a] η0 (re (some (.int (fV (wcd n) (vaM τ s b l sh)))) η0) := by
  refine Ct.start rfl rfl (Nat.le_of_ble_eq_true rfl) (fun Γ => ?_)
  obtain ⟨ada, σa, hAo, a0, a1, a2, a3, a4, hW, b1, b2, b3, b4⟩ := id hA
  refine v_aload_n (i := 1) dX15_value_0 rfl rfl ?_
  refine v_aload_n (i := 0) dX15_value_1 rfl rfl ?_
  refine go_get0 h KX15 0 (by decide) rfl (n) h1 q1667 dX15_value_2 ?_
  refine v_callVe (cA4_value hA hn) (lw_V q442 q443 q444 q125 q445) iX4_value rfl KX4 hAo.rcv rfl rfl (by omega) (by decide) (Nat.le_of_ble_eq_true rfl) (Nat.le_refl _) (Nat.le_refl _) dX15_value_5 (kr_ei ?_) kx_e
  exact v_iret rfl dX15_value_8 ⟨rfl, rfl⟩
theorem cE_no {G : Gl} {η0 : AH} {oa : Option Nat} {a w : Nat} {τ : Td} {s b l sh : Nat} (hA : As4 G η0 oa a w τ s b l sh) {q e d D : Nat} (hD : d + 2 ≤ D) {v : Int32} {ad : Nat → Nat} {σ : MS} (h : GO scX16 η0 none q ad σ) (h1 : gN σ 0 = e + 1) (hE : ExC G η0 e a v d) : Ct G yX16_value cX16_value 2 (some .int) D 0 0 [.ref q, .ref a] η0 (re (some (.int (if v = 0 then 1 else 0))) η0) := by
  refine Ct.start rfl rfl (Nat.le_of_ble_eq_true rfl) (fun Γ => ?_)
  refine v_aload_n (i := 0) dX16_value_0 rfl rfl ?_
  refine go_get3 h KX16 0 (by decide) rfl (e) h1 q1715 dX16_value_1 ?_
  refine v_aload_n (i := 1) dX16_value_4 rfl rfl ?_
  refine v_Exhol hE (by omega) q437 (Nat.le_of_ble_eq_true rfl) dX16_value_5 ?_
  refine vn_if_eq (tgt := 15) dX16_value_8 rfl (by split <;> decide) (fun c8 => ?_) (fun c8 => ?_)
  · have cv : v = 0 := Decidable.byContradiction (fun z => by rw [if_neg z] at c8; cases c8)
    refine v_iconst (v := nI 1) dX16_value_15 k_iconst_1 ?_
    exact v_iret rfl dX16_value_16 ⟨by rw [if_pos cv]; rfl, rfl⟩
  · have cv : ¬ v = 0 := fun z => c8 (if_pos z)
    refine v_iconst (v := nI 0) dX16_value_11 k_iconst_0 ?_
    refine v_goto (tgt := 16) dX16_value_12 rfl ?_
    exact v_iret rfl dX16_value_16 ⟨by rw [if_neg cv]; rfl, rfl⟩
theorem cE_chain {G : Gl} {η0 : AH} {oa : Option Nat} {a w : Nat} {τ : Td} {s b l sh : Nat} (hA : As4 G η0 oa a w τ s b l sh) {q pl sb cap capS d D : Nat} (hD : d + 5 ≤ D) {xs cs : List Nat} {fs : Nat → Fn} {ad : Nat → Nat} {σ : MS} (h : GO scX6 η0 none q ad σ) (h1 : gN σ 0 = pl + 1) (h2 : gN σ 1 = sb + 1) (h3 : AL G η0 none pl xs cap) (h4 : SBq η0 none sb cs capS) (h5 : xs.length = cs.length + 1) (h6 : ∀ c ∈ cs, sgn c) (h7 : ∀ i x, xs[i]? = some x → ExC G η0 x a (fs i (vaM τ s b l sh)) (d + 4)) : Ct G yX6_value cX6_value 4 (some .int) D 0 0 [.ref q, .ref a] η0 (re (some (.int (chF fs cs (vaM τ s b l sh)))) η0) := by
  refine Ct.start rfl rfl (Nat.le_of_ble_eq_true rfl) (fun Γ => ?_)
  have hcl : cs.length ≤ 20000 := by
    obtain ⟨_, _, _, _, -, -, -, -, q1, q2, -⟩ := h4
    omega
  have hx : ∀ i, i < xs.length → ∃ x, xs[i]? = some x ∧ ExC G η0 x a (fs i (vaM τ s b l sh)) (d + 4) := fun i hi => ⟨xs[i], List.getElem?_eq_getElem hi, h7 i _ (List.getElem?_eq_getElem hi)⟩
  have hs : ∀ i, i < cs.length → sgn (cs.getD i 0) := fun i hi => by
    rw [List.getD_eq_getElem?_getD, List.getElem?_eq_getElem hi]
    exact h6 _ (List.getElem_mem _)
  have L20 : ∀ (n i : Nat), i + n = cs.length → V G Γ yX6_value cX6_value 4 (some .int) [] D (re (some (.int (chF fs cs (vaM τ s b l sh)))) η0) (0) (0) (η0) 20 [some (.ref q), some (.ref a), some (.int (chV fs cs (vaM τ s b l sh) i)), some (.int (nI (i + 1)))] [] := by
    intro n
    induction n with
    | zero =>
      intro i hin
      have ei : i = cs.length := by omega
      subst ei
      refine v_iload_n (i := 3) dX6_value_20 rfl rfl ?_
      refine v_aload_n (i := 0) dX6_value_21 rfl rfl ?_
      refine go_get3 h KX6 0 (by decide) rfl (pl) h1 q1681 dX6_value_22 ?_
      refine v_Lsize h3 q461 (by omega) (Nat.le_of_ble_eq_true rfl) dX6_value_25 ?_
      refine v_top (x' := nI (cs.length + 1)) (by rw [h5]) ?_
      refine vn_icmp_ge (tgt := 71) dX6_value_30 rfl (by omega) (by omega) (fun c30 => ?_) (fun c30 => ?_)
      · refine v_iload_n (i := 2) dX6_value_71 rfl rfl ?_
        exact v_iret rfl dX6_value_72 ⟨rfl, rfl⟩
      · omega
    | succ n ih =>
      intro i hin
      obtain ⟨x, hx1, hx2⟩ := hx (i + 1) (by omega)
      refine v_iload_n (i := 3) dX6_value_20 rfl rfl ?_
      refine v_aload_n (i := 0) dX6_value_21 rfl rfl ?_
      refine go_get3 h KX6 0 (by decide) rfl (pl) h1 q1681 dX6_value_22 ?_
      refine v_Lsize h3 q461 (by omega) (Nat.le_of_ble_eq_true rfl) dX6_value_25 ?_
      refine v_top (x' := nI (cs.length + 1)) (by rw [h5]) ?_
      refine vn_icmp_ge (tgt := 71) dX6_value_30 rfl (by omega) (by omega) (fun c30 => ?_) (fun c30 => ?_)
      · omega
      · refine v_aload_n (i := 0) dX6_value_33 rfl rfl ?_
        refine go_get3 h KX6 1 (by decide) rfl (sb) h2 q1682 dX6_value_34 ?_
        refine v_iload_n (i := 3) dX6_value_37 rfl rfl ?_
        refine v_iconst (v := nI 1) dX6_value_38 k_iconst_1 ?_
        refine vn_isub (by omega) dX6_value_39 ?_
        refine v_callVe (cJ_SBat h4 (i := i + 1 - 1) (by omega)) (lw_V q462 q463 q464 q153 q465) iJ19_charAt rfl KJ19 h4.rcv rfl rfl (by omega) (by decide) (Nat.le_of_ble_eq_true rfl) (Nat.le_refl _) (Nat.le_refl _) dX6_value_40 (kr_ei ?_) kx_e
        refine v_iload_n (i := 2) dX6_value_43 rfl rfl ?_
        refine v_aload_n (i := 0) dX6_value_44 rfl rfl ?_
        refine go_get3 h KX6 0 (by decide) rfl (pl) h1 q1681 dX6_value_45 ?_
        refine v_iload_n (i := 3) dX6_value_48 rfl rfl ?_
        refine v_Lget h3 hx1 q430 (by omega) (Nat.le_of_ble_eq_true rfl) dX6_value_49 ?_
        refine v_Excast hx2 q431 dX6_value_54 ?_
        refine v_aload_n (i := 1) dX6_value_57 rfl rfl ?_
        refine v_Exval hx2 (by omega) q432 (Nat.le_of_ble_eq_true rfl) dX6_value_58 ?_
        refine v_callS (cE_two (a := chV fs cs (vaM τ s b l sh) i) (b := fs (i + 1) (vaM τ s b l sh)) (hs i (by omega))) (lw_S q491 q492 q134 q493) iX6_two rfl rfl (by omega) (by decide) (Nat.le_of_ble_eq_true rfl) (Nat.le_refl _) (Nat.le_refl _) dX6_value_61 (kr_ei ?_) kx_e
        refine v_istore_n (i := 2) dX6_value_64 rfl (by decide) rfl ?_
        refine vn_iinc 1 dX6_value_65 rfl k_iconst_1 (by decide) rfl ?_
        refine v_goto (tgt := 20) dX6_value_68 rfl ?_
        exact ih (i + 1) (by omega)
  obtain ⟨x, hx1, hx2⟩ := hx 0 (by omega)
  refine v_aload_n (i := 0) dX6_value_0 rfl rfl ?_
  refine go_get3 h KX6 0 (by decide) rfl (pl) h1 q1681 dX6_value_1 ?_
  refine v_iconst (v := nI 0) dX6_value_4 k_iconst_0 ?_
  refine v_Lget h3 (i := 0) hx1 q430 (by omega) (Nat.le_of_ble_eq_true rfl) dX6_value_5 ?_
  refine v_Excast hx2 q431 dX6_value_10 ?_
  refine v_aload_n (i := 1) dX6_value_13 rfl rfl ?_
  refine v_Exval hx2 (by omega) q432 (Nat.le_of_ble_eq_true rfl) dX6_value_14 ?_
  refine v_istore_n (i := 2) dX6_value_17 rfl (by decide) rfl ?_
  refine v_iconst (v := nI 1) dX6_value_18 k_iconst_1 ?_
  refine v_istore_n (i := 3) dX6_value_19 rfl (by decide) rfl ?_
  exact L20 cs.length 0 (by omega)
theorem EX0.val {G : Gl} {η0 : AH} {oa : Option Nat} {a w : Nat} {τ : Td} {s b l sh : Nat} (hA : As4 G η0 oa a w τ s b l sh) {q : Nat} {f : Fn} (h : EX0 η0 q f) (d : Nat) : ExC G η0 q a (f (vaM τ s b l sh)) (d + 4) := by
  rcases h with ⟨n, ad, σ, h1, h2, rfl⟩ | ⟨n, ad, σ, h1, h2, h3, rfl⟩ | ⟨n, ad, σ, h1, h2, h3, rfl⟩
  · obtain ⟨F, h4⟩ := h1.me
    exact Or.inl ⟨F, h4, cE_num hA h1 h2⟩
  · obtain ⟨F, h4⟩ := h1.me
    exact Or.inr (Or.inl ⟨F, h4, cE_mem hA h1 h2 h3⟩)
  · obtain ⟨F, h4⟩ := h1.me
    exact Or.inr (Or.inr (Or.inl ⟨F, h4, cE_word hA h1 h2 h3⟩))
theorem EX.val {G : Gl} {η0 : AH} {oa : Option Nat} {a w : Nat} {τ : Td} {s b l sh : Nat} (hA : As4 G η0 oa a w τ s b l sh) : ∀ {k q : Nat} {f : Fn}, EX G η0 k q f → ExC G η0 q a (f (vaM τ s b l sh)) (5 * k + 4)
  | 0, q, f, h => EX0.val hA h 0
  | k + 1, q, f, h => by
    rcases h with h | ⟨e, g, ad, σ, h1, h2, h3, rfl⟩ | ⟨pl, sb, cap, capS, xs, cs, fs, ad, σ, h1, h2, h3, h4, h5, h6, h7, h8, rfl⟩
    · exact EX0.val hA h (5 * (k + 1))
    · obtain ⟨F, h5⟩ := h1.me
      exact Or.inr (Or.inr (Or.inr (Or.inl ⟨F, h5, cE_no hA (by omega) h1 h2 (EX.val hA h3)⟩)))
    · obtain ⟨F, h9⟩ := h1.me
      exact Or.inr (Or.inr (Or.inr (Or.inr ⟨F, h9, cE_chain hA (d := 5 * k) (by omega) h1 h2 h3 h4 h5 h6 h7 (fun i x hx => EX.val hA (h8 i x hx))⟩)))
