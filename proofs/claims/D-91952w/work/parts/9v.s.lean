set_option maxRecDepth 100000
section VWA
variable {G : Gl} {Γ : Fx} {mt : MethodName} {cc : ByteArray} {nL : Nat} {ret : Option FieldType} {tb : List ExceptionTableEntry} {d : Nat} {P : Rs → AH → Prop} {kc ks : Nat} {η : AH} {pc : Nat} {lv : List (Option Value)} {rest : List Value}
variable {ci N : Nat} {C : String} {T : u_T} {ty : Nat → FieldType} {a : Nat} {o : Option Nat} {F : Nat → Value} {index : Nat}
variable {x y : MethodName} {cy : ByteArray} {nY dy mc ms n kc' ks' : Nat} {rY : Option FieldType} {As st0 : List Value} {P' : Rs → AH → Prop}
theorem v_callA {owner : String} (hM : Ct G y cy nY rY dy mc ms (.ref a :: As) η P') (hT : GoodIn lw_all (va_wsU mt.cls index C owner x y (ws_ y cy nY rY))) (hz : Cond.declares ⟨owner, x.name, x.desc⟩ ∈ lw_tbl) (hI : owner ≠ "java/lang/invoke/MethodHandle" ∧ owner ≠ "java/lang/invoke/VarHandle" ∧ (parseMethodDescriptor x.desc).map (fun d => d.parameters.length) = some n) (K : Cl ci C T N ty) (hη : η a = some (o, ob ci F)) (hst : st0 = As.reverse ++ .ref a :: rest) (hl : As.length = n) (hdy : dy < d) (hm : nY ≤ 41) (hW : (rest.map fun v => v.category).sum ≤ 8) (hb1 : kc' + mc ≤ kc) (hb2 : ks' + ms ≤ ks) (hdg : decode cc pc = .ok (.invokevirtual index, 3)) (kr : ∀ v η', P' (.inl v) η' → V G Γ mt cc nL ret tb d P kc' ks' η' (pc + 3) lv (v.toList ++ rest)) (kx : ∀ E q η', P' (.inr (E, q)) η' → VX G Γ mt cc nL ret tb d P kc' ks' η' pc lv rest E q) : V G Γ mt cc nL ret tb d P kc ks η pc lv st0 :=
  v_run (fun Q H locs ls cells slots a1 a2 a3 a4 a5 => ⟨_, vx_runU (g := F0 Γ.2.2.2.2.1 pc ls st0) Q.fix hM (va_cwA n Q.2.2.2.2.1 hT rfl rfl rfl (va_Nw.of rfl (Q.2.2.2.2.2.1.1.use hz rfl (A := #[]))) hI (Q.rm hdy hm)) ⟨Pco.blind, a1.recv Q.2.2.2.2.2.1.2.1 K hη, Q.pre a1 a2⟩ rfl hl a3.1 hst (lv_room hW) hdg ⟨a4, a5⟩⟩) hb1 hb2 kr kx
end VWA
/-- the world's own fields, by whatever owner -/
def W1 (η : AH) (w : Nat) (τ : Td) : Prop := ∃ (o : Option Nat) (ad L : Nat → Nat), tN τ 30 ≤ 8 ∧ (∀ i, i < tN τ 30 → tA τ 38 i ≤ 99 ∧ tA τ 39 i ≤ 99 ∧ tA τ 40 i < 256) ∧ GO scX2 η o w ad (wsg τ L)
theorem W1.rcv {η : AH} {w : Nat} {τ : Td} (h : W1 η w τ) : ∃ z : Option Nat × (Nat → Value), η w = some (z.1, ob 1 z.2) := by
  obtain ⟨o, ad, L, -, -, h1⟩ := h
  exact h1.rcv
theorem cW1_weight {G : Gl} {η : AH} {w : Nat} {τ : Td} (hW : W1 η w τ) {s : Nat} (hs : s < 2147483648) : Ct G yX2_weight cX2_weight 4 (some .int) 1 (0) (0) [.ref w, .int (nI s)] η (re (some (.int (nI (sumN (tA τ 38) s (tN τ 30))))) η) := by
  refine Ct.start rfl rfl (Nat.le_of_ble_eq_true rfl) (fun Γ => ?_)
  obtain ⟨oW, ad, L, wb3, wb8, hWo⟩ := hW
  have L0 : ∀ (n : Nat) (t v : Nat), tN τ 30 - t = n → t ≤ tN τ 30 → v = sumN (tA τ 38) s t → v ≤ t * 99 → V G Γ yX2_weight cX2_weight 4 (some .int) [] 1 (re (some (.int (nI (sumN (tA τ 38) s (tN τ 30))))) η) (0) (0) (η) 4 [some (.ref w), some (.int (nI s)), some (.int (nI v)), some (.int (nI t))] [] := by
    intro n
    induction n using Nat.strongRecOn with
    | _ n ih =>
      intro t v hn ht hv hb
      refine v_iload_n (i := 3) dX2_weight_4 rfl rfl ?_
      refine v_aload_n (i := 0) dX2_weight_5 rfl rfl ?_
      refine go_get0 hWo KX2 1 (by decide) rfl (tN τ 30) rfl q214 dX2_weight_6 ?_
      refine vn_icmp_ge (tgt := 36) dX2_weight_9 rfl (by omega) (by omega) (fun c9 => ?_) (fun c9 => ?_)
      · have e : t = tN τ 30 := by omega
        subst e
        refine v_iload_n (i := 2) dX2_weight_36 rfl rfl ?_
        exact v_iret rfl dX2_weight_37 ⟨by rw [hv], rfl⟩
      · have hk := wb8 t (by omega)
        refine v_iload_n (i := 1) dX2_weight_12 rfl rfl ?_
        refine v_iload_n (i := 3) dX2_weight_13 rfl rfl ?_
        refine vn_ishr (by omega) (by omega) dX2_weight_14 ?_
        refine v_iconst (v := nI 1) dX2_weight_15 k_iconst_1 ?_
        refine vn_and1 dX2_weight_16 ?_
        refine v_iconst (v := nI 1) dX2_weight_17 k_iconst_1 ?_
        refine vn_icmp_ne (tgt := 30) dX2_weight_18 rfl (by omega) (by omega) (fun c18 => ?_) (fun c18 => ?_)
        · refine vn_iinc 1 dX2_weight_30 rfl k_iconst_1 (by decide) rfl ?_
          refine v_goto (tgt := 4) dX2_weight_33 rfl ?_
          exact ih _ (by omega) (t + 1) _ rfl (by omega) (by simp_all [sumN, bt]) (by omega)
        · refine v_iload_n (i := 2) dX2_weight_21 rfl rfl ?_
          refine v_aload_n (i := 0) dX2_weight_22 rfl rfl ?_
          refine go_getA hWo KX2 4 (by decide) (by decide) q225 dX2_weight_23 ?_
          refine v_iload_n (i := 3) dX2_weight_26 rfl rfl ?_
          refine go_ld10 hWo 4 (by decide) rfl (show _ < 8 from (by omega)) (by decide) _ ws_4 dX2_weight_27 ?_
          refine vn_iadd dX2_weight_28 ?_
          refine v_istore_n (i := 2) dX2_weight_29 rfl (by decide) rfl ?_
          refine vn_iinc 1 dX2_weight_30 rfl k_iconst_1 (by decide) rfl ?_
          refine v_goto (tgt := 4) dX2_weight_33 rfl ?_
          exact ih _ (by omega) (t + 1) _ rfl (by omega) (by simp_all [sumN, bt]) (by omega)
  refine v_iconst (v := nI 0) dX2_weight_0 k_iconst_0 ?_
  refine v_istore_n (i := 2) dX2_weight_1 rfl (by decide) rfl ?_
  refine v_iconst (v := nI 0) dX2_weight_2 k_iconst_0 ?_
  refine v_istore_n (i := 3) dX2_weight_3 rfl (by decide) rfl ?_
  exact L0 _ 0 0 rfl (by omega) rfl (by omega)
theorem cW1_rowers {G : Gl} {η : AH} {w : Nat} {τ : Td} (hW : W1 η w τ) {s : Nat} (hs : s < 2147483648) : Ct G yX2_rowers cX2_rowers 4 (some .int) 1 (0) (0) [.ref w, .int (nI s)] η (re (some (.int (nI (rowN (tA τ 39) s (tN τ 30))))) η) := by
  refine Ct.start rfl rfl (Nat.le_of_ble_eq_true rfl) (fun Γ => ?_)
  obtain ⟨oW, ad, L, wb3, wb8, hWo⟩ := hW
  have L0 : ∀ (n : Nat) (t v : Nat), tN τ 30 - t = n → t ≤ tN τ 30 → v = rowN (tA τ 39) s t → V G Γ yX2_rowers cX2_rowers 4 (some .int) [] 1 (re (some (.int (nI (rowN (tA τ 39) s (tN τ 30))))) η) (0) (0) (η) 4 [some (.ref w), some (.int (nI s)), some (.int (nI v)), some (.int (nI t))] [] := by
    intro n
    induction n using Nat.strongRecOn with
    | _ n ih =>
      intro t v hn ht hv
      refine v_iload_n (i := 3) dX2_rowers_4 rfl rfl ?_
      refine v_aload_n (i := 0) dX2_rowers_5 rfl rfl ?_
      refine go_get0 hWo KX2 1 (by decide) rfl (tN τ 30) rfl q214 dX2_rowers_6 ?_
      refine vn_icmp_ge (tgt := 39) dX2_rowers_9 rfl (by omega) (by omega) (fun c9 => ?_) (fun c9 => ?_)
      · have e : t = tN τ 30 := by omega
        subst e
        refine v_iload_n (i := 2) dX2_rowers_39 rfl rfl ?_
        exact v_iret rfl dX2_rowers_40 ⟨by rw [hv], rfl⟩
      · have hk := wb8 t (by omega)
        refine v_iload_n (i := 1) dX2_rowers_12 rfl rfl ?_
        refine v_iload_n (i := 3) dX2_rowers_13 rfl rfl ?_
        refine vn_ishr (by omega) (by omega) dX2_rowers_14 ?_
        refine v_iconst (v := nI 1) dX2_rowers_15 k_iconst_1 ?_
        refine vn_and1 dX2_rowers_16 ?_
        refine v_iconst (v := nI 1) dX2_rowers_17 k_iconst_1 ?_
        refine vn_icmp_ne (tgt := 33) dX2_rowers_18 rfl (by omega) (by omega) (fun c18 => ?_) (fun c18 => ?_)
        · refine vn_iinc 1 dX2_rowers_33 rfl k_iconst_1 (by decide) rfl ?_
          refine v_goto (tgt := 4) dX2_rowers_36 rfl ?_
          exact ih _ (by omega) (t + 1) _ rfl (by omega) (by simp_all [rowN, bt])
        · refine v_aload_n (i := 0) dX2_rowers_21 rfl rfl ?_
          refine go_getA hWo KX2 5 (by decide) (by decide) q228 dX2_rowers_22 ?_
          refine v_iload_n (i := 3) dX2_rowers_25 rfl rfl ?_
          refine go_ld10 hWo 5 (by decide) rfl (show _ < 8 from (by omega)) (by decide) _ ws_5 dX2_rowers_26 ?_
          refine vn_if_le (tgt := 33) dX2_rowers_27 rfl (by omega) (fun c27 => ?_) (fun c27 => ?_)
          · refine vn_iinc 1 dX2_rowers_33 rfl k_iconst_1 (by decide) rfl ?_
            refine v_goto (tgt := 4) dX2_rowers_36 rfl ?_
            exact ih _ (by omega) (t + 1) _ rfl (by omega) (by simp_all [rowN, bt])
          · refine vn_iinc 1 dX2_rowers_30 rfl k_iconst_1 (by decide) rfl ?_
            refine vn_iinc 1 dX2_rowers_33 rfl k_iconst_1 (by decide) rfl ?_
            refine v_goto (tgt := 4) dX2_rowers_36 rfl ?_
            exact ih _ (by omega) (t + 1) _ rfl (by omega) (by simp_all [rowN, bt])
  refine v_iconst (v := nI 0) dX2_rowers_0 k_iconst_0 ?_
  refine v_istore_n (i := 2) dX2_rowers_1 rfl (by decide) rfl ?_
  refine v_iconst (v := nI 0) dX2_rowers_2 k_iconst_0 ?_
  refine v_istore_n (i := 3) dX2_rowers_3 rfl (by decide) rfl ?_
  exact L0 _ 0 0 rfl (by omega) rfl
theorem cW1_named {G : Gl} {η0 : AH} {w : Nat} {τ : Td} (hW : W1 η0 w τ) {c : Nat} (hc : c < 2147483648) : Ct G yX2_named cX2_named 3 (some .int) 1 (0) (0) [.ref w, .int (nI c)] η0 (re (some (.int (oI (nmF (tA τ 40) c (tN τ 30) 0)))) η0) := by
  refine Ct.start rfl rfl (Nat.le_of_ble_eq_true rfl) (fun Γ => ?_)
  obtain ⟨oW, ad, L, wb3, wb8, hWo⟩ := hW
  have L0 : ∀ (n k : Nat), k + n = tN τ 30 → nmF (tA τ 40) c (tN τ 30) 0 = nmF (tA τ 40) c n k → V G Γ yX2_named cX2_named 3 (some .int) [] 1 (re (some (.int (oI (nmF (tA τ 40) c (tN τ 30) 0)))) η0) (0) (0) (η0) 2 [some (.ref w), some (.int (nI c)), some (.int (nI k))] [] := by
    intro n
    induction n with
    | zero =>
      intro k hk he
      have ek : k = tN τ 30 := by omega
      subst ek
      refine v_iload_n (i := 2) dX2_named_2 rfl rfl ?_
      refine v_aload_n (i := 0) dX2_named_3 rfl rfl ?_
      refine go_get0 hWo KX2 1 (by decide) rfl (tN τ 30) rfl q214 dX2_named_4 ?_
      refine vn_icmp_ge (tgt := 28) dX2_named_7 rfl (by omega) (by omega) (fun c7 => ?_) (fun c7 => ?_)
      · refine v_iconst (v := -1) dX2_named_28 k_iconst_m1 ?_
        exact v_iret rfl dX2_named_29 ⟨by rw [he]; rfl, rfl⟩
      · omega
    | succ n ih =>
      intro k hk he
      have h8 := wb8 k (by omega)
      refine v_iload_n (i := 2) dX2_named_2 rfl rfl ?_
      refine v_aload_n (i := 0) dX2_named_3 rfl rfl ?_
      refine go_get0 hWo KX2 1 (by decide) rfl (tN τ 30) rfl q214 dX2_named_4 ?_
      refine vn_icmp_ge (tgt := 28) dX2_named_7 rfl (by omega) (by omega) (fun c7 => ?_) (fun c7 => ?_)
      · omega
      · refine v_aload_n (i := 0) dX2_named_10 rfl rfl ?_
        refine go_getA hWo KX2 6 (by decide) (by decide) q231 dX2_named_11 ?_
        refine v_iload_n (i := 2) dX2_named_14 rfl rfl ?_
        refine go_ld10 hWo 6 (by decide) rfl (show _ < 8 from (by omega)) (by decide) _ ws_6 dX2_named_15 ?_
        refine v_iload_n (i := 1) dX2_named_16 rfl rfl ?_
        refine vn_icmp_ne (tgt := 22) dX2_named_17 rfl (by omega) (by omega) (fun c17 => ?_) (fun c17 => ?_)
        · refine vn_iinc 1 dX2_named_22 rfl k_iconst_1 (by decide) rfl ?_
          refine v_goto (tgt := 2) dX2_named_25 rfl ?_
          exact ih (k + 1) (by omega) (by rw [he]; exact if_neg c17)
        · refine v_iload_n (i := 2) dX2_named_20 rfl rfl ?_
          exact v_iret rfl dX2_named_21 ⟨by rw [he]; unfold nmF; rw [if_pos c17]; rfl, rfl⟩
  refine v_iconst (v := nI 0) dX2_named_0 k_iconst_0 ?_
  refine v_istore_n (i := 2) dX2_named_1 rfl (by decide) rfl ?_
  exact L0 _ 0 (by omega) rfl
/-- the group that is asked of: set, boats, lamp, shore -/
def As4 (G : Gl) (η : AH) (o : Option Nat) (a w : Nat) (τ : Td) (s b l sh : Nat) : Prop := ∃ ad σ, GO scX4 η o a ad σ ∧ gN σ 0 = w + 1 ∧ gN σ 1 = s ∧ gN σ 2 = b ∧ gN σ 3 = l ∧ gN σ 4 = sh ∧ W1 η w τ ∧ s < 256 ∧ b < 8 ∧ l < 8 ∧ sh < 8
/-- the model's number of a word of value -/
def wcd (k : Nat) : Nat := if k = 0 then 117 else if k = 1 then 107 else if k = 2 then 118 else if k = 3 then 119 else if k = 4 then 105 else 120
abbrev vaM (τ : Td) (s b l sh : Nat) : Nat → Nat := valM (tA τ 38) (tA τ 39) (tN τ 30) s sh b l
theorem cA4_value {G : Gl} {η0 : AH} {o : Option Nat} {a w : Nat} {τ : Td} {s b l sh k : Nat} (hA : As4 G η0 o a w τ s b l sh) (hk : k < 6) : Ct G yX4_value cX4_value 2 (some .int) 3 (0) (0) [.ref a, .int (nI k)] η0 (re (some (.int (nI (vaM τ s b l sh (wcd k))))) η0) := by
  refine Ct.start rfl rfl (Nat.le_of_ble_eq_true rfl) (fun Γ => ?_)
  obtain ⟨ad, σ, hAo, a0, a1, a2, a3, a4, hW, b1, b2, b3, b4⟩ := hA
  refine v_iload_n (i := 1) dX4_value_0 rfl rfl ?_
  rcases (show k = 0 ∨ k = 1 ∨ k = 2 ∨ k = 3 ∨ k = 4 ∨ k = 5 by omega) with rfl | rfl | rfl | rfl | rfl | rfl
  · refine v_tableIn (off := 35) (tgt := 36) dX4_value_1 (by decide) (by decide) (by decide) rfl ?_
    refine v_aload_n (i := 0) dX4_value_36 rfl rfl ?_
    refine go_get0 hAo KX4 1 (by decide) rfl (s) a1 q360 dX4_value_37 ?_
    refine v_callS (cJ_bitCount b1) (lw_S q446 q447 q129 q448) iJ6_bitCount rfl rfl (by decide) (by decide) (Nat.le_of_ble_eq_true rfl) (Nat.le_refl _) (Nat.le_refl _) dX4_value_40 (kr_ei ?_) kx_e
    exact v_iret rfl dX4_value_43 ⟨rfl, rfl⟩
  · refine v_tableIn (off := 43) (tgt := 44) dX4_value_1 (by decide) (by decide) (by decide) rfl ?_
    refine v_aload_n (i := 0) dX4_value_44 rfl rfl ?_
    refine go_get3 hAo KX4 0 (by decide) rfl (w) a0 q358 dX4_value_45 ?_
    refine v_aload_n (i := 0) dX4_value_48 rfl rfl ?_
    refine go_get0 hAo KX4 1 (by decide) rfl (s) a1 q360 dX4_value_49 ?_
    refine v_callVe (cW1_weight hW (by omega)) (lw_V q452 q453 q454 q120 q455) iX2_weight rfl KX2 hW.rcv rfl rfl (by decide) (by decide) (Nat.le_of_ble_eq_true rfl) (Nat.le_refl _) (Nat.le_refl _) dX4_value_52 (kr_ei ?_) kx_e
    exact v_iret rfl dX4_value_55 ⟨rfl, rfl⟩
  · refine v_tableIn (off := 55) (tgt := 56) dX4_value_1 (by decide) (by decide) (by decide) rfl ?_
    refine v_aload_n (i := 0) dX4_value_56 rfl rfl ?_
    refine go_get3 hAo KX4 0 (by decide) rfl (w) a0 q358 dX4_value_57 ?_
    refine v_aload_n (i := 0) dX4_value_60 rfl rfl ?_
    refine go_get0 hAo KX4 1 (by decide) rfl (s) a1 q360 dX4_value_61 ?_
    refine v_callVe (cW1_rowers hW (by omega)) (lw_V q456 q457 q458 q120 q459) iX2_rowers rfl KX2 hW.rcv rfl rfl (by decide) (by decide) (Nat.le_of_ble_eq_true rfl) (Nat.le_refl _) (Nat.le_refl _) dX4_value_64 (kr_ei ?_) kx_e
    exact v_iret rfl dX4_value_67 ⟨rfl, rfl⟩
  · refine v_tableIn (off := 67) (tgt := 68) dX4_value_1 (by decide) (by decide) (by decide) rfl ?_
    refine v_aload_n (i := 0) dX4_value_68 rfl rfl ?_
    refine go_get0 hAo KX4 2 (by decide) rfl (b) a2 q362 dX4_value_69 ?_
    exact v_iret rfl dX4_value_72 ⟨rfl, rfl⟩
  · refine v_tableIn (off := 72) (tgt := 73) dX4_value_1 (by decide) (by decide) (by decide) rfl ?_
    refine v_aload_n (i := 0) dX4_value_73 rfl rfl ?_
    refine go_get0 hAo KX4 3 (by decide) rfl (l) a3 q364 dX4_value_74 ?_
    exact v_iret rfl dX4_value_77 ⟨rfl, rfl⟩
  · refine v_tableOut (tgt := 78) dX4_value_1 (by decide) rfl ?_
    refine v_aload_n (i := 0) dX4_value_78 rfl rfl ?_
    refine go_get0 hAo KX4 4 (by decide) rfl (sh) a4 q367 dX4_value_79 ?_
    exact v_iret rfl dX4_value_82 ⟨rfl, rfl⟩
