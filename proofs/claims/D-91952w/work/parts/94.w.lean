set_option maxRecDepth 100000
section VLI
variable {G : Gl} {Γ : Fx} {mt : MethodName} {cc : ByteArray} {nL : Nat} {ret : Option FieldType} {tb : List ExceptionTableEntry} {d : Nat} {P : Rs → AH → Prop} {kc ks : Nat} {η : AH} {pc : Nat} {lv : List (Option Value)} {rest : List Value} {index : Nat}
variable {o : Option Nat} {l cap : Nat} {xs : List Nat}
theorem v_Lsize (h : AL G η o l xs cap) (hlink : Cond.methodLink mt.cls index ⟨"java/util/List", "size", "()I"⟩ ∈ lw_all) (hd : 0 < d) (hW : (rest.map fun v => v.category).sum ≤ 8) (hdg : decode cc pc = .ok (.invokeinterface index 1, 5)) (kk : V G Γ mt cc nL ret tb d P kc ks η (pc + 5) lv (.int (nI xs.length) :: rest)) : V G Γ mt cc nL ret tb d P kc ks η pc lv (.ref l :: rest) :=
  v_callFe (n := 0) (C := RJ2) (x := ⟨"java/util/List", "size", "()I"⟩) (cJ_size h) (lw_F hlink q385 q387 q123 q389) q383 q382 rfl q388 q386 q384 ⟨by decide, by decide, by decide +kernel⟩ KJ2 h.rcv rfl rfl hd (by decide) hW (Nat.le_refl _) (Nat.le_refl _) hdg (kr_ei kk) kx_e
theorem v_Lget {i q : Nat} (h : AL G η o l xs cap) (hq : xs[i]? = some q) (hlink : Cond.methodLink mt.cls index ⟨"java/util/List", "get", "(I)Ljava/lang/Object;"⟩ ∈ lw_all) (hd : 2 < d) (hW : (rest.map fun v => v.category).sum ≤ 8) (hdg : decode cc pc = .ok (.invokeinterface index 2, 5)) (kk : V G Γ mt cc nL ret tb d P kc ks η (pc + 5) lv (.ref q :: rest)) : V G Γ mt cc nL ret tb d P kc ks η pc lv (.int (nI i) :: .ref l :: rest) :=
  v_callFe (n := 1) (C := RJ2) (x := ⟨"java/util/List", "get", "(I)Ljava/lang/Object;"⟩) (cJ_get h hq) (lw_F hlink q394 q396 q123 q398) q393 q392 rfl q397 q395 q384 ⟨by decide, by decide, by decide +kernel⟩ KJ2 h.rcv rfl rfl hd (by decide) hW (Nat.le_refl _) (Nat.le_refl _) hdg (kr_er kk) kx_e
theorem v_Lempty (h : AL G η o l xs cap) (hlink : Cond.methodLink mt.cls index ⟨"java/util/List", "isEmpty", "()Z"⟩ ∈ lw_all) (hd : 0 < d) (hW : (rest.map fun v => v.category).sum ≤ 8) (hdg : decode cc pc = .ok (.invokeinterface index 1, 5)) (kk : V G Γ mt cc nL ret tb d P kc ks η (pc + 5) lv (.int (nI (if xs.length = 0 then 1 else 0)) :: rest)) : V G Γ mt cc nL ret tb d P kc ks η pc lv (.ref l :: rest) :=
  v_callFe (n := 0) (C := RJ2) (x := ⟨"java/util/List", "isEmpty", "()Z"⟩) (cJ_isEmpty h) (lw_F hlink q1014 q1016 q123 q1018) q1013 q1012 rfl q1017 q1015 q384 ⟨by decide, by decide, by decide +kernel⟩ KJ2 h.rcv rfl rfl hd (by decide) hW (Nat.le_refl _) (Nat.le_refl _) hdg (kr_ei kk) kx_e
end VLI
theorem cW_all {G : Gl} {η : AH} {w : Nat} {τ : Td} (hW : Wd G η w τ) : Ct G yX2_all cX2_all 1 (some .int) 0 (0) (0) [.ref w] η (re (some (.int (nI (2 ^ tN τ 30 - 1)))) η) := by
  refine Ct.start rfl rfl (Nat.le_of_ble_eq_true rfl) (fun Γ => ?_)
  obtain ⟨ad, L, hTB, hWo, hWw, hWb, ⟨xl, cl, hWl, hWln⟩, hWr⟩ := hW
  obtain ⟨⟨wb1, wb2, wb3, wb4, wb5, wb6, wb7⟩, wb8, wb9, wb10, wb11, wb12⟩ := id hTB
  refine v_iconst (v := nI 1) dX2_all_0 k_iconst_1 ?_
  refine v_aload_n (i := 0) dX2_all_1 rfl rfl ?_
  refine go_get0 hWo KX2 1 (by decide) rfl (tN τ 30) rfl q214 dX2_all_2 ?_
  refine vn_ishl (by omega) dX2_all_5 ?_
  refine v_iconst (v := nI 1) dX2_all_6 k_iconst_1 ?_
  refine vn_isub (Nat.mul_pos (by decide) (Nat.two_pow_pos _)) dX2_all_7 ?_
  exact v_iret rfl dX2_all_8 ⟨by rw [Nat.one_mul], rfl⟩
theorem cW_weight {G : Gl} {η : AH} {w : Nat} {τ : Td} (hW : Wd G η w τ) {s : Nat} (hs : s < 2147483648) : Ct G yX2_weight cX2_weight 4 (some .int) 1 (0) (0) [.ref w, .int (nI s)] η (re (some (.int (nI (sumN (tA τ 38) s (tN τ 30))))) η) := by
  refine Ct.start rfl rfl (Nat.le_of_ble_eq_true rfl) (fun Γ => ?_)
  obtain ⟨ad, L, hTB, hWo, hWw, hWb, ⟨xl, cl, hWl, hWln⟩, hWr⟩ := hW
  obtain ⟨⟨wb1, wb2, wb3, wb4, wb5, wb6, wb7⟩, wb8, wb9, wb10, wb11, wb12⟩ := id hTB
  have L0 : ∀ (n : Nat) (t v : Nat), tN τ 30 - t = n → t ≤ tN τ 30 → v = sumN (tA τ 38) s t → v ≤ t * 99 → V G Γ yX2_weight cX2_weight 4 (some .int) [] 1 (re (some (.int (nI (sumN (tA τ 38) s (tN τ 30))))) η) (0) (0) (η) 4 [some (.ref w), some (.int (nI s)), some (.int (nI v)), some (.int (nI t))] [] := by
    intro n
    induction n using Nat.strongRecOn with
    | _ n ih =>
      intro t v hn ht hv hb
      refine v_iload_n (i := 3) dX2_weight_4 rfl rfl ?_
      refine v_aload_n (i := 0) dX2_weight_5 rfl rfl ?_
      refine go_get0 hWo KX2 1 (by decide) rfl (tN τ 30) rfl q214 dX2_weight_6 ?_
      refine vn_icmp_ge (tgt := 36) dX2_weight_9 rfl (by omega) (by omega) (fun c9 => ?_) (fun c9 => ?_)
      · have e : t = tN τ 30 := by omega
        subst e
        refine v_iload_n (i := 2) dX2_weight_36 rfl rfl ?_
        exact v_iret rfl dX2_weight_37 ⟨by rw [hv], rfl⟩
      · have hk := wb8 t (by omega)
        refine v_iload_n (i := 1) dX2_weight_12 rfl rfl ?_
        refine v_iload_n (i := 3) dX2_weight_13 rfl rfl ?_
        refine vn_ishr (by omega) (by omega) dX2_weight_14 ?_
        refine v_iconst (v := nI 1) dX2_weight_15 k_iconst_1 ?_
        refine vn_and1 dX2_weight_16 ?_
        refine v_iconst (v := nI 1) dX2_weight_17 k_iconst_1 ?_
        refine vn_icmp_ne (tgt := 30) dX2_weight_18 rfl (by omega) (by omega) (fun c18 => ?_) (fun c18 => ?_)
        · refine vn_iinc 1 dX2_weight_30 rfl k_iconst_1 (by decide) rfl ?_
          refine v_goto (tgt := 4) dX2_weight_33 rfl ?_
          exact ih _ (by omega) (t + 1) _ rfl (by omega) (by simp_all [sumN, bt]) (by omega)
        · refine v_iload_n (i := 2) dX2_weight_21 rfl rfl ?_
          refine v_aload_n (i := 0) dX2_weight_22 rfl rfl ?_
          refine go_getA hWo KX2 4 (by decide) (by decide) q225 dX2_weight_23 ?_
          refine v_iload_n (i := 3) dX2_weight_26 rfl rfl ?_
          refine go_ld10 hWo 4 (by decide) rfl (show _ < 8 from (by omega)) (by decide) _ ws_4 dX2_weight_27 ?_
          refine vn_iadd dX2_weight_28 ?_
          refine v_istore_n (i := 2) dX2_weight_29 rfl (by decide) rfl ?_
          refine vn_iinc 1 dX2_weight_30 rfl k_iconst_1 (by decide) rfl ?_
          refine v_goto (tgt := 4) dX2_weight_33 rfl ?_
          exact ih _ (by omega) (t + 1) _ rfl (by omega) (by simp_all [sumN, bt]) (by omega)
  refine v_iconst (v := nI 0) dX2_weight_0 k_iconst_0 ?_
  refine v_istore_n (i := 2) dX2_weight_1 rfl (by decide) rfl ?_
  refine v_iconst (v := nI 0) dX2_weight_2 k_iconst_0 ?_
  refine v_istore_n (i := 3) dX2_weight_3 rfl (by decide) rfl ?_
  exact L0 _ 0 0 rfl (by omega) rfl (by omega)
theorem cW_rowers {G : Gl} {η : AH} {w : Nat} {τ : Td} (hW : Wd G η w τ) {s : Nat} (hs : s < 2147483648) : Ct G yX2_rowers cX2_rowers 4 (some .int) 1 (0) (0) [.ref w, .int (nI s)] η (re (some (.int (nI (rowN (tA τ 39) s (tN τ 30))))) η) := by
  refine Ct.start rfl rfl (Nat.le_of_ble_eq_true rfl) (fun Γ => ?_)
  obtain ⟨ad, L, hTB, hWo, hWw, hWb, ⟨xl, cl, hWl, hWln⟩, hWr⟩ := hW
  obtain ⟨⟨wb1, wb2, wb3, wb4, wb5, wb6, wb7⟩, wb8, wb9, wb10, wb11, wb12⟩ := id hTB
  have L0 : ∀ (n : Nat) (t v : Nat), tN τ 30 - t = n → t ≤ tN τ 30 → v = rowN (tA τ 39) s t → V G Γ yX2_rowers cX2_rowers 4 (some .int) [] 1 (re (some (.int (nI (rowN (tA τ 39) s (tN τ 30))))) η) (0) (0) (η) 4 [some (.ref w), some (.int (nI s)), some (.int (nI v)), some (.int (nI t))] [] := by
    intro n
    induction n using Nat.strongRecOn with
    | _ n ih =>
      intro t v hn ht hv
      refine v_iload_n (i := 3) dX2_rowers_4 rfl rfl ?_
      refine v_aload_n (i := 0) dX2_rowers_5 rfl rfl ?_
      refine go_get0 hWo KX2 1 (by decide) rfl (tN τ 30) rfl q214 dX2_rowers_6 ?_
      refine vn_icmp_ge (tgt := 39) dX2_rowers_9 rfl (by omega) (by omega) (fun c9 => ?_) (fun c9 => ?_)
      · have e : t = tN τ 30 := by omega
        subst e
        refine v_iload_n (i := 2) dX2_rowers_39 rfl rfl ?_
        exact v_iret rfl dX2_rowers_40 ⟨by rw [hv], rfl⟩
      · have hk := wb8 t (by omega)
        refine v_iload_n (i := 1) dX2_rowers_12 rfl rfl ?_
        refine v_iload_n (i := 3) dX2_rowers_13 rfl rfl ?_
        refine vn_ishr (by omega) (by omega) dX2_rowers_14 ?_
        refine v_iconst (v := nI 1) dX2_rowers_15 k_iconst_1 ?_
        refine vn_and1 dX2_rowers_16 ?_
        refine v_iconst (v := nI 1) dX2_rowers_17 k_iconst_1 ?_
        refine vn_icmp_ne (tgt := 33) dX2_rowers_18 rfl (by omega) (by omega) (fun c18 => ?_) (fun c18 => ?_)
        · refine vn_iinc 1 dX2_rowers_33 rfl k_iconst_1 (by decide) rfl ?_
          refine v_goto (tgt := 4) dX2_rowers_36 rfl ?_
          exact ih _ (by omega) (t + 1) _ rfl (by omega) (by simp_all [rowN, bt])
        · refine v_aload_n (i := 0) dX2_rowers_21 rfl rfl ?_
          refine go_getA hWo KX2 5 (by decide) (by decide) q228 dX2_rowers_22 ?_
          refine v_iload_n (i := 3) dX2_rowers_25 rfl rfl ?_
          refine go_ld10 hWo 5 (by decide) rfl (show _ < 8 from (by omega)) (by decide) _ ws_5 dX2_rowers_26 ?_
          refine vn_if_le (tgt := 33) dX2_rowers_27 rfl (by omega) (fun c27 => ?_) (fun c27 => ?_)
          · refine vn_iinc 1 dX2_rowers_33 rfl k_iconst_1 (by decide) rfl ?_
            refine v_goto (tgt := 4) dX2_rowers_36 rfl ?_
            exact ih _ (by omega) (t + 1) _ rfl (by omega) (by simp_all [rowN, bt])
          · refine vn_iinc 1 dX2_rowers_30 rfl k_iconst_1 (by decide) rfl ?_
            refine vn_iinc 1 dX2_rowers_33 rfl k_iconst_1 (by decide) rfl ?_
            refine v_goto (tgt := 4) dX2_rowers_36 rfl ?_
            exact ih _ (by omega) (t + 1) _ rfl (by omega) (by simp_all [rowN, bt])
  refine v_iconst (v := nI 0) dX2_rowers_0 k_iconst_0 ?_
  refine v_istore_n (i := 2) dX2_rowers_1 rfl (by decide) rfl ?_
  refine v_iconst (v := nI 0) dX2_rowers_2 k_iconst_0 ?_
  refine v_istore_n (i := 3) dX2_rowers_3 rfl (by decide) rfl ?_
  exact L0 _ 0 0 rfl (by omega) rfl
theorem cW_slowest {G : Gl} {η : AH} {w : Nat} {τ : Td} (hW : Wd G η w τ) {s : Nat} (hs : s < 2147483648) : Ct G yX2_slowest cX2_slowest 4 (some .int) 1 (0) (0) [.ref w, .int (nI s)] η (re (some (.int (nI (mxN (tA τ 39) s (tN τ 30))))) η) := by
  refine Ct.start rfl rfl (Nat.le_of_ble_eq_true rfl) (fun Γ => ?_)
  obtain ⟨ad, L, hTB, hWo, hWw, hWb, ⟨xl, cl, hWl, hWln⟩, hWr⟩ := hW
  obtain ⟨⟨wb1, wb2, wb3, wb4, wb5, wb6, wb7⟩, wb8, wb9, wb10, wb11, wb12⟩ := id hTB
  have L0 : ∀ (n : Nat) (t v : Nat), tN τ 30 - t = n → t ≤ tN τ 30 → v = mxN (tA τ 39) s t → v ≤ t * 99 → V G Γ yX2_slowest cX2_slowest 4 (some .int) [] 1 (re (some (.int (nI (mxN (tA τ 39) s (tN τ 30))))) η) (0) (0) (η) 4 [some (.ref w), some (.int (nI s)), some (.int (nI v)), some (.int (nI t))] [] := by
    intro n
    induction n using Nat.strongRecOn with
    | _ n ih =>
      intro t v hn ht hv hb
      refine v_iload_n (i := 3) dX2_slowest_4 rfl rfl ?_
      refine v_aload_n (i := 0) dX2_slowest_5 rfl rfl ?_
      refine go_get0 hWo KX2 1 (by decide) rfl (tN τ 30) rfl q214 dX2_slowest_6 ?_
      refine vn_icmp_ge (tgt := 38) dX2_slowest_9 rfl (by omega) (by omega) (fun c9 => ?_) (fun c9 => ?_)
      · have e : t = tN τ 30 := by omega
        subst e
        refine v_iload_n (i := 2) dX2_slowest_38 rfl rfl ?_
        exact v_iret rfl dX2_slowest_39 ⟨by rw [hv], rfl⟩
      · have hk := wb8 t (by omega)
        refine v_iload_n (i := 1) dX2_slowest_12 rfl rfl ?_
        refine v_iload_n (i := 3) dX2_slowest_13 rfl rfl ?_
        refine vn_ishr (by omega) (by omega) dX2_slowest_14 ?_
        refine v_iconst (v := nI 1) dX2_slowest_15 k_iconst_1 ?_
        refine vn_and1 dX2_slowest_16 ?_
        refine v_iconst (v := nI 1) dX2_slowest_17 k_iconst_1 ?_
        refine vn_icmp_ne (tgt := 32) dX2_slowest_18 rfl (by omega) (by omega) (fun c18 => ?_) (fun c18 => ?_)
        · refine vn_iinc 1 dX2_slowest_32 rfl k_iconst_1 (by decide) rfl ?_
          refine v_goto (tgt := 4) dX2_slowest_35 rfl ?_
          exact ih _ (by omega) (t + 1) _ rfl (by omega) (by subst hv; simp only [mxN]; unfold bt; simp_all) (by omega)
        · refine v_iload_n (i := 2) dX2_slowest_21 rfl rfl ?_
          refine v_aload_n (i := 0) dX2_slowest_22 rfl rfl ?_
          refine go_getA hWo KX2 5 (by decide) (by decide) q228 dX2_slowest_23 ?_
          refine v_iload_n (i := 3) dX2_slowest_26 rfl rfl ?_
          refine go_ld10 hWo 5 (by decide) rfl (show _ < 8 from (by omega)) (by decide) _ ws_5 dX2_slowest_27 ?_
          refine v_mmax q764 (nI_max (by omega) (by omega)) (by decide) (by decide) dX2_slowest_28 ?_
          refine v_istore_n (i := 2) dX2_slowest_31 rfl (by decide) rfl ?_
          refine vn_iinc 1 dX2_slowest_32 rfl k_iconst_1 (by decide) rfl ?_
          refine v_goto (tgt := 4) dX2_slowest_35 rfl ?_
          exact ih _ (by omega) (t + 1) _ rfl (by omega) (by subst hv; simp only [mxN]; unfold bt; simp_all) (by split <;> omega)
  refine v_iconst (v := nI 0) dX2_slowest_0 k_iconst_0 ?_
  refine v_istore_n (i := 2) dX2_slowest_1 rfl (by decide) rfl ?_
  refine v_iconst (v := nI 0) dX2_slowest_2 k_iconst_0 ?_
  refine v_istore_n (i := 3) dX2_slowest_3 rfl (by decide) rfl ?_
  exact L0 _ 0 0 rfl (by omega) rfl (by omega)
theorem cW_flows {G : Gl} {η : AH} {w : Nat} {τ : Td} (hW : Wd G η w τ) {a b : Nat} (ha : a < 4) (hb : b < 4) : Ct G yX2_flows cX2_flows 3 (some .boolean) 0 (0) (0) [.ref w, .int (nI a), .int (nI b)] η (re (some (.int (nI (flT τ a b)))) η) := by
  refine Ct.start rfl rfl (Nat.le_of_ble_eq_true rfl) (fun Γ => ?_)
  obtain ⟨ad, L, hTB, hWo, hWw, hWb, ⟨xl, cl, hWl, hWln⟩, hWr⟩ := hW
  obtain ⟨⟨wb1, wb2, wb3, wb4, wb5, wb6, wb7⟩, wb8, wb9, wb10, wb11, wb12⟩ := id hTB
  obtain ⟨g, hg1, hg2⟩ := hWw
  obtain ⟨q, c, hq1, hq2, hq3⟩ := hg2 a ha
  have hcb := hq3 b hb
  have hdd := wb11 a ha
  have htt := wb10 (4 * a + b) (by omega)
  refine v_iload_n (i := 1) dX2_flows_0 rfl rfl ?_
  refine v_iload_n (i := 2) dX2_flows_1 rfl rfl ?_
  refine vn_icmp_eq (tgt := 27) dX2_flows_2 rfl (by omega) (by omega) (fun c2 => ?_) (fun c2 => ?_)
  · refine v_iconst (v := nI 0) dX2_flows_27 k_iconst_0 ?_
    exact v_zret rfl rfl dX2_flows_28 (by subst c2; unfold flT; rw [if_pos rfl]; split <;> first | exact ⟨rfl, rfl⟩ | (rw [hdd]; exact ⟨rfl, rfl⟩) | (rw [show 4 * a + a = 4 * a + a from rfl, hdd]; exact ⟨rfl, rfl⟩))
  · refine v_aload_n (i := 0) dX2_flows_5 rfl rfl ?_
    refine go_get0 hWo KX2 3 (by decide) rfl (if tN τ 37 = 0 then 1 else 0) rfl q223 dX2_flows_6 ?_
    refine vn_if_ne (tgt := 23) dX2_flows_9 rfl (by split <;> decide) (fun c9 => ?_) (fun c9 => ?_)
    · refine v_iconst (v := nI 1) dX2_flows_23 k_iconst_1 ?_
      refine v_goto (tgt := 28) dX2_flows_24 rfl ?_
      exact v_zret rfl rfl dX2_flows_28 (by unfold flT; rw [if_pos (by split at c9 <;> omega), if_neg c2]; exact ⟨rfl, rfl⟩)
    · refine v_aload_n (i := 0) dX2_flows_12 rfl rfl ?_
      refine go_get3 hWo KX2 7 (by decide) rfl (L 7) rfl q234 dX2_flows_13 ?_
      refine v_iload_n (i := 1) dX2_flows_16 rfl rfl ?_
      refine v_aald (v := .ref q) hg1 (by decide) (vp_in_nI ha (by decide)) (by rw [nI_clamp (by omega), hq1]; rfl) dX2_flows_17 ?_
      refine v_iload_n (i := 2) dX2_flows_18 rfl rfl ?_
      refine v_zald hq2 (vp_in_nI hb (by decide)) dX2_flows_19 ?_
      refine v_top (x' := nI (tA τ 48 (4 * a + b))) (by rw [nI_clamp (by omega), hcb]) ?_
      refine vn_if_eq (tgt := 27) dX2_flows_20 rfl (by omega) (fun c20 => ?_) (fun c20 => ?_)
      · refine v_iconst (v := nI 0) dX2_flows_27 k_iconst_0 ?_
        exact v_zret rfl rfl dX2_flows_28 (by unfold flT; rw [if_neg (by split at c9 <;> omega), c20]; exact ⟨rfl, rfl⟩)
      · refine v_iconst (v := nI 1) dX2_flows_23 k_iconst_1 ?_
        refine v_goto (tgt := 28) dX2_flows_24 rfl ?_
        exact v_zret rfl rfl dX2_flows_28 (by unfold flT; rw [if_neg (by split at c9 <;> omega), show tA τ 48 (4 * a + b) = 1 by omega]; exact ⟨rfl, rfl⟩)
