/-! ===== asking of the way that is kept ===== -/
def spWay (A : AS) (a b : Int32) : Option Int32 := match A.2.2.2.2.1 with
  | none => none
  | some l => if a = -1 then (if b = nI 0 then some (nI l.length) else if b = nI 3 then some (nI (mnL A.1 l)) else none) else match nOf a l.length with
    | none => none
    | some i => (nOf b 4).map fun j => if j = 0 then nI (l.getD i Mv0).1 else if j = 1 then nI (l.getD i Mv0).2.1 else if j = 2 then nI (l.getD i Mv0).2.2 else nI (mxN (tA A.1 39) (l.getD i Mv0).2.2 (tN A.1 30))
def spWhere (A : AS) (a b : Int32) : Option Int32 := match A.2.2.2.2.1 with
  | none => none
  | some l => match nOf a (l.length + 1) with
    | none => none
    | some i => (nOf b (tN A.1 30)).map fun t => nI (th (stL A.1 (l.take i)) t)
/-- whether thing t is alone at its shore: 1 -/
def alN (x t : Nat) : Nat → Nat
  | 0 => 1
  | n + 1 => if alN x t n = 1 ∧ (n = t ∨ ¬ th x n = th x t) then 1 else 0
def ridN (τ : Td) (l : List Mv) (t j : Nat) : Nat → Nat
  | 0 => 0
  | n + 1 => ridN τ l t j n + if j = 0 then bt (l.getD n Mv0).2.2 t else alN (stL τ (l.take (n + 1))) t (tN τ 30)
def spRides (A : AS) (a b : Int32) : Option Int32 := match A.2.2.2.2.1 with
  | none => none
  | some l => match nOf a (tN A.1 30) with
    | none => none
    | some t => (nOf b 2).map fun j => nI (ridN A.1 l t j l.length)
theorem a_m1 {a : Int32} (h1 : ¬ a < -1) (h2 : ¬ 0 ≤ a) : a = -1 := by
  rw [i_lt] at h1
  rw [i_le] at h2
  rw [i_eq]
  have e1 : (-1 : Int32).toInt = -1 := by decide
  have e2 : (0 : Int32).toInt = 0 := by decide
  omega
theorem nI_nm {n : Nat} (h : n < 2147483648) : ¬ nI n ≤ -1 ∧ ¬ nI n < -1 := by
  rw [i_le, i_lt, nI_toInt h]
  have e1 : (-1 : Int32).toInt = -1 := by decide
  omega
theorem ni0 {a : Int32} (h : 0 ≤ a) : ¬ a < 0 := by
  rw [i_le] at h
  rw [i_lt]
  omega
theorem mnL_add (τ : Td) (z : Mv) : ∀ l : List Mv, mnL τ (l ++ [z]) = mnL τ l + mxN (tA τ 39) z.2.2 (tN τ 30)
  | [] => by show _ + 0 = 0 + _; omega
  | y :: l => by
    show _ + mnL τ (l ++ [z]) = (_ + mnL τ l) + _
    rw [mnL_add τ z l]
    omega
theorem mxN_le {f : Nat → Nat} {M s : Nat} : ∀ {n : Nat}, (∀ t, t < n → f t ≤ M) → mxN f s n ≤ M
  | 0, _ => Nat.zero_le _
  | n + 1, h => by
    unfold mxN
    split
    · exact h n (by omega)
    · exact mxN_le (fun t ht => h t (by omega))
theorem mnL_le {τ : Td} (h : TB τ) : ∀ l : List Mv, mnL τ l ≤ 99 * l.length
  | [] => Nat.zero_le _
  | z :: l => by
    have h1 := mnL_le h l
    have h2 : mxN (tA τ 39) z.2.2 (tN τ 30) ≤ 99 := mxN_le (fun t ht => (h.2.1 t ht).2.1)
    show _ + mnL τ l ≤ 99 * (l.length + 1)
    omega
theorem take_s {l : List Mv} {n : Nat} (h : n < l.length) : l.take (n + 1) = l.take n ++ [l.getD n Mv0] := by
  rw [List.take_succ, List.getD_eq_getElem?_getD]
  have : l[n]? = some (l[n]'(by omega)) := List.getElem?_eq_getElem (by omega)
  rw [this]
  rfl
theorem alN_lt (x t : Nat) : ∀ n, alN x t n < 2
  | 0 => by show 1 < 2; decide
  | n + 1 => by unfold alN; split <;> decide
theorem th_lt (x t : Nat) : th x t < 4 := Nat.mod_lt _ (by decide)
theorem cA_way {G : Gl} {m : Nat} {ad : Nat → Nat} {η0 : AH} (hap : Mp m ad) (σ : MS) {rt : Td → Nat} (A : AS) (hG : MG rt σ A) (a b : Int32) : Ct G yX8_way cX8_way 5 (some .int) 2 0 0 [.ref m, .int a, .int b] (MH m ad σ η0) (ap rt m ad η0 (spWay A a b) A) := by
  refine Ct.start rfl rfl (Nat.le_of_ble_eq_true rfl) (fun Γ => ?_)
  cases hk : A.2.2.2.2.1 with
  | none =>
    have hK : KP σ A.1 A.2.2.2.2.1 := hG.2.2.2.1
    rw [hk] at hK
    have hK : gN σ 70 = 0 := hK
    refine v_aload_n (i := 0) dX8_way_0 rfl rfl ?_
    refine v_iconst (v := nI 0) dX8_way_1 k_iconst_0 ?_
    refine mp_thrown rfl dX8_way_2 ?_
    refine v_aload_n (i := 0) dX8_way_5 rfl rfl ?_
    refine v_aload_n (i := 0) dX8_way_6 rfl rfl ?_
    refine mg_keptMany rfl dX8_way_7 ?_
    refine v_iconst (v := -1) dX8_way_10 k_iconst_m1 ?_
    refine vo_icmp_eq (tgt := 53) dX8_way_11 rfl (show gN σ 70 < _ by omega) (fun c11 => ?_) (fun c11 => ?_)
    · refine v_iconst (v := nI 0) dX8_way_53 k_iconst_0 ?_
      refine v_iconst (v := nI 1) dX8_way_54 k_iconst_1 ?_
      refine v_callVi (cM_right0 hap σ) (lw_V q2197 q2199 qs56 q136 q2200) iX8_right rfl KX8 MH_m rfl rfl (by decide) (by decide) (Nat.le_of_ble_eq_true rfl) dX8_way_55 ?_
      refine vn_if_ne (tgt := 63) dX8_way_58 rfl (by decide) (fun c58 => ?_) (fun c58 => ?_)
      · exact absurd rfl c58
      · refine v_iconst (v := nI 0) dX8_way_61 k_iconst_0 ?_
        exact v_iret rfl dX8_way_62 ⟨_, rfl, sN σ 0 1, rfl, hG, fun _ => rfl, fun v q => (by unfold spWay at q; rw [hk] at q; cases q)⟩
    · exact absurd hK c11
  | some l =>
    have hK : KP σ A.1 A.2.2.2.2.1 := hG.2.2.2.1
    rw [hk] at hK
    have hK : KPm σ A.1 l := hK
    obtain ⟨k1, k2, k3, k4, k5, k6⟩ := id hK
    have hTB := hG.1.1.1
    by_cases hA1 : a = -1 ∧ (b = nI 0 ∨ b = nI 3)
    case pos =>
      obtain ⟨rfl, hb⟩ := hA1
      have L120 : ∀ (j : Nat), (j = 0 ∨ j = 3) → ∀ (n k v : Nat), k + n = l.length → v = mnL A.1 (l.take k) → V G Γ yX8_way cX8_way 5 (some .int) [] 2 (ap rt m ad η0 (spWay A (-1) (nI j)) A) 0 0 (MH m ad (sN σ 0 0) η0) 120 [some (.ref m), some (.int (-1)), some (.int (nI j)), some (.int (nI v)), some (.int (nI k))] [] := by
        intro j hj n
        induction n with
        | zero =>
          intro k v hkn hv
          have ek : k = l.length := by omega
          subst ek
          rw [List.take_length] at hv
          refine v_iload (i := 4) dX8_way_120 rfl ?_
          refine v_aload_n (i := 0) dX8_way_122 rfl rfl ?_
          refine mg_keptMany rfl dX8_way_123 ?_
          refine v_top (show oI (gN σ 70) = nI l.length by rw [k1]; rfl) ?_
          refine vn_icmp_ge (tgt := 145) dX8_way_126 rfl (by omega) (by omega) (fun c126 => ?_) (fun c126 => ?_)
          · refine v_iload_n (i := 2) dX8_way_145 rfl rfl ?_
            refine vn_if_ne (tgt := 156) dX8_way_146 rfl (by omega) (fun c146 => ?_) (fun c146 => ?_)
            · refine v_iload_n (i := 3) dX8_way_156 rfl rfl ?_
              exact v_iret rfl dX8_way_157 ⟨_, rfl, sN σ 0 0, rfl, hG, fun q => (by unfold spWay at q; rw [hk] at q; dsimp only at q; rw [if_pos rfl, if_neg (fun e => c146 ((nI_eq (by omega) (by decide)).mp e)), if_pos (by rw [show j = 3 by omega])] at q; cases q), fun v q => (by unfold spWay at q; rw [hk] at q; dsimp only at q; rw [if_pos rfl, if_neg (fun e => c146 ((nI_eq (by omega) (by decide)).mp e)), if_pos (by rw [show j = 3 by omega])] at q; cases q; exact ⟨by rw [hv], rfl⟩)⟩
            · refine v_aload_n (i := 0) dX8_way_149 rfl rfl ?_
              refine mg_keptMany rfl dX8_way_150 ?_
              refine v_top (show oI (gN σ 70) = nI l.length by rw [k1]; rfl) ?_
              refine v_goto (tgt := 157) dX8_way_153 rfl ?_
              exact v_iret rfl dX8_way_157 ⟨_, rfl, sN σ 0 0, rfl, hG, fun q => (by unfold spWay at q; rw [hk] at q; dsimp only at q; rw [if_pos rfl, if_pos (by rw [c146])] at q; cases q), fun v q => (by unfold spWay at q; rw [hk] at q; dsimp only at q; rw [if_pos rfl, if_pos (by rw [c146])] at q; cases q; exact ⟨rfl, rfl⟩)⟩
          · omega
        | succ n ih =>
          intro k v hkn hv
          have hkl : k < l.length := by omega
          obtain ⟨-, -, -, e75⟩ := k4 k hkl
          refine v_iload (i := 4) dX8_way_120 rfl ?_
          refine v_aload_n (i := 0) dX8_way_122 rfl rfl ?_
          refine mg_keptMany rfl dX8_way_123 ?_
          refine v_top (show oI (gN σ 70) = nI l.length by rw [k1]; rfl) ?_
          refine vn_icmp_ge (tgt := 145) dX8_way_126 rfl (by omega) (by omega) (fun c126 => ?_) (fun c126 => ?_)
          · omega
          · refine v_iload_n (i := 3) dX8_way_129 rfl rfl ?_
            refine v_aload_n (i := 0) dX8_way_130 rfl rfl ?_
            refine mg_keptMinutes rfl dX8_way_131 ?_
            refine v_iload (i := 4) dX8_way_134 rfl ?_
            refine ml_keptMinutes hap (show k < 2001 by omega) dX8_way_136 ?_
            refine v_top (show _ = nI (mxN (tA A.1 39) (l.getD k Mv0).2.2 (tN A.1 30)) from congrArg nI e75) ?_
            refine vn_iadd dX8_way_137 ?_
            refine v_istore_n (i := 3) dX8_way_138 rfl (by decide) rfl ?_
            refine vn_iinc 1 dX8_way_139 rfl k_iconst_1 (by decide) rfl ?_
            refine v_goto (tgt := 120) dX8_way_142 rfl ?_
            exact ih (k + 1) _ (by omega) (by rw [take_s hkl, mnL_add, hv])
      obtain ⟨j, hj, rfl⟩ : ∃ j, (j = 0 ∨ j = 3) ∧ b = nI j := by
        rcases hb with rfl | rfl
        · exact ⟨0, Or.inl rfl, rfl⟩
        · exact ⟨3, Or.inr rfl, rfl⟩
      refine v_aload_n (i := 0) dX8_way_0 rfl rfl ?_
      refine v_iconst (v := nI 0) dX8_way_1 k_iconst_0 ?_
      refine mp_thrown rfl dX8_way_2 ?_
      refine v_aload_n (i := 0) dX8_way_5 rfl rfl ?_
      refine v_aload_n (i := 0) dX8_way_6 rfl rfl ?_
      refine mg_keptMany rfl dX8_way_7 ?_
      refine v_iconst (v := -1) dX8_way_10 k_iconst_m1 ?_
      refine vo_icmp_eq (tgt := 53) dX8_way_11 rfl (show gN σ 70 < _ by omega) (fun c11 => ?_) (fun c11 => ?_)
      · exact absurd (show gN σ 70 = 0 from c11) (by omega)
      · refine v_iload_n (i := 1) dX8_way_14 rfl rfl ?_
        refine v_iconst (v := -1) dX8_way_15 k_iconst_m1 ?_
        refine v_icmp_lt (tgt := 53) dX8_way_16 rfl (fun c16 => ?_) (fun c16 => ?_)
        · exact absurd c16 (by decide)
        · refine v_iload_n (i := 1) dX8_way_19 rfl rfl ?_
          refine v_aload_n (i := 0) dX8_way_20 rfl rfl ?_
          refine mg_keptMany rfl dX8_way_21 ?_
          refine v_top (show oI (gN σ 70) = nI l.length by rw [k1]; rfl) ?_
          refine v_icmp_ge (tgt := 53) dX8_way_24 rfl (fun c24 => ?_) (fun c24 => ?_)
          · exact absurd c24 (nI_nm (by omega)).1
          · refine v_iload_n (i := 2) dX8_way_27 rfl rfl ?_
            refine vn_if_lt (tgt := 53) dX8_way_28 rfl (by omega) ?_
            refine v_iload_n (i := 2) dX8_way_31 rfl rfl ?_
            refine v_iconst (v := nI 3) dX8_way_32 k_iconst_3 ?_
            refine vn_icmp_gt (tgt := 53) dX8_way_33 rfl (by omega) (by decide) (fun c33 => ?_) (fun c33 => ?_)
            · omega
            · refine v_iload_n (i := 1) dX8_way_36 rfl rfl ?_
              refine v_if_ge (tgt := 49) dX8_way_37 rfl (fun c37 => ?_) (fun c37 => ?_)
              · exact absurd c37 (by decide)
              · refine v_iload_n (i := 2) dX8_way_40 rfl rfl ?_
                refine vn_if_eq (tgt := 49) dX8_way_41 rfl (by omega) (fun c41 => ?_) (fun c41 => ?_)
                · refine v_iconst (v := nI 1) dX8_way_49 k_iconst_1 ?_
                  refine v_goto (tgt := 54) dX8_way_50 rfl ?_
                  refine v_iconst (v := nI 1) dX8_way_54 k_iconst_1 ?_
                  refine v_callVi (cM_right1 hap σ) (lw_V q2197 q2199 qs56 q136 q2200) iX8_right rfl KX8 MH_m rfl rfl (by decide) (by decide) (Nat.le_of_ble_eq_true rfl) dX8_way_55 ?_
                  refine vn_if_ne (tgt := 63) dX8_way_58 rfl (by decide) (fun c58 => ?_) (fun c58 => ?_)
                  · refine v_iload_n (i := 1) dX8_way_63 rfl rfl ?_
                    refine v_if_lt (tgt := 115) dX8_way_64 rfl (fun c64 => ?_) (fun c64 => ?_)
                    · refine v_iconst (v := nI 0) dX8_way_115 k_iconst_0 ?_
                      refine v_istore_n (i := 3) dX8_way_116 rfl (by decide) rfl ?_
                      refine v_iconst (v := nI 0) dX8_way_117 k_iconst_0 ?_
                      refine v_istore (i := 4) dX8_way_118 (by decide) rfl ?_
                      exact L120 j hj l.length 0 0 (by omega) rfl
                    · exact absurd (by decide) c64
                  · exact absurd c58 (by decide)
                · refine v_iload_n (i := 2) dX8_way_44 rfl rfl ?_
                  refine v_iconst (v := nI 3) dX8_way_45 k_iconst_3 ?_
                  refine vn_icmp_ne (tgt := 53) dX8_way_46 rfl (by omega) (by decide) (fun c46 => ?_) (fun c46 => ?_)
                  · omega
                  · refine v_iconst (v := nI 1) dX8_way_49 k_iconst_1 ?_
                    refine v_goto (tgt := 54) dX8_way_50 rfl ?_
                    refine v_iconst (v := nI 1) dX8_way_54 k_iconst_1 ?_
                    refine v_callVi (cM_right1 hap σ) (lw_V q2197 q2199 qs56 q136 q2200) iX8_right rfl KX8 MH_m rfl rfl (by decide) (by decide) (Nat.le_of_ble_eq_true rfl) dX8_way_55 ?_
                    refine vn_if_ne (tgt := 63) dX8_way_58 rfl (by decide) (fun c58 => ?_) (fun c58 => ?_)
                    · refine v_iload_n (i := 1) dX8_way_63 rfl rfl ?_
                      refine v_if_lt (tgt := 115) dX8_way_64 rfl (fun c64 => ?_) (fun c64 => ?_)
                      · refine v_iconst (v := nI 0) dX8_way_115 k_iconst_0 ?_
                        refine v_istore_n (i := 3) dX8_way_116 rfl (by decide) rfl ?_
                        refine v_iconst (v := nI 0) dX8_way_117 k_iconst_0 ?_
                        refine v_istore (i := 4) dX8_way_118 (by decide) rfl ?_
                        exact L120 j hj l.length 0 0 (by omega) rfl
                      · exact absurd (by decide) c64
                    · exact absurd c58 (by decide)
    by_cases hA2 : inr a l.length ∧ inr b 4
    case pos =>
      obtain ⟨⟨i, hi, rfl⟩, ⟨j, hj, rfl⟩⟩ := hA2
      have e1 := nOf_some hi (by omega)
      have e2 := nOf_some hj (by decide)
      obtain ⟨e72, e73, e74, e75⟩ := k4 i hi
      have hne : ¬ nI i = -1 := nI_m1 (by omega)
      refine v_aload_n (i := 0) dX8_way_0 rfl rfl ?_
      refine v_iconst (v := nI 0) dX8_way_1 k_iconst_0 ?_
      refine mp_thrown rfl dX8_way_2 ?_
      refine v_aload_n (i := 0) dX8_way_5 rfl rfl ?_
      refine v_aload_n (i := 0) dX8_way_6 rfl rfl ?_
      refine mg_keptMany rfl dX8_way_7 ?_
      refine v_iconst (v := -1) dX8_way_10 k_iconst_m1 ?_
      refine vo_icmp_eq (tgt := 53) dX8_way_11 rfl (show gN σ 70 < _ by omega) (fun c11 => ?_) (fun c11 => ?_)
      · exact absurd (show gN σ 70 = 0 from c11) (by omega)
      · refine v_iload_n (i := 1) dX8_way_14 rfl rfl ?_
        refine v_iconst (v := -1) dX8_way_15 k_iconst_m1 ?_
        refine v_icmp_lt (tgt := 53) dX8_way_16 rfl (fun c16 => ?_) (fun c16 => ?_)
        · exact absurd c16 (nI_nm (by omega)).2
        · refine v_iload_n (i := 1) dX8_way_19 rfl rfl ?_
          refine v_aload_n (i := 0) dX8_way_20 rfl rfl ?_
          refine mg_keptMany rfl dX8_way_21 ?_
          refine v_top (show oI (gN σ 70) = nI l.length by rw [k1]; rfl) ?_
          refine vn_icmp_ge (tgt := 53) dX8_way_24 rfl (by omega) (by omega) (fun c24 => ?_) (fun c24 => ?_)
          · omega
          · refine v_iload_n (i := 2) dX8_way_27 rfl rfl ?_
            refine vn_if_lt (tgt := 53) dX8_way_28 rfl (by omega) ?_
            refine v_iload_n (i := 2) dX8_way_31 rfl rfl ?_
            refine v_iconst (v := nI 3) dX8_way_32 k_iconst_3 ?_
            refine vn_icmp_gt (tgt := 53) dX8_way_33 rfl (by omega) (by decide) (fun c33 => ?_) (fun c33 => ?_)
            · omega
            · refine v_iload_n (i := 1) dX8_way_36 rfl rfl ?_
              refine vn_if_ge (tgt := 49) dX8_way_37 rfl (by omega) ?_
              refine v_iconst (v := nI 1) dX8_way_49 k_iconst_1 ?_
              refine v_goto (tgt := 54) dX8_way_50 rfl ?_
              refine v_iconst (v := nI 1) dX8_way_54 k_iconst_1 ?_
              refine v_callVi (cM_right1 hap σ) (lw_V q2197 q2199 qs56 q136 q2200) iX8_right rfl KX8 MH_m rfl rfl (by decide) (by decide) (Nat.le_of_ble_eq_true rfl) dX8_way_55 ?_
              refine vn_if_ne (tgt := 63) dX8_way_58 rfl (by decide) (fun c58 => ?_) (fun c58 => ?_)
              · refine v_iload_n (i := 1) dX8_way_63 rfl rfl ?_
                refine vn_if_lt (tgt := 115) dX8_way_64 rfl (by omega) ?_
                refine v_iload_n (i := 2) dX8_way_67 rfl rfl ?_
                refine vn_if_ne (tgt := 80) dX8_way_68 rfl (by omega) (fun c68 => ?_) (fun c68 => ?_)
                · refine v_iload_n (i := 2) dX8_way_80 rfl rfl ?_
                  refine v_iconst (v := nI 1) dX8_way_81 k_iconst_1 ?_
                  refine vn_icmp_ne (tgt := 94) dX8_way_82 rfl (by omega) (by omega) (fun c82 => ?_) (fun c82 => ?_)
                  · refine v_iload_n (i := 2) dX8_way_94 rfl rfl ?_
                    refine v_iconst (v := nI 2) dX8_way_95 k_iconst_2 ?_
                    refine vn_icmp_ne (tgt := 108) dX8_way_96 rfl (by omega) (by omega) (fun c96 => ?_) (fun c96 => ?_)
                    · refine v_aload_n (i := 0) dX8_way_108 rfl rfl ?_
                      refine mg_keptMinutes rfl dX8_way_109 ?_
                      refine v_iload_n (i := 1) dX8_way_112 rfl rfl ?_
                      refine ml_keptMinutes hap (show i < 2001 by omega) dX8_way_113 ?_
                      refine v_top (show _ = nI (mxN (tA A.1 39) (l.getD i Mv0).2.2 (tN A.1 30)) from congrArg nI e75) ?_
                      exact v_iret rfl dX8_way_114 ⟨_, rfl, sN σ 0 0, rfl, hG, fun q => (by unfold spWay at q; rw [hk] at q; dsimp only at q; rw [if_neg hne, e1] at q; dsimp only at q; rw [e2] at q; cases q), fun v q => (by unfold spWay at q; rw [hk] at q; dsimp only at q; rw [if_neg hne, e1] at q; dsimp only at q; rw [e2] at q; simp only [Option.map_some] at q; cases q; exact ⟨by rw [if_neg c68, if_neg c82, if_neg c96], rfl⟩)⟩
                    · refine v_aload_n (i := 0) dX8_way_99 rfl rfl ?_
                      refine mg_keptSet rfl dX8_way_100 ?_
                      refine v_iload_n (i := 1) dX8_way_103 rfl rfl ?_
                      refine ml_keptSet hap (show i < 2001 by omega) dX8_way_104 ?_
                      refine v_top (show _ = nI (l.getD i Mv0).2.2 from congrArg nI e74) ?_
                      refine v_goto (tgt := 114) dX8_way_105 rfl ?_
                      exact v_iret rfl dX8_way_114 ⟨_, rfl, sN σ 0 0, rfl, hG, fun q => (by unfold spWay at q; rw [hk] at q; dsimp only at q; rw [if_neg hne, e1] at q; dsimp only at q; rw [e2] at q; cases q), fun v q => (by unfold spWay at q; rw [hk] at q; dsimp only at q; rw [if_neg hne, e1] at q; dsimp only at q; rw [e2] at q; simp only [Option.map_some] at q; cases q; exact ⟨by rw [if_neg c68, if_neg c82, if_pos c96], rfl⟩)⟩
                  · refine v_aload_n (i := 0) dX8_way_85 rfl rfl ?_
                    refine mg_keptTo rfl dX8_way_86 ?_
                    refine v_iload_n (i := 1) dX8_way_89 rfl rfl ?_
                    refine ml_keptTo hap (show i < 2001 by omega) dX8_way_90 ?_
                    refine v_top (show _ = nI (l.getD i Mv0).2.1 from congrArg nI e73) ?_
                    refine v_goto (tgt := 114) dX8_way_91 rfl ?_
                    exact v_iret rfl dX8_way_114 ⟨_, rfl, sN σ 0 0, rfl, hG, fun q => (by unfold spWay at q; rw [hk] at q; dsimp only at q; rw [if_neg hne, e1] at q; dsimp only at q; rw [e2] at q; cases q), fun v q => (by unfold spWay at q; rw [hk] at q; dsimp only at q; rw [if_neg hne, e1] at q; dsimp only at q; rw [e2] at q; simp only [Option.map_some] at q; cases q; exact ⟨by rw [if_neg c68, if_pos c82], rfl⟩)⟩
                · refine v_aload_n (i := 0) dX8_way_71 rfl rfl ?_
                  refine mg_keptBoat rfl dX8_way_72 ?_
                  refine v_iload_n (i := 1) dX8_way_75 rfl rfl ?_
                  refine ml_keptBoat hap (show i < 2001 by omega) dX8_way_76 ?_
                  refine v_top (show _ = nI (l.getD i Mv0).1 from congrArg nI e72) ?_
                  refine v_goto (tgt := 114) dX8_way_77 rfl ?_
                  exact v_iret rfl dX8_way_114 ⟨_, rfl, sN σ 0 0, rfl, hG, fun q => (by unfold spWay at q; rw [hk] at q; dsimp only at q; rw [if_neg hne, e1] at q; dsimp only at q; rw [e2] at q; cases q), fun v q => (by unfold spWay at q; rw [hk] at q; dsimp only at q; rw [if_neg hne, e1] at q; dsimp only at q; rw [e2] at q; simp only [Option.map_some] at q; cases q; exact ⟨by rw [if_pos c68], rfl⟩)⟩
              · exact absurd c58 (by decide)
    have hsp : spWay A a b = none := by
      unfold spWay
      rw [hk]
      dsimp only
      by_cases h1 : a = -1
      · rw [if_pos h1, if_neg (fun e => hA1 ⟨h1, Or.inl e⟩), if_neg (fun e => hA1 ⟨h1, Or.inr e⟩)]
      · rw [if_neg h1]
        by_cases h2 : inr a l.length
        · obtain ⟨i, hi, e⟩ := h2
          rw [e, nOf_some hi (by omega)]
          dsimp only
          rw [nOf_none (fun q => hA2 ⟨⟨i, hi, e⟩, q⟩) (by decide)]
          rfl
        · rw [nOf_none h2 (by omega)]
    refine v_aload_n (i := 0) dX8_way_0 rfl rfl ?_
    refine v_iconst (v := nI 0) dX8_way_1 k_iconst_0 ?_
    refine mp_thrown rfl dX8_way_2 ?_
    refine v_aload_n (i := 0) dX8_way_5 rfl rfl ?_
    refine v_aload_n (i := 0) dX8_way_6 rfl rfl ?_
    refine mg_keptMany rfl dX8_way_7 ?_
    refine v_iconst (v := -1) dX8_way_10 k_iconst_m1 ?_
    refine vo_icmp_eq (tgt := 53) dX8_way_11 rfl (show gN σ 70 < _ by omega) (fun c11 => ?_) (fun c11 => ?_)
    · exact absurd (show gN σ 70 = 0 from c11) (by omega)
    · refine v_iload_n (i := 1) dX8_way_14 rfl rfl ?_
      refine v_iconst (v := -1) dX8_way_15 k_iconst_m1 ?_
      refine v_icmp_lt (tgt := 53) dX8_way_16 rfl (fun c16 => ?_) (fun c16 => ?_)
      · refine v_iconst (v := nI 0) dX8_way_53 k_iconst_0 ?_
        refine v_iconst (v := nI 1) dX8_way_54 k_iconst_1 ?_
        refine v_callVi (cM_right0 hap σ) (lw_V q2197 q2199 qs56 q136 q2200) iX8_right rfl KX8 MH_m rfl rfl (by decide) (by decide) (Nat.le_of_ble_eq_true rfl) dX8_way_55 ?_
        refine vn_if_ne (tgt := 63) dX8_way_58 rfl (by decide) (fun c58 => ?_) (fun c58 => ?_)
        · exact absurd rfl c58
        · refine v_iconst (v := nI 0) dX8_way_61 k_iconst_0 ?_
          exact v_iret rfl dX8_way_62 ⟨_, rfl, sN σ 0 1, rfl, hG, fun _ => rfl, fun v q => (by rw [hsp] at q; cases q)⟩
      · refine v_iload_n (i := 1) dX8_way_19 rfl rfl ?_
        refine v_aload_n (i := 0) dX8_way_20 rfl rfl ?_
        refine mg_keptMany rfl dX8_way_21 ?_
        refine v_top (show oI (gN σ 70) = nI l.length by rw [k1]; rfl) ?_
        refine v_icmp_ge (tgt := 53) dX8_way_24 rfl (fun c24 => ?_) (fun c24 => ?_)
        · refine v_iconst (v := nI 0) dX8_way_53 k_iconst_0 ?_
          refine v_iconst (v := nI 1) dX8_way_54 k_iconst_1 ?_
          refine v_callVi (cM_right0 hap σ) (lw_V q2197 q2199 qs56 q136 q2200) iX8_right rfl KX8 MH_m rfl rfl (by decide) (by decide) (Nat.le_of_ble_eq_true rfl) dX8_way_55 ?_
          refine vn_if_ne (tgt := 63) dX8_way_58 rfl (by decide) (fun c58 => ?_) (fun c58 => ?_)
          · exact absurd rfl c58
          · refine v_iconst (v := nI 0) dX8_way_61 k_iconst_0 ?_
            exact v_iret rfl dX8_way_62 ⟨_, rfl, sN σ 0 1, rfl, hG, fun _ => rfl, fun v q => (by rw [hsp] at q; cases q)⟩
        · refine v_iload_n (i := 2) dX8_way_27 rfl rfl ?_
          refine v_if_lt (tgt := 53) dX8_way_28 rfl (fun c28 => ?_) (fun c28 => ?_)
          · refine v_iconst (v := nI 0) dX8_way_53 k_iconst_0 ?_
            refine v_iconst (v := nI 1) dX8_way_54 k_iconst_1 ?_
            refine v_callVi (cM_right0 hap σ) (lw_V q2197 q2199 qs56 q136 q2200) iX8_right rfl KX8 MH_m rfl rfl (by decide) (by decide) (Nat.le_of_ble_eq_true rfl) dX8_way_55 ?_
            refine vn_if_ne (tgt := 63) dX8_way_58 rfl (by decide) (fun c58 => ?_) (fun c58 => ?_)
            · exact absurd rfl c58
            · refine v_iconst (v := nI 0) dX8_way_61 k_iconst_0 ?_
              exact v_iret rfl dX8_way_62 ⟨_, rfl, sN σ 0 1, rfl, hG, fun _ => rfl, fun v q => (by rw [hsp] at q; cases q)⟩
          · refine v_iload_n (i := 2) dX8_way_31 rfl rfl ?_
            refine v_iconst (v := nI 3) dX8_way_32 k_iconst_3 ?_
            refine v_icmp_gt (tgt := 53) dX8_way_33 rfl (fun c33 => ?_) (fun c33 => ?_)
            · refine v_iconst (v := nI 0) dX8_way_53 k_iconst_0 ?_
              refine v_iconst (v := nI 1) dX8_way_54 k_iconst_1 ?_
              refine v_callVi (cM_right0 hap σ) (lw_V q2197 q2199 qs56 q136 q2200) iX8_right rfl KX8 MH_m rfl rfl (by decide) (by decide) (Nat.le_of_ble_eq_true rfl) dX8_way_55 ?_
              refine vn_if_ne (tgt := 63) dX8_way_58 rfl (by decide) (fun c58 => ?_) (fun c58 => ?_)
              · exact absurd rfl c58
              · refine v_iconst (v := nI 0) dX8_way_61 k_iconst_0 ?_
                exact v_iret rfl dX8_way_62 ⟨_, rfl, sN σ 0 1, rfl, hG, fun _ => rfl, fun v q => (by rw [hsp] at q; cases q)⟩
            · refine v_iload_n (i := 1) dX8_way_36 rfl rfl ?_
              refine v_if_ge (tgt := 49) dX8_way_37 rfl (fun c37 => ?_) (fun c37 => ?_)
              · exact absurd ⟨inr_of (ni0 c37) c24 (by omega), inr_of2 c28 c33 (by decide)⟩ hA2
              · refine v_iload_n (i := 2) dX8_way_40 rfl rfl ?_
                refine v_if_eq (tgt := 49) dX8_way_41 rfl (fun c41 => ?_) (fun c41 => ?_)
                · exact absurd ⟨a_m1 c16 c37, Or.inl c41⟩ hA1
                · refine v_iload_n (i := 2) dX8_way_44 rfl rfl ?_
                  refine v_iconst (v := nI 3) dX8_way_45 k_iconst_3 ?_
                  refine v_icmp_ne (tgt := 53) dX8_way_46 rfl (fun c46 => ?_) (fun c46 => ?_)
                  · refine v_iconst (v := nI 0) dX8_way_53 k_iconst_0 ?_
                    refine v_iconst (v := nI 1) dX8_way_54 k_iconst_1 ?_
                    refine v_callVi (cM_right0 hap σ) (lw_V q2197 q2199 qs56 q136 q2200) iX8_right rfl KX8 MH_m rfl rfl (by decide) (by decide) (Nat.le_of_ble_eq_true rfl) dX8_way_55 ?_
                    refine vn_if_ne (tgt := 63) dX8_way_58 rfl (by decide) (fun c58 => ?_) (fun c58 => ?_)
                    · exact absurd rfl c58
                    · refine v_iconst (v := nI 0) dX8_way_61 k_iconst_0 ?_
                      exact v_iret rfl dX8_way_62 ⟨_, rfl, sN σ 0 1, rfl, hG, fun _ => rfl, fun v q => (by rw [hsp] at q; cases q)⟩
                  · exact absurd ⟨a_m1 c16 c37, Or.inr c46⟩ hA1
theorem cA_where {G : Gl} {m : Nat} {ad : Nat → Nat} {η0 : AH} (hap : Mp m ad) (σ : MS) {rt : Td → Nat} (A : AS) (hG : MG rt σ A) (a b : Int32) : Ct G yX8_where cX8_where 3 (some .int) 2 0 0 [.ref m, .int a, .int b] (MH m ad σ η0) (ap rt m ad η0 (spWhere A a b) A) := by
  refine Ct.start rfl rfl (Nat.le_of_ble_eq_true rfl) (fun Γ => ?_)
  cases hk : A.2.2.2.2.1 with
  | none =>
    have hK : KP σ A.1 A.2.2.2.2.1 := hG.2.2.2.1
    rw [hk] at hK
    have hK : gN σ 70 = 0 := hK
    refine v_aload_n (i := 0) dX8_where_0 rfl rfl ?_
    refine v_iconst (v := nI 0) dX8_where_1 k_iconst_0 ?_
    refine mp_thrown rfl dX8_where_2 ?_
    refine v_aload_n (i := 0) dX8_where_5 rfl rfl ?_
    refine v_aload_n (i := 0) dX8_where_6 rfl rfl ?_
    refine mg_keptMany rfl dX8_where_7 ?_
    refine v_iconst (v := -1) dX8_where_10 k_iconst_m1 ?_
    refine vo_icmp_eq (tgt := 42) dX8_where_11 rfl (show gN σ 70 < _ by omega) (fun c11 => ?_) (fun c11 => ?_)
    · refine v_iconst (v := nI 0) dX8_where_42 k_iconst_0 ?_
      refine v_iconst (v := nI 1) dX8_where_43 k_iconst_1 ?_
      refine v_callVi (cM_right0 hap σ) (lw_V q2197 q2199 qs56 q136 q2200) iX8_right rfl KX8 MH_m rfl rfl (by decide) (by decide) (Nat.le_of_ble_eq_true rfl) dX8_where_44 ?_
      refine vn_if_ne (tgt := 52) dX8_where_47 rfl (by decide) (fun c47 => ?_) (fun c47 => ?_)
      · exact absurd rfl c47
      · refine v_iconst (v := nI 0) dX8_where_50 k_iconst_0 ?_
        exact v_iret rfl dX8_where_51 ⟨_, rfl, sN σ 0 1, rfl, hG, fun _ => rfl, fun v q => (by unfold spWhere at q; rw [hk] at q; cases q)⟩
    · exact absurd hK c11
  | some l =>
    have hK : KP σ A.1 A.2.2.2.2.1 := hG.2.2.2.1
    rw [hk] at hK
    have hK : KPm σ A.1 l := hK
    obtain ⟨k1, k2, k3, k4, k5, k6⟩ := id hK
    have hTB := hG.1.1.1
    have hT8 : tN A.1 30 ≤ 8 := hTB.1.2.2.1
    by_cases hA2 : inr a (l.length + 1) ∧ inr b (tN A.1 30)
    case pos =>
      obtain ⟨⟨i, hi, rfl⟩, ⟨j, hj, rfl⟩⟩ := hA2
      have e1 := nOf_some hi (by omega)
      have e2 := nOf_some hj (by omega)
      obtain ⟨e76, e77⟩ := k5 i (by omega)
      refine v_aload_n (i := 0) dX8_where_0 rfl rfl ?_
      refine v_iconst (v := nI 0) dX8_where_1 k_iconst_0 ?_
      refine mp_thrown rfl dX8_where_2 ?_
      refine v_aload_n (i := 0) dX8_where_5 rfl rfl ?_
      refine v_aload_n (i := 0) dX8_where_6 rfl rfl ?_
      refine mg_keptMany rfl dX8_where_7 ?_
      refine v_iconst (v := -1) dX8_where_10 k_iconst_m1 ?_
      refine vo_icmp_eq (tgt := 42) dX8_where_11 rfl (show gN σ 70 < _ by omega) (fun c11 => ?_) (fun c11 => ?_)
      · exact absurd (show gN σ 70 = 0 from c11) (by omega)
      · refine v_iload_n (i := 1) dX8_where_14 rfl rfl ?_
        refine vn_if_lt (tgt := 42) dX8_where_15 rfl (by omega) ?_
        refine v_iload_n (i := 1) dX8_where_18 rfl rfl ?_
        refine v_aload_n (i := 0) dX8_where_19 rfl rfl ?_
        refine mg_keptMany rfl dX8_where_20 ?_
        refine v_top (show oI (gN σ 70) = nI l.length by rw [k1]; rfl) ?_
        refine vn_icmp_gt (tgt := 42) dX8_where_23 rfl (by omega) (by omega) (fun c23 => ?_) (fun c23 => ?_)
        · omega
        · refine v_iload_n (i := 2) dX8_where_26 rfl rfl ?_
          refine vn_if_lt (tgt := 42) dX8_where_27 rfl (by omega) ?_
          refine v_iload_n (i := 2) dX8_where_30 rfl rfl ?_
          refine v_aload_n (i := 0) dX8_where_31 rfl rfl ?_
          refine mg_keptThings rfl dX8_where_32 ?_
          refine vn_icmp_ge (tgt := 42) dX8_where_35 rfl (by omega) (show gN σ 71 < _ by omega) (fun c35 => ?_) (fun c35 => ?_)
          · exact absurd (show gN σ 71 ≤ j from c35) (by omega)
          · refine v_iconst (v := nI 1) dX8_where_38 k_iconst_1 ?_
            refine v_goto (tgt := 43) dX8_where_39 rfl ?_
            refine v_iconst (v := nI 1) dX8_where_43 k_iconst_1 ?_
            refine v_callVi (cM_right1 hap σ) (lw_V q2197 q2199 qs56 q136 q2200) iX8_right rfl KX8 MH_m rfl rfl (by decide) (by decide) (Nat.le_of_ble_eq_true rfl) dX8_where_44 ?_
            refine vn_if_ne (tgt := 52) dX8_where_47 rfl (by decide) (fun c47 => ?_) (fun c47 => ?_)
            · refine v_aload_n (i := 0) dX8_where_52 rfl rfl ?_
              refine mg_keptState rfl dX8_where_53 ?_
              refine v_iload_n (i := 1) dX8_where_56 rfl rfl ?_
              refine ml_keptState hap (show i < 2002 by omega) dX8_where_57 ?_
              refine v_top (show _ = nI (stL A.1 (l.take i)) from congrArg nI e76) ?_
              refine v_iconst (v := nI 2) dX8_where_58 k_iconst_2 ?_
              refine v_iload_n (i := 2) dX8_where_59 rfl rfl ?_
              refine vn_imul dX8_where_60 ?_
              refine vn_ishr (by omega) (by omega) dX8_where_61 ?_
              refine v_iconst (v := nI 3) dX8_where_62 k_iconst_3 ?_
              refine vn_and3 dX8_where_63 ?_
              exact v_iret rfl dX8_where_64 ⟨_, rfl, sN σ 0 0, rfl, hG, fun q => (by unfold spWhere at q; rw [hk] at q; dsimp only at q; rw [e1] at q; dsimp only at q; rw [e2] at q; cases q), fun v q => (by unfold spWhere at q; rw [hk] at q; dsimp only at q; rw [e1] at q; dsimp only at q; rw [e2] at q; simp only [Option.map_some] at q; cases q; exact ⟨rfl, rfl⟩)⟩
            · exact absurd c47 (by decide)
    have hsp : spWhere A a b = none := by
      unfold spWhere
      rw [hk]
      dsimp only
      by_cases h2 : inr a (l.length + 1)
      · obtain ⟨i, hi, e⟩ := h2
        rw [e, nOf_some hi (by omega)]
        dsimp only
        rw [nOf_none (fun q => hA2 ⟨⟨i, hi, e⟩, q⟩) (by omega)]
        rfl
      · rw [nOf_none h2 (by omega)]
    refine v_aload_n (i := 0) dX8_where_0 rfl rfl ?_
    refine v_iconst (v := nI 0) dX8_where_1 k_iconst_0 ?_
    refine mp_thrown rfl dX8_where_2 ?_
    refine v_aload_n (i := 0) dX8_where_5 rfl rfl ?_
    refine v_aload_n (i := 0) dX8_where_6 rfl rfl ?_
    refine mg_keptMany rfl dX8_where_7 ?_
    refine v_iconst (v := -1) dX8_where_10 k_iconst_m1 ?_
    refine vo_icmp_eq (tgt := 42) dX8_where_11 rfl (show gN σ 70 < _ by omega) (fun c11 => ?_) (fun c11 => ?_)
    · exact absurd (show gN σ 70 = 0 from c11) (by omega)
    · refine v_iload_n (i := 1) dX8_where_14 rfl rfl ?_
      refine v_if_lt (tgt := 42) dX8_where_15 rfl (fun c15 => ?_) (fun c15 => ?_)
      · refine v_iconst (v := nI 0) dX8_where_42 k_iconst_0 ?_
        refine v_iconst (v := nI 1) dX8_where_43 k_iconst_1 ?_
        refine v_callVi (cM_right0 hap σ) (lw_V q2197 q2199 qs56 q136 q2200) iX8_right rfl KX8 MH_m rfl rfl (by decide) (by decide) (Nat.le_of_ble_eq_true rfl) dX8_where_44 ?_
        refine vn_if_ne (tgt := 52) dX8_where_47 rfl (by decide) (fun c47 => ?_) (fun c47 => ?_)
        · exact absurd rfl c47
        · refine v_iconst (v := nI 0) dX8_where_50 k_iconst_0 ?_
          exact v_iret rfl dX8_where_51 ⟨_, rfl, sN σ 0 1, rfl, hG, fun _ => rfl, fun v q => (by rw [hsp] at q; cases q)⟩
      · refine v_iload_n (i := 1) dX8_where_18 rfl rfl ?_
        refine v_aload_n (i := 0) dX8_where_19 rfl rfl ?_
        refine mg_keptMany rfl dX8_where_20 ?_
        refine v_top (show oI (gN σ 70) = nI l.length by rw [k1]; rfl) ?_
        refine v_icmp_gt (tgt := 42) dX8_where_23 rfl (fun c23 => ?_) (fun c23 => ?_)
        · refine v_iconst (v := nI 0) dX8_where_42 k_iconst_0 ?_
          refine v_iconst (v := nI 1) dX8_where_43 k_iconst_1 ?_
          refine v_callVi (cM_right0 hap σ) (lw_V q2197 q2199 qs56 q136 q2200) iX8_right rfl KX8 MH_m rfl rfl (by decide) (by decide) (Nat.le_of_ble_eq_true rfl) dX8_where_44 ?_
          refine vn_if_ne (tgt := 52) dX8_where_47 rfl (by decide) (fun c47 => ?_) (fun c47 => ?_)
          · exact absurd rfl c47
          · refine v_iconst (v := nI 0) dX8_where_50 k_iconst_0 ?_
            exact v_iret rfl dX8_where_51 ⟨_, rfl, sN σ 0 1, rfl, hG, fun _ => rfl, fun v q => (by rw [hsp] at q; cases q)⟩
        · refine v_iload_n (i := 2) dX8_where_26 rfl rfl ?_
          refine v_if_lt (tgt := 42) dX8_where_27 rfl (fun c27 => ?_) (fun c27 => ?_)
          · refine v_iconst (v := nI 0) dX8_where_42 k_iconst_0 ?_
            refine v_iconst (v := nI 1) dX8_where_43 k_iconst_1 ?_
            refine v_callVi (cM_right0 hap σ) (lw_V q2197 q2199 qs56 q136 q2200) iX8_right rfl KX8 MH_m rfl rfl (by decide) (by decide) (Nat.le_of_ble_eq_true rfl) dX8_where_44 ?_
            refine vn_if_ne (tgt := 52) dX8_where_47 rfl (by decide) (fun c47 => ?_) (fun c47 => ?_)
            · exact absurd rfl c47
            · refine v_iconst (v := nI 0) dX8_where_50 k_iconst_0 ?_
              exact v_iret rfl dX8_where_51 ⟨_, rfl, sN σ 0 1, rfl, hG, fun _ => rfl, fun v q => (by rw [hsp] at q; cases q)⟩
          · refine v_iload_n (i := 2) dX8_where_30 rfl rfl ?_
            refine v_aload_n (i := 0) dX8_where_31 rfl rfl ?_
            refine mg_keptThings rfl dX8_where_32 ?_
            refine v_top (show nI (gN σ 71) = nI (tN A.1 30) by rw [k3]) ?_
            refine v_icmp_ge (tgt := 42) dX8_where_35 rfl (fun c35 => ?_) (fun c35 => ?_)
            · refine v_iconst (v := nI 0) dX8_where_42 k_iconst_0 ?_
              refine v_iconst (v := nI 1) dX8_where_43 k_iconst_1 ?_
              refine v_callVi (cM_right0 hap σ) (lw_V q2197 q2199 qs56 q136 q2200) iX8_right rfl KX8 MH_m rfl rfl (by decide) (by decide) (Nat.le_of_ble_eq_true rfl) dX8_where_44 ?_
              refine vn_if_ne (tgt := 52) dX8_where_47 rfl (by decide) (fun c47 => ?_) (fun c47 => ?_)
              · exact absurd rfl c47
              · refine v_iconst (v := nI 0) dX8_where_50 k_iconst_0 ?_
                exact v_iret rfl dX8_where_51 ⟨_, rfl, sN σ 0 1, rfl, hG, fun _ => rfl, fun v q => (by rw [hsp] at q; cases q)⟩
            · exact absurd ⟨inr_of2 c15 c23 (by omega), inr_of c27 c35 (by omega)⟩ hA2
theorem cA_rides {G : Gl} {m : Nat} {ad : Nat → Nat} {η0 : AH} (hap : Mp m ad) (σ : MS) {rt : Td → Nat} (A : AS) (hG : MG rt σ A) (a b : Int32) : Ct G yX8_rides cX8_rides 7 (some .int) 2 0 0 [.ref m, .int a, .int b] (MH m ad σ η0) (ap rt m ad η0 (spRides A a b) A) := by
  refine Ct.start rfl rfl (Nat.le_of_ble_eq_true rfl) (fun Γ => ?_)
  cases hk : A.2.2.2.2.1 with
  | none =>
    have hK : KP σ A.1 A.2.2.2.2.1 := hG.2.2.2.1
    rw [hk] at hK
    have hK : gN σ 70 = 0 := hK
    refine v_aload_n (i := 0) dX8_rides_0 rfl rfl ?_
    refine v_iconst (v := nI 0) dX8_rides_1 k_iconst_0 ?_
    refine mp_thrown rfl dX8_rides_2 ?_
    refine v_aload_n (i := 0) dX8_rides_5 rfl rfl ?_
    refine v_aload_n (i := 0) dX8_rides_6 rfl rfl ?_
    refine mg_keptMany rfl dX8_rides_7 ?_
    refine v_iconst (v := -1) dX8_rides_10 k_iconst_m1 ?_
    refine vo_icmp_eq (tgt := 39) dX8_rides_11 rfl (show gN σ 70 < _ by omega) (fun c11 => ?_) (fun c11 => ?_)
    · refine v_iconst (v := nI 0) dX8_rides_39 k_iconst_0 ?_
      refine v_iconst (v := nI 1) dX8_rides_40 k_iconst_1 ?_
      refine v_callVi (cM_right0 hap σ) (lw_V q2197 q2199 qs56 q136 q2200) iX8_right rfl KX8 MH_m rfl rfl (by decide) (by decide) (Nat.le_of_ble_eq_true rfl) dX8_rides_41 ?_
      refine vn_if_ne (tgt := 49) dX8_rides_44 rfl (by decide) (fun c44 => ?_) (fun c44 => ?_)
      · exact absurd rfl c44
      · refine v_iconst (v := nI 0) dX8_rides_47 k_iconst_0 ?_
        exact v_iret rfl dX8_rides_48 ⟨_, rfl, sN σ 0 1, rfl, hG, fun _ => rfl, fun v q => (by unfold spRides at q; rw [hk] at q; cases q)⟩
    · exact absurd hK c11
  | some l =>
    have hK : KP σ A.1 A.2.2.2.2.1 := hG.2.2.2.1
    rw [hk] at hK
    have hK : KPm σ A.1 l := hK
    obtain ⟨k1, k2, k3, k4, k5, k6⟩ := id hK
    have hTB := hG.1.1.1
    have hT8 : tN A.1 30 ≤ 8 := hTB.1.2.2.1
    by_cases hA2 : inr a (tN A.1 30) ∧ inr b 2
    case pos =>
      obtain ⟨⟨t, ht, rfl⟩, ⟨j, hj, rfl⟩⟩ := hA2
      have e1 := nOf_some ht (by omega)
      have e2 := nOf_some hj (by decide)
      have L54 : ∀ (n k v : Nat) (z5 z6 : Option Value), k + n = l.length → v = ridN A.1 l t j k → V G Γ yX8_rides cX8_rides 7 (some .int) [] 2 (ap rt m ad η0 (spRides A (nI t) (nI j)) A) 0 0 (MH m ad (sN σ 0 0) η0) 54 [some (.ref m), some (.int (nI t)), some (.int (nI j)), some (.int (nI v)), some (.int (nI k)), z5, z6] [] := by
        intro n
        induction n with
        | zero =>
          intro k v z5 z6 hkn hv
          have ek : k = l.length := by omega
          subst ek
          refine v_iload (i := 4) dX8_rides_54 rfl ?_
          refine v_aload_n (i := 0) dX8_rides_56 rfl rfl ?_
          refine mg_keptMany rfl dX8_rides_57 ?_
          refine v_top (show oI (gN σ 70) = nI l.length by rw [k1]; rfl) ?_
          refine vn_icmp_ge (tgt := 173) dX8_rides_60 rfl (by omega) (by omega) (fun c60 => ?_) (fun c60 => ?_)
          · refine v_iload_n (i := 3) dX8_rides_173 rfl rfl ?_
            exact v_iret rfl dX8_rides_174 ⟨_, rfl, sN σ 0 0, rfl, hG, fun q => (by unfold spRides at q; rw [hk] at q; dsimp only at q; rw [e1] at q; dsimp only at q; rw [e2] at q; cases q), fun v q => (by unfold spRides at q; rw [hk] at q; dsimp only at q; rw [e1] at q; dsimp only at q; rw [e2] at q; simp only [Option.map_some] at q; cases q; exact ⟨by rw [hv], rfl⟩)⟩
          · omega
        | succ n ih =>
          intro k v z5 z6 hkn hv
          have hkl : k < l.length := by omega
          obtain ⟨-, -, e74, -⟩ := k4 k hkl
          obtain ⟨e76, e77⟩ := k5 (k + 1) (by omega)
          have hset := (k6 (l.getD k Mv0) (by rw [List.getD_eq_getElem?_getD, List.getElem?_eq_getElem hkl]; exact List.getElem_mem hkl)).2.2
          generalize hxx : stL A.1 (l.take (k + 1)) = x at *
          have htt := th_lt x t
          have L69 : ∀ (q u al : Nat), u + q = tN A.1 30 → al = alN x t u → al < 2 → V G Γ yX8_rides cX8_rides 7 (some .int) [] 2 (ap rt m ad η0 (spRides A (nI t) (nI j)) A) 0 0 (MH m ad (sN σ 0 0) η0) 69 [some (.ref m), some (.int (nI t)), some (.int (nI j)), some (.int (nI v)), some (.int (nI k)), some (.int (nI al)), some (.int (nI u))] [] := by
            intro q
            induction q with
            | zero =>
              intro u al huq hal hal2
              have eu : u = tN A.1 30 := by omega
              subst eu
              refine v_iload (i := 6) dX8_rides_69 rfl ?_
              refine v_aload_n (i := 0) dX8_rides_71 rfl rfl ?_
              refine mg_keptThings rfl dX8_rides_72 ?_
              refine vn_icmp_ge (tgt := 136) dX8_rides_75 rfl (by omega) (show gN σ 71 < _ by omega) (fun c75 => ?_) (fun c75 => ?_)
              · refine v_iload_n (i := 3) dX8_rides_136 rfl rfl ?_
                refine v_iload_n (i := 2) dX8_rides_137 rfl rfl ?_
                refine vn_if_ne (tgt := 155) dX8_rides_138 rfl (by omega) (fun c138 => ?_) (fun c138 => ?_)
                · refine v_iload (i := 5) dX8_rides_155 rfl ?_
                  refine vn_if_eq (tgt := 164) dX8_rides_157 rfl (by omega) (fun c157 => ?_) (fun c157 => ?_)
                  · refine v_iconst (v := nI 0) dX8_rides_164 k_iconst_0 ?_
                    refine vn_iadd dX8_rides_165 ?_
                    refine v_istore_n (i := 3) dX8_rides_166 rfl (by decide) rfl ?_
                    refine vn_iinc 1 dX8_rides_167 rfl k_iconst_1 (by decide) rfl ?_
                    refine v_goto (tgt := 54) dX8_rides_170 rfl ?_
                    exact ih (k + 1) _ _ _ (by omega) (by show _ = ridN A.1 l t j k + _; rw [if_neg c138, hv, hxx, ← hal, c157])
                  · refine v_iconst (v := nI 1) dX8_rides_160 k_iconst_1 ?_
                    refine v_goto (tgt := 165) dX8_rides_161 rfl ?_
                    refine vn_iadd dX8_rides_165 ?_
                    refine v_istore_n (i := 3) dX8_rides_166 rfl (by decide) rfl ?_
                    refine vn_iinc 1 dX8_rides_167 rfl k_iconst_1 (by decide) rfl ?_
                    refine v_goto (tgt := 54) dX8_rides_170 rfl ?_
                    exact ih (k + 1) _ _ _ (by omega) (by show _ = ridN A.1 l t j k + _; rw [if_neg c138, hv, hxx, ← hal, show al = 1 by omega])
                · refine v_aload_n (i := 0) dX8_rides_141 rfl rfl ?_
                  refine mg_keptSet rfl dX8_rides_142 ?_
                  refine v_iload (i := 4) dX8_rides_145 rfl ?_
                  refine ml_keptSet hap (show k < 2001 by omega) dX8_rides_147 ?_
                  refine v_top (show _ = nI (l.getD k Mv0).2.2 from congrArg nI e74) ?_
                  refine v_iload_n (i := 1) dX8_rides_148 rfl rfl ?_
                  refine vn_ishr (by omega) (by omega) dX8_rides_149 ?_
                  refine v_iconst (v := nI 1) dX8_rides_150 k_iconst_1 ?_
                  refine vn_and1 dX8_rides_151 ?_
                  refine v_goto (tgt := 165) dX8_rides_152 rfl ?_
                  refine vn_iadd dX8_rides_165 ?_
                  refine v_istore_n (i := 3) dX8_rides_166 rfl (by decide) rfl ?_
                  refine vn_iinc 1 dX8_rides_167 rfl k_iconst_1 (by decide) rfl ?_
                  refine v_goto (tgt := 54) dX8_rides_170 rfl ?_
                  exact ih (k + 1) _ _ _ (by omega) (by show _ = ridN A.1 l t j k + _; rw [if_pos c138, hv]; rfl)
              · exact absurd (show tN A.1 30 < gN σ 71 from c75) (by omega)
            | succ q ihq =>
              intro u al huq hal hal2
              have hthu := th_lt x u
              refine v_iload (i := 6) dX8_rides_69 rfl ?_
              refine v_aload_n (i := 0) dX8_rides_71 rfl rfl ?_
              refine mg_keptThings rfl dX8_rides_72 ?_
              refine vn_icmp_ge (tgt := 136) dX8_rides_75 rfl (by omega) (show gN σ 71 < _ by omega) (fun c75 => ?_) (fun c75 => ?_)
              · exact absurd (show gN σ 71 ≤ u from c75) (by omega)
              · refine v_iload (i := 5) dX8_rides_78 rfl ?_
                refine vn_if_eq (tgt := 127) dX8_rides_80 rfl (by omega) (fun c80 => ?_) (fun c80 => ?_)
                · refine v_iconst (v := nI 0) dX8_rides_127 k_iconst_0 ?_
                  refine v_istore (i := 5) dX8_rides_128 (by decide) rfl ?_
                  refine vn_iinc 1 dX8_rides_130 rfl k_iconst_1 (by decide) rfl ?_
                  refine v_goto (tgt := 69) dX8_rides_133 rfl ?_
                  exact ihq (u + 1) 0 (by omega) (by show _ = if _ then _ else _; rw [if_neg (fun w => absurd w.1 (by omega))]) (by decide)
                · refine v_iload (i := 6) dX8_rides_83 rfl ?_
                  refine v_iload_n (i := 1) dX8_rides_85 rfl rfl ?_
                  refine vn_icmp_eq (tgt := 123) dX8_rides_86 rfl (by omega) (by omega) (fun c86 => ?_) (fun c86 => ?_)
                  · refine v_iconst (v := nI 1) dX8_rides_123 k_iconst_1 ?_
                    refine v_goto (tgt := 128) dX8_rides_124 rfl ?_
                    refine v_istore (i := 5) dX8_rides_128 (by decide) rfl ?_
                    refine vn_iinc 1 dX8_rides_130 rfl k_iconst_1 (by decide) rfl ?_
                    refine v_goto (tgt := 69) dX8_rides_133 rfl ?_
                    exact ihq (u + 1) 1 (by omega) (by show _ = if _ then _ else _; rw [if_pos ⟨by omega, Or.inl c86⟩]) (by decide)
                  · refine v_aload_n (i := 0) dX8_rides_89 rfl rfl ?_
                    refine mg_keptState rfl dX8_rides_90 ?_
                    refine v_iload (i := 4) dX8_rides_93 rfl ?_
                    refine v_iconst (v := nI 1) dX8_rides_95 k_iconst_1 ?_
                    refine vn_iadd dX8_rides_96 ?_
                    refine ml_keptState hap (show k + 1 < 2002 by omega) dX8_rides_97 ?_
                    refine v_top (show _ = nI x from congrArg nI e76) ?_
                    refine v_iconst (v := nI 2) dX8_rides_98 k_iconst_2 ?_
                    refine v_iload (i := 6) dX8_rides_99 rfl ?_
                    refine vn_imul dX8_rides_101 ?_
                    refine vn_ishr (by omega) (by omega) dX8_rides_102 ?_
                    refine v_iconst (v := nI 3) dX8_rides_103 k_iconst_3 ?_
                    refine vn_and3 dX8_rides_104 ?_
                    refine v_top (show _ = nI (th x u) from rfl) ?_
                    refine v_aload_n (i := 0) dX8_rides_105 rfl rfl ?_
                    refine mg_keptState rfl dX8_rides_106 ?_
                    refine v_iload (i := 4) dX8_rides_109 rfl ?_
                    refine v_iconst (v := nI 1) dX8_rides_111 k_iconst_1 ?_
                    refine vn_iadd dX8_rides_112 ?_
                    refine ml_keptState hap (show k + 1 < 2002 by omega) dX8_rides_113 ?_
                    refine v_top (show _ = nI x from congrArg nI e76) ?_
                    refine v_iconst (v := nI 2) dX8_rides_114 k_iconst_2 ?_
                    refine v_iload_n (i := 1) dX8_rides_115 rfl rfl ?_
                    refine vn_imul dX8_rides_116 ?_
                    refine vn_ishr (by omega) (by omega) dX8_rides_117 ?_
                    refine v_iconst (v := nI 3) dX8_rides_118 k_iconst_3 ?_
                    refine vn_and3 dX8_rides_119 ?_
                    refine v_top (show _ = nI (th x t) from rfl) ?_
                    refine vn_icmp_eq (tgt := 127) dX8_rides_120 rfl (by omega) (by omega) (fun c120 => ?_) (fun c120 => ?_)
                    · refine v_iconst (v := nI 0) dX8_rides_127 k_iconst_0 ?_
                      refine v_istore (i := 5) dX8_rides_128 (by decide) rfl ?_
                      refine vn_iinc 1 dX8_rides_130 rfl k_iconst_1 (by decide) rfl ?_
                      refine v_goto (tgt := 69) dX8_rides_133 rfl ?_
                      exact ihq (u + 1) 0 (by omega) (by show _ = if _ then _ else _; rw [if_neg (fun w => w.2.elim c86 (fun w2 => w2 c120))]) (by decide)
                    · refine v_iconst (v := nI 1) dX8_rides_123 k_iconst_1 ?_
                      refine v_goto (tgt := 128) dX8_rides_124 rfl ?_
                      refine v_istore (i := 5) dX8_rides_128 (by decide) rfl ?_
                      refine vn_iinc 1 dX8_rides_130 rfl k_iconst_1 (by decide) rfl ?_
                      refine v_goto (tgt := 69) dX8_rides_133 rfl ?_
                      exact ihq (u + 1) 1 (by omega) (by show _ = if _ then _ else _; rw [if_pos ⟨by omega, Or.inr c120⟩]) (by decide)
          refine v_iload (i := 4) dX8_rides_54 rfl ?_
          refine v_aload_n (i := 0) dX8_rides_56 rfl rfl ?_
          refine mg_keptMany rfl dX8_rides_57 ?_
          refine v_top (show oI (gN σ 70) = nI l.length by rw [k1]; rfl) ?_
          refine vn_icmp_ge (tgt := 173) dX8_rides_60 rfl (by omega) (by omega) (fun c60 => ?_) (fun c60 => ?_)
          · omega
          · refine v_iconst (v := nI 1) dX8_rides_63 k_iconst_1 ?_
            refine v_istore (i := 5) dX8_rides_64 (by decide) rfl ?_
            refine v_iconst (v := nI 0) dX8_rides_66 k_iconst_0 ?_
            refine v_istore (i := 6) dX8_rides_67 (by decide) rfl ?_
            exact L69 (tN A.1 30) 0 1 (by omega) rfl (by decide)
      refine v_aload_n (i := 0) dX8_rides_0 rfl rfl ?_
      refine v_iconst (v := nI 0) dX8_rides_1 k_iconst_0 ?_
      refine mp_thrown rfl dX8_rides_2 ?_
      refine v_aload_n (i := 0) dX8_rides_5 rfl rfl ?_
      refine v_aload_n (i := 0) dX8_rides_6 rfl rfl ?_
      refine mg_keptMany rfl dX8_rides_7 ?_
      refine v_iconst (v := -1) dX8_rides_10 k_iconst_m1 ?_
      refine vo_icmp_eq (tgt := 39) dX8_rides_11 rfl (show gN σ 70 < _ by omega) (fun c11 => ?_) (fun c11 => ?_)
      · exact absurd (show gN σ 70 = 0 from c11) (by omega)
      · refine v_iload_n (i := 1) dX8_rides_14 rfl rfl ?_
        refine vn_if_lt (tgt := 39) dX8_rides_15 rfl (by omega) ?_
        refine v_iload_n (i := 1) dX8_rides_18 rfl rfl ?_
        refine v_aload_n (i := 0) dX8_rides_19 rfl rfl ?_
        refine mg_keptThings rfl dX8_rides_20 ?_
        refine vn_icmp_ge (tgt := 39) dX8_rides_23 rfl (by omega) (show gN σ 71 < _ by omega) (fun c23 => ?_) (fun c23 => ?_)
        · exact absurd (show gN σ 71 ≤ t from c23) (by omega)
        · refine v_iload_n (i := 2) dX8_rides_26 rfl rfl ?_
          refine vn_if_eq (tgt := 35) dX8_rides_27 rfl (by omega) (fun c27 => ?_) (fun c27 => ?_)
          · refine v_iconst (v := nI 1) dX8_rides_35 k_iconst_1 ?_
            refine v_goto (tgt := 40) dX8_rides_36 rfl ?_
            refine v_iconst (v := nI 1) dX8_rides_40 k_iconst_1 ?_
            refine v_callVi (cM_right1 hap σ) (lw_V q2197 q2199 qs56 q136 q2200) iX8_right rfl KX8 MH_m rfl rfl (by decide) (by decide) (Nat.le_of_ble_eq_true rfl) dX8_rides_41 ?_
            refine vn_if_ne (tgt := 49) dX8_rides_44 rfl (by decide) (fun c44 => ?_) (fun c44 => ?_)
            · refine v_iconst (v := nI 0) dX8_rides_49 k_iconst_0 ?_
              refine v_istore_n (i := 3) dX8_rides_50 rfl (by decide) rfl ?_
              refine v_iconst (v := nI 0) dX8_rides_51 k_iconst_0 ?_
              refine v_istore (i := 4) dX8_rides_52 (by decide) rfl ?_
              exact L54 l.length 0 0 _ _ (by omega) rfl
            · exact absurd c44 (by decide)
          · refine v_iload_n (i := 2) dX8_rides_30 rfl rfl ?_
            refine v_iconst (v := nI 1) dX8_rides_31 k_iconst_1 ?_
            refine vn_icmp_ne (tgt := 39) dX8_rides_32 rfl (by omega) (by decide) (fun c32 => ?_) (fun c32 => ?_)
            · omega
            · refine v_iconst (v := nI 1) dX8_rides_35 k_iconst_1 ?_
              refine v_goto (tgt := 40) dX8_rides_36 rfl ?_
              refine v_iconst (v := nI 1) dX8_rides_40 k_iconst_1 ?_
              refine v_callVi (cM_right1 hap σ) (lw_V q2197 q2199 qs56 q136 q2200) iX8_right rfl KX8 MH_m rfl rfl (by decide) (by decide) (Nat.le_of_ble_eq_true rfl) dX8_rides_41 ?_
              refine vn_if_ne (tgt := 49) dX8_rides_44 rfl (by decide) (fun c44 => ?_) (fun c44 => ?_)
              · refine v_iconst (v := nI 0) dX8_rides_49 k_iconst_0 ?_
                refine v_istore_n (i := 3) dX8_rides_50 rfl (by decide) rfl ?_
                refine v_iconst (v := nI 0) dX8_rides_51 k_iconst_0 ?_
                refine v_istore (i := 4) dX8_rides_52 (by decide) rfl ?_
                exact L54 l.length 0 0 _ _ (by omega) rfl
              · exact absurd c44 (by decide)
    have hsp : spRides A a b = none := by
      unfold spRides
      rw [hk]
      dsimp only
      by_cases h2 : inr a (tN A.1 30)
      · obtain ⟨i, hi, e⟩ := h2
        rw [e, nOf_some hi (by omega)]
        dsimp only
        rw [nOf_none (fun q => hA2 ⟨⟨i, hi, e⟩, q⟩) (by decide)]
        rfl
      · rw [nOf_none h2 (by omega)]
    refine v_aload_n (i := 0) dX8_rides_0 rfl rfl ?_
    refine v_iconst (v := nI 0) dX8_rides_1 k_iconst_0 ?_
    refine mp_thrown rfl dX8_rides_2 ?_
    refine v_aload_n (i := 0) dX8_rides_5 rfl rfl ?_
    refine v_aload_n (i := 0) dX8_rides_6 rfl rfl ?_
    refine mg_keptMany rfl dX8_rides_7 ?_
    refine v_iconst (v := -1) dX8_rides_10 k_iconst_m1 ?_
    refine vo_icmp_eq (tgt := 39) dX8_rides_11 rfl (show gN σ 70 < _ by omega) (fun c11 => ?_) (fun c11 => ?_)
    · exact absurd (show gN σ 70 = 0 from c11) (by omega)
    · refine v_iload_n (i := 1) dX8_rides_14 rfl rfl ?_
      refine v_if_lt (tgt := 39) dX8_rides_15 rfl (fun c15 => ?_) (fun c15 => ?_)
      · refine v_iconst (v := nI 0) dX8_rides_39 k_iconst_0 ?_
        refine v_iconst (v := nI 1) dX8_rides_40 k_iconst_1 ?_
        refine v_callVi (cM_right0 hap σ) (lw_V q2197 q2199 qs56 q136 q2200) iX8_right rfl KX8 MH_m rfl rfl (by decide) (by decide) (Nat.le_of_ble_eq_true rfl) dX8_rides_41 ?_
        refine vn_if_ne (tgt := 49) dX8_rides_44 rfl (by decide) (fun c44 => ?_) (fun c44 => ?_)
        · exact absurd rfl c44
        · refine v_iconst (v := nI 0) dX8_rides_47 k_iconst_0 ?_
          exact v_iret rfl dX8_rides_48 ⟨_, rfl, sN σ 0 1, rfl, hG, fun _ => rfl, fun v q => (by rw [hsp] at q; cases q)⟩
      · refine v_iload_n (i := 1) dX8_rides_18 rfl rfl ?_
        refine v_aload_n (i := 0) dX8_rides_19 rfl rfl ?_
        refine mg_keptThings rfl dX8_rides_20 ?_
        refine v_top (show nI (gN σ 71) = nI (tN A.1 30) by rw [k3]) ?_
        refine v_icmp_ge (tgt := 39) dX8_rides_23 rfl (fun c23 => ?_) (fun c23 => ?_)
        · refine v_iconst (v := nI 0) dX8_rides_39 k_iconst_0 ?_
          refine v_iconst (v := nI 1) dX8_rides_40 k_iconst_1 ?_
          refine v_callVi (cM_right0 hap σ) (lw_V q2197 q2199 qs56 q136 q2200) iX8_right rfl KX8 MH_m rfl rfl (by decide) (by decide) (Nat.le_of_ble_eq_true rfl) dX8_rides_41 ?_
          refine vn_if_ne (tgt := 49) dX8_rides_44 rfl (by decide) (fun c44 => ?_) (fun c44 => ?_)
          · exact absurd rfl c44
          · refine v_iconst (v := nI 0) dX8_rides_47 k_iconst_0 ?_
            exact v_iret rfl dX8_rides_48 ⟨_, rfl, sN σ 0 1, rfl, hG, fun _ => rfl, fun v q => (by rw [hsp] at q; cases q)⟩
        · refine v_iload_n (i := 2) dX8_rides_26 rfl rfl ?_
          refine v_if_eq (tgt := 35) dX8_rides_27 rfl (fun c27 => ?_) (fun c27 => ?_)
          · exact absurd ⟨inr_of c15 c23 (by omega), ⟨0, by decide, c27⟩⟩ hA2
          · refine v_iload_n (i := 2) dX8_rides_30 rfl rfl ?_
            refine v_iconst (v := nI 1) dX8_rides_31 k_iconst_1 ?_
            refine v_icmp_ne (tgt := 39) dX8_rides_32 rfl (fun c32 => ?_) (fun c32 => ?_)
            · refine v_iconst (v := nI 0) dX8_rides_39 k_iconst_0 ?_
              refine v_iconst (v := nI 1) dX8_rides_40 k_iconst_1 ?_
              refine v_callVi (cM_right0 hap σ) (lw_V q2197 q2199 qs56 q136 q2200) iX8_right rfl KX8 MH_m rfl rfl (by decide) (by decide) (Nat.le_of_ble_eq_true rfl) dX8_rides_41 ?_
              refine vn_if_ne (tgt := 49) dX8_rides_44 rfl (by decide) (fun c44 => ?_) (fun c44 => ?_)
              · exact absurd rfl c44
              · refine v_iconst (v := nI 0) dX8_rides_47 k_iconst_0 ?_
                exact v_iret rfl dX8_rides_48 ⟨_, rfl, sN σ 0 1, rfl, hG, fun _ => rfl, fun v q => (by rw [hsp] at q; cases q)⟩
            · exact absurd ⟨inr_of c15 c23 (by omega), ⟨1, by decide, c32⟩⟩ hA2
