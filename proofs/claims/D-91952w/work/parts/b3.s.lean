set_option maxRecDepth 100000
theorem cJ_l1IxC {G : Gl} {η0 : AH} {e n : Nat} {o2 : Option Nat} {g : Nat → Int32} {f : Nat → Nat} (he : η0 e = some (o2, aB n g)) (hn : n < 1000) (hg : ∀ i, i < n → g i = nI (f i) ∧ f i < 128) {c k : Nat} (hc : c < 256) (hk : k ≤ n) : Ct G yJ14_indexOfChar cJ14_indexOfChar 6 (some .int) 0 (0) (0) [.ref e, .int (nI c), .int (nI k), .int (nI n)] η0 (re (some (.int (oI (nmF f c (n - k) k)))) η0) := by
  refine Ct.start rfl rfl (Nat.le_of_ble_eq_true rfl) (fun Γ => ?_)
  have L7 : ∀ (m i : Nat), i + m = n → nmF f c (n - k) k = nmF f c m i → V G Γ yJ14_indexOfChar cJ14_indexOfChar 6 (some .int) [] 0 (re (some (.int (oI (nmF f c (n - k) k)))) η0) (0) (0) (η0) 7 [some (.ref e), some (.int (nI c)), some (.int (nI k)), some (.int (nI n)), some (.int (sxb c)), some (.int (nI i))] [] := by
    intro m
    induction m with
    | zero =>
      intro i hi hr
      have ei : i = n := by omega
      subst ei
      refine v_iload (i := 5) dJ14_indexOfChar_7 rfl ?_
      refine v_iload_n (i := 3) dJ14_indexOfChar_9 rfl rfl ?_
      refine vn_icmp_ge (tgt := 31) dJ14_indexOfChar_10 rfl (by omega) (by omega) (fun c10 => ?_) (fun c10 => ?_)
      · refine v_iconst (v := -1) dJ14_indexOfChar_31 k_iconst_m1 ?_
        exact v_iret rfl dJ14_indexOfChar_32 ⟨by rw [hr]; rfl, rfl⟩
      · omega
    | succ m ih =>
      intro i hi hr
      have hgi := hg i (by omega)
      refine v_iload (i := 5) dJ14_indexOfChar_7 rfl ?_
      refine v_iload_n (i := 3) dJ14_indexOfChar_9 rfl rfl ?_
      refine vn_icmp_ge (tgt := 31) dJ14_indexOfChar_10 rfl (by omega) (by omega) (fun c10 => ?_) (fun c10 => ?_)
      · omega
      · refine v_aload_n (i := 0) dJ14_indexOfChar_13 rfl rfl ?_
        refine v_iload (i := 5) dJ14_indexOfChar_14 rfl ?_
        refine v_bald he (vp_in_nI (by omega) (by omega)) dJ14_indexOfChar_16 ?_
        rw [nI_clamp (by omega), hgi.1]
        refine v_iload (i := 4) dJ14_indexOfChar_17 rfl ?_
        refine v_icmp_ne (tgt := 25) dJ14_indexOfChar_19 rfl (fun c19 => ?_) (fun c19 => ?_)
        · refine vn_iinc 1 dJ14_indexOfChar_25 rfl k_iconst_1 (by decide) rfl ?_
          refine v_goto (tgt := 7) dJ14_indexOfChar_28 rfl ?_
          exact ih (i + 1) (by omega) (by rw [hr]; exact if_neg (fun z => c19 ((sxb_eq hc hgi.2).mpr z.symm).symm))
        · refine v_iload (i := 5) dJ14_indexOfChar_22 rfl ?_
          exact v_iret rfl dJ14_indexOfChar_24 ⟨by rw [hr]; unfold nmF; rw [if_pos ((sxb_eq hc hgi.2).mp c19.symm).symm]; rfl, rfl⟩
  refine v_iload_n (i := 1) dJ14_indexOfChar_0 rfl rfl ?_
  refine v_i2b (v := sxb c) dJ14_indexOfChar_1 rfl ?_
  refine v_istore (i := 4) dJ14_indexOfChar_2 (by decide) rfl ?_
  refine v_iload_n (i := 2) dJ14_indexOfChar_4 rfl rfl ?_
  refine v_istore (i := 5) dJ14_indexOfChar_5 (by decide) rfl ?_
  exact L7 (n - k) k (by omega) rfl
theorem cJ_canEi {G : Gl} {η0 : AH} {c : Nat} (hc : c < 256) : Ct G yJ14_canEncode cJ14_canEncode 1 (some .boolean) 0 (0) (0) [.int (nI c)] η0 (re (some (.int (nI 1))) η0) := by
  refine Ct.start rfl rfl (Nat.le_of_ble_eq_true rfl) (fun Γ => ?_)
  refine v_iload_n (i := 0) dJ14_canEncode_0 rfl rfl ?_
  refine vn_if_lt (tgt := 15) dJ14_canEncode_1 rfl (by omega) ?_
  refine v_iload_n (i := 0) dJ14_canEncode_4 rfl rfl ?_
  refine v_sipush (v := nI 255) dJ14_canEncode_5 k_sipush_255 ?_
  refine vn_icmp_gt (tgt := 15) dJ14_canEncode_8 rfl (by omega) (by decide) (fun c8 => ?_) (fun c8 => ?_)
  · omega
  · refine v_iconst (v := nI 1) dJ14_canEncode_11 k_iconst_1 ?_
    refine v_goto (tgt := 16) dJ14_canEncode_12 rfl ?_
    exact v_zret rfl rfl dJ14_canEncode_16 ⟨rfl, rfl⟩
theorem cJ_l1Ix {G : Gl} {η0 : AH} {e n : Nat} {o2 : Option Nat} {g : Nat → Int32} {f : Nat → Nat} (he : η0 e = some (o2, aB n g)) (hn : n < 1000) (hg : ∀ i, i < n → g i = nI (f i) ∧ f i < 128) {c k : Nat} (hc : c < 256) (hk : k ≤ n) (hk2 : k < n) : Ct G yJ14_indexOf cJ14_indexOf 4 (some .int) 1 (0) (0) [.ref e, .int (nI c), .int (nI k), .int (nI n)] η0 (re (some (.int (oI (nmF f c (n - k) k)))) η0) := by
  refine Ct.start rfl rfl (Nat.le_of_ble_eq_true rfl) (fun Γ => ?_)
  refine v_iload_n (i := 1) dJ14_indexOf_0 rfl rfl ?_
  refine v_callS (cJ_canEi hc) (lw_S q1200 q1201 q142 q1202) iJ14_canEncode rfl rfl (by decide) (by decide) (Nat.le_of_ble_eq_true rfl) (Nat.le_refl _) (Nat.le_refl _) dJ14_indexOf_1 (kr_ei ?_) kx_e
  refine vn_if_ne (tgt := 9) dJ14_indexOf_4 rfl (by decide) (fun c4 => ?_) (fun c4 => ?_)
  · refine v_iload_n (i := 2) dJ14_indexOf_9 rfl rfl ?_
    refine v_iconst (v := nI 0) dJ14_indexOf_10 k_iconst_0 ?_
    refine v_mmax q1203 (nI_max (by omega) (by decide)) (by decide) (Nat.le_of_ble_eq_true rfl) dJ14_indexOf_11 ?_
    refine v_top (x' := nI k) (by by_cases z : k < 0; omega; rw [if_neg z]) ?_
    refine v_istore_n (i := 2) dJ14_indexOf_14 rfl (by decide) rfl ?_
    refine v_iload_n (i := 3) dJ14_indexOf_15 rfl rfl ?_
    refine v_aload_n (i := 0) dJ14_indexOf_16 rfl rfl ?_
    refine v_alen he (by decide) dJ14_indexOf_17 ?_
    refine v_mmin q1204 (nI_minv (by omega) (by omega)) (by decide) (Nat.le_of_ble_eq_true rfl) dJ14_indexOf_18 ?_
    refine v_top (x' := nI n) (by rw [if_neg (by omega)]) ?_
    refine v_istore_n (i := 3) dJ14_indexOf_21 rfl (by decide) rfl ?_
    refine v_iload_n (i := 2) dJ14_indexOf_22 rfl rfl ?_
    refine v_iload_n (i := 3) dJ14_indexOf_23 rfl rfl ?_
    refine vn_icmp_lt (tgt := 29) dJ14_indexOf_24 rfl (by omega) (by omega) (fun c24 => ?_) (fun c24 => ?_)
    · refine v_aload_n (i := 0) dJ14_indexOf_29 rfl rfl ?_
      refine v_iload_n (i := 1) dJ14_indexOf_30 rfl rfl ?_
      refine v_iload_n (i := 2) dJ14_indexOf_31 rfl rfl ?_
      refine v_iload_n (i := 3) dJ14_indexOf_32 rfl rfl ?_
      refine v_callS (cJ_l1IxC he hn hg hc hk) (lw_S q1205 q1206 q142 q1207) iJ14_indexOfChar rfl rfl (by decide) (by decide) (Nat.le_of_ble_eq_true rfl) (Nat.le_refl _) (Nat.le_refl _) dJ14_indexOf_33 (kr_ei ?_) kx_e
      exact v_iret rfl dJ14_indexOf_36 ⟨rfl, rfl⟩
    · omega
  · exact absurd c4 (by decide)
