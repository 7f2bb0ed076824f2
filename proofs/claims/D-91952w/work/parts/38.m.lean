theorem strN_le (a : Nat) : strN a ≤ 6 := by
  unfold strN
  repeat' split
  all_goals decide
theorem cM_puts {G : Gl} {m : Nat} {ad : Nat → Nat} {η0 : AH} (hap : Mp m ad) (σ : MS) (v : Nat) (h : gN σ 34 < 1200) : Ct G yX8_puts cX8_puts 2 none 1 0 0 [.ref m, .int (nI v)] (MH m ad σ η0) (re none (MH m ad (sN (sA σ 46 (gN σ 34) v) 34 (gN σ 34 + 1)) η0)) := by
  refine Ct.start rfl rfl (Nat.le_of_ble_eq_true rfl) (fun Γ => ?_)
  refine v_aload_n (i := 0) dX8_puts_0 rfl rfl ?_
  refine mg_read rfl dX8_puts_1 ?_
  refine v_aload_n (i := 0) dX8_puts_4 rfl rfl ?_
  refine mg_top rfl dX8_puts_5 ?_
  refine v_iload_n (i := 1) dX8_puts_8 rfl rfl ?_
  refine ms_read hap (by omega) dX8_puts_9 ?_
  refine v_aload_n (i := 0) dX8_puts_10 rfl rfl ?_
  refine v_dup dX8_puts_11 rfl ?_
  refine mg_top rfl dX8_puts_12 ?_
  refine v_iconst (v := nI 1) dX8_puts_15 k_iconst_1 ?_
  refine vn_iadd dX8_puts_16 ?_
  refine mp_top rfl dX8_puts_17 ?_
  exact v_vret rfl dX8_puts_20 ⟨rfl, rfl⟩
theorem cM_waitsFor {G : Gl} {m : Nat} {ad : Nat → Nat} {η0 : AH} (hap : Mp m ad) (σ : MS) (v : Nat) (h : gN σ 35 < 720) : Ct G yX8_waitsFor cX8_waitsFor 2 none 1 0 0 [.ref m, .int (nI v)] (MH m ad σ η0) (re none (MH m ad (sN (sA σ 47 (gN σ 35) v) 35 (gN σ 35 + 1)) η0)) := by
  refine Ct.start rfl rfl (Nat.le_of_ble_eq_true rfl) (fun Γ => ?_)
  refine v_aload_n (i := 0) dX8_waitsFor_0 rfl rfl ?_
  refine mg_waits rfl dX8_waitsFor_1 ?_
  refine v_aload_n (i := 0) dX8_waitsFor_4 rfl rfl ?_
  refine mg_waiting rfl dX8_waitsFor_5 ?_
  refine v_iload_n (i := 1) dX8_waitsFor_8 rfl rfl ?_
  refine ms_waits hap (by omega) dX8_waitsFor_9 ?_
  refine v_aload_n (i := 0) dX8_waitsFor_10 rfl rfl ?_
  refine v_dup dX8_waitsFor_11 rfl ?_
  refine mg_waiting rfl dX8_waitsFor_12 ?_
  refine v_iconst (v := nI 1) dX8_waitsFor_15 k_iconst_1 ?_
  refine vn_iadd dX8_waitsFor_16 ?_
  refine mp_waiting rfl dX8_waitsFor_17 ?_
  exact v_vret rfl dX8_waitsFor_20 ⟨rfl, rfl⟩
theorem cM_strength {G : Gl} {η : AH} (a : Nat) (ha : a < 2147483648) : Ct G yX8_strength cX8_strength 1 (some .int) 1 0 0 [.int (nI a)] η (re (some (.int (nI (strN a)))) η) := by
  refine Ct.start rfl rfl (Nat.le_of_ble_eq_true rfl) (fun Γ => ?_)
  refine v_iload_n (i := 0) dX8_strength_0 rfl rfl ?_
  refine v_bipush (v := nI 12) dX8_strength_1 k_bipush_12 ?_
  refine vn_icmp_ne (tgt := 10) dX8_strength_3 rfl (by omega) (by omega) (fun c3 => ?_) (fun c3 => ?_)
  · refine v_iload_n (i := 0) dX8_strength_10 rfl rfl ?_
    refine v_iconst (v := nI 5) dX8_strength_11 k_iconst_5 ?_
    refine vn_icmp_ne (tgt := 19) dX8_strength_12 rfl (by omega) (by omega) (fun c12 => ?_) (fun c12 => ?_)
    · refine v_iload_n (i := 0) dX8_strength_19 rfl rfl ?_
      refine v_iconst (v := nI 4) dX8_strength_20 k_iconst_4 ?_
      refine vn_icmp_ne (tgt := 28) dX8_strength_21 rfl (by omega) (by omega) (fun c21 => ?_) (fun c21 => ?_)
      · refine v_iload_n (i := 0) dX8_strength_28 rfl rfl ?_
        refine v_iconst (v := nI 3) dX8_strength_29 k_iconst_3 ?_
        refine vn_icmp_ne (tgt := 37) dX8_strength_30 rfl (by omega) (by omega) (fun c30 => ?_) (fun c30 => ?_)
        · refine v_iload_n (i := 0) dX8_strength_37 rfl rfl ?_
          refine v_bipush (v := nI 6) dX8_strength_38 k_bipush_6 ?_
          refine vn_icmp_eq (tgt := 49) dX8_strength_40 rfl (by omega) (by omega) (fun c40 => ?_) (fun c40 => ?_)
          · refine v_iconst (v := nI 4) dX8_strength_49 k_iconst_4 ?_
            refine v_goto (tgt := 71) dX8_strength_50 rfl ?_
            exact v_iret rfl dX8_strength_71 ⟨by simp_all [strN], rfl⟩
          · refine v_iload_n (i := 0) dX8_strength_43 rfl rfl ?_
            refine v_bipush (v := nI 7) dX8_strength_44 k_bipush_7 ?_
            refine vn_icmp_ne (tgt := 53) dX8_strength_46 rfl (by omega) (by omega) (fun c46 => ?_) (fun c46 => ?_)
            · refine v_iload_n (i := 0) dX8_strength_53 rfl rfl ?_
              refine v_bipush (v := nI 8) dX8_strength_54 k_bipush_8 ?_
              refine vn_icmp_eq (tgt := 65) dX8_strength_56 rfl (by omega) (by omega) (fun c56 => ?_) (fun c56 => ?_)
              · refine v_iconst (v := nI 5) dX8_strength_65 k_iconst_5 ?_
                refine v_goto (tgt := 71) dX8_strength_66 rfl ?_
                exact v_iret rfl dX8_strength_71 ⟨by simp_all [strN], rfl⟩
              · refine v_iload_n (i := 0) dX8_strength_59 rfl rfl ?_
                refine v_bipush (v := nI 9) dX8_strength_60 k_bipush_9 ?_
                refine vn_icmp_ne (tgt := 69) dX8_strength_62 rfl (by omega) (by omega) (fun c62 => ?_) (fun c62 => ?_)
                · refine v_bipush (v := nI 6) dX8_strength_69 k_bipush_6 ?_
                  exact v_iret rfl dX8_strength_71 ⟨by simp_all [strN], rfl⟩
                · refine v_iconst (v := nI 5) dX8_strength_65 k_iconst_5 ?_
                  refine v_goto (tgt := 71) dX8_strength_66 rfl ?_
                  exact v_iret rfl dX8_strength_71 ⟨by simp_all [strN], rfl⟩
            · refine v_iconst (v := nI 4) dX8_strength_49 k_iconst_4 ?_
              refine v_goto (tgt := 71) dX8_strength_50 rfl ?_
              exact v_iret rfl dX8_strength_71 ⟨by simp_all [strN], rfl⟩
        · refine v_iconst (v := nI 3) dX8_strength_33 k_iconst_3 ?_
          refine v_goto (tgt := 71) dX8_strength_34 rfl ?_
          exact v_iret rfl dX8_strength_71 ⟨by simp_all [strN], rfl⟩
      · refine v_iconst (v := nI 2) dX8_strength_24 k_iconst_2 ?_
        refine v_goto (tgt := 71) dX8_strength_25 rfl ?_
        exact v_iret rfl dX8_strength_71 ⟨by simp_all [strN], rfl⟩
    · refine v_iconst (v := nI 1) dX8_strength_15 k_iconst_1 ?_
      refine v_goto (tgt := 71) dX8_strength_16 rfl ?_
      exact v_iret rfl dX8_strength_71 ⟨by simp_all [strN], rfl⟩
  · refine v_iconst (v := nI 0) dX8_strength_6 k_iconst_0 ?_
    refine v_goto (tgt := 71) dX8_strength_7 rfl ?_
    exact v_iret rfl dX8_strength_71 ⟨by simp_all [strN], rfl⟩
theorem cM_drops {G : Gl} {m : Nat} {ad : Nat → Nat} {η0 : AH} (hap : Mp m ad) (σ : MS) (p lo least : Nat) (hle : least < 2147483648) (wt : Nat → Nat) (dp : Nat) (td : Nat → Nat) (rd0 : Nat → Nat) (ops0 r0 : List Nat) (hb : lo + r0.length + ops0.length ≤ 1200) (hb2 : ops0.length ≤ 720) (ho : ∀ a ∈ ops0, a < 13) (hw : pN wt 0 ops0) (hr : pN rd0 lo r0) : Ct G yX8_drops cX8_drops 2 none 2 0 0 [.ref m, .int (nI least)] (MH m ad (XS σ p rd0 (lo + r0.length) wt ops0.length dp td) η0) (rv fun η => ∃ rd2, η = MH m ad (XS σ p rd2 (lo + (drL least ops0 r0).2.length) wt (drL least ops0 r0).1.length dp td) η0 ∧ pN rd2 lo (drL least ops0 r0).2 ∧ ∀ i, i < lo → rd2 i = rd0 i) := by
  refine Ct.start rfl rfl (Nat.le_of_ble_eq_true rfl) (fun Γ => ?_)
  have L : ∀ (ops r : List Nat) (rd : Nat → Nat), drL least ops r = drL least ops0 r0 → lo + r.length + ops.length ≤ 1200 → ops.length ≤ 720 → (∀ a ∈ ops, a < 13) → pN wt 0 ops → pN rd lo r → (∀ i, i < lo → rd i = rd0 i) → V G Γ yX8_drops cX8_drops 2 none [] 2 (rv fun η => ∃ rd2, η = MH m ad (XS σ p rd2 (lo + (drL least ops0 r0).2.length) wt (drL least ops0 r0).1.length dp td) η0 ∧ pN rd2 lo (drL least ops0 r0).2 ∧ ∀ i, i < lo → rd2 i = rd0 i) 0 0 (MH m ad (XS σ p rd (lo + r.length) wt ops.length dp td) η0) 0 [some (.ref m), some (.int (nI least))] [] := by
    intro ops
    induction ops with
    | nil =>
      intro r rd he h1 h2 h3 h4 h5 h6
      refine v_aload_n (i := 0) dX8_drops_0 rfl rfl ?_
      refine mg_waiting rfl dX8_drops_1 ?_
      refine vn_if_le (tgt := 67) dX8_drops_4 rfl (by show (0 : Nat) < _; decide) (fun c4 => ?_) (fun c4 => ?_)
      · exact v_vret rfl dX8_drops_67 (by
              have e : drL least [] r = ([], r) := rfl
              rw [e] at he
              exact ⟨rfl, rd, by rw [← he], by rw [← he]; exact h5, h6⟩)
      · exact absurd c4 (by show ¬ 0 < 0; decide)
    | cons a ops ih =>
      intro r rd he h1 h2 h3 h4 h5 h6
      have ha := h3 a List.mem_cons_self
      have hla : (a :: ops).length = ops.length + 1 := rfl
      have hwa : wt ops.length = a := by have := h4.1; rwa [Nat.zero_add] at this
      refine v_aload_n (i := 0) dX8_drops_0 rfl rfl ?_
      refine mg_waiting rfl dX8_drops_1 ?_
      refine vn_if_le (tgt := 67) dX8_drops_4 rfl (by show ops.length + 1 < _; omega) (fun c4 => ?_) (fun c4 => ?_)
      · exact absurd c4 (by show ¬ ops.length + 1 = 0; omega)
      · refine v_aload_n (i := 0) dX8_drops_7 rfl rfl ?_
        refine mg_waits rfl dX8_drops_8 ?_
        refine v_aload_n (i := 0) dX8_drops_11 rfl rfl ?_
        refine mg_waiting rfl dX8_drops_12 ?_
        refine v_iconst (v := nI 1) dX8_drops_15 k_iconst_1 ?_
        refine vn_isub (by show 1 ≤ ops.length + 1; omega) dX8_drops_16 ?_
        refine ml_waits hap (by show ops.length < 720; omega) dX8_drops_17 ?_
        refine v_top (show _ = nI a by rw [← hwa]; rfl) ?_
        refine v_bipush (v := nI 12) dX8_drops_18 k_bipush_12 ?_
        refine vn_icmp_eq (tgt := 67) dX8_drops_20 rfl (by omega) (by decide) (fun c20 => ?_) (fun c20 => ?_)
        · exact v_vret rfl dX8_drops_67 (by
                have e : drL least (a :: ops) r = (a :: ops, r) := if_neg (fun q => q.1 c20)
                rw [e] at he
                exact ⟨rfl, rd, by rw [← he], by rw [← he]; exact h5, h6⟩)
        · refine v_aload_n (i := 0) dX8_drops_23 rfl rfl ?_
          refine mg_waits rfl dX8_drops_24 ?_
          refine v_aload_n (i := 0) dX8_drops_27 rfl rfl ?_
          refine mg_waiting rfl dX8_drops_28 ?_
          refine v_iconst (v := nI 1) dX8_drops_31 k_iconst_1 ?_
          refine vn_isub (by show 1 ≤ ops.length + 1; omega) dX8_drops_32 ?_
          refine ml_waits hap (by show ops.length < 720; omega) dX8_drops_33 ?_
          refine v_top (show _ = nI a by rw [← hwa]; rfl) ?_
          refine v_callSi (cM_strength a (by omega)) (lw_S q2305 q2306 q136 q2307) iX8_strength rfl rfl (by decide) (by decide) (Nat.le_of_ble_eq_true rfl) dX8_drops_34 ?_
          refine v_iload_n (i := 1) dX8_drops_37 rfl rfl ?_
          refine vn_icmp_lt (tgt := 67) dX8_drops_38 rfl (Nat.lt_of_le_of_lt (strN_le a) (by decide)) hle (fun c38 => ?_) (fun c38 => ?_)
          · exact v_vret rfl dX8_drops_67 (by
                  have e : drL least (a :: ops) r = (a :: ops, r) := if_neg (fun q => absurd q.2 (by omega))
                  rw [e] at he
                  exact ⟨rfl, rd, by rw [← he], by rw [← he]; exact h5, h6⟩)
          · refine v_aload_n (i := 0) dX8_drops_41 rfl rfl ?_
            refine v_dup dX8_drops_42 rfl ?_
            refine mg_waiting rfl dX8_drops_43 ?_
            refine v_iconst (v := nI 1) dX8_drops_46 k_iconst_1 ?_
            refine vn_isub (by show 1 ≤ ops.length + 1; omega) dX8_drops_47 ?_
            refine mp_waiting rfl dX8_drops_48 ?_
            refine v_eq (congrArg (fun τ => MH m ad τ η0) (show _ = XS σ p rd (lo + r.length) wt ops.length dp td from XS_wn σ p rd (lo + r.length) wt (a :: ops).length dp td ops.length)) ?_
            refine v_aload_n (i := 0) dX8_drops_51 rfl rfl ?_
            refine v_aload_n (i := 0) dX8_drops_52 rfl rfl ?_
            refine mg_waits rfl dX8_drops_53 ?_
            refine v_aload_n (i := 0) dX8_drops_56 rfl rfl ?_
            refine mg_waiting rfl dX8_drops_57 ?_
            refine ml_waits hap (by show ops.length < 720; omega) dX8_drops_60 ?_
            refine v_top (show _ = nI a by rw [← hwa]; rfl) ?_
            refine v_callVv (cM_puts hap (XS σ p rd (lo + r.length) wt ops.length dp td) a (by show lo + r.length < 1200; omega)) (lw_V q2297 q2299 qs78 q136 q2300) iX8_puts rfl KX8 MH_m rfl rfl (by decide) (by decide) (Nat.le_of_ble_eq_true rfl) dX8_drops_61 ?_
            refine v_goto (tgt := 0) dX8_drops_64 rfl ?_
            refine v_eq (congrArg (fun τ => MH m ad τ η0) (show _ = XS σ p (va_up rd (lo + r.length) a) (lo + (a :: r).length) wt ops.length dp td from XS_puts σ p rd (lo + r.length) wt ops.length dp td a)) ?_
            exact ih (a :: r) _ ((show drL least (a :: ops) r = drL least ops (a :: r) from if_pos ⟨c20, c38⟩).symm.trans he) (by simp; omega) (by omega) (fun x hx => h3 x (List.mem_cons_of_mem _ hx)) h4.2 (pN_push h5) (fun i hi => by rw [va_up_n (by omega)]; exact h6 i hi)
  exact L ops0 r0 rd0 rfl hb hb2 ho hw hr (fun _ _ => rfl)
