set_option maxRecDepth 100000
theorem cR_init {G : Gl} {η0 : AH} {w : Nat} {τ : Td} (hW : Wd G η0 w τ) {t o tf f : Nat} {adr adf : Nat → Nat} {φ : MS} (hRo : GO (22, 9, kzX18, lnX18) η0 (some t) o adr (zS kdX18)) (hFo : GO scX1 η0 (some tf) f adf φ) (f0 : gN φ 0 = w + 1) (htf : tf < t ∨ t + 7 ≤ tf) : Ct G yX18_init cX18_init 2 none 5 (13) (3111) [.ref o, .ref f] η0 (rv fun η => R00 η t o w τ ∧ Kp t (t + 7) η0 η) := by
  refine Ct.start rfl rfl (Nat.le_of_ble_eq_true rfl) (fun Γ => ?_)
  have h0 : Kp t (t + 7) η0 η0 := Kp.rf
  refine v_aload_n (i := 0) dX18_init_0 rfl rfl ?_
  refine v_aload_n (i := 1) dX18_init_1 rfl rfl ?_
  refine go_put3F hRo KX18 8 (by decide) rfl q939 rfl rfl rfl rfl rfl dX18_init_2 (fun η hRo hk => ?_)
  have h0 := h0.th hk (by omega) (by omega)
  have hW := hW.kp hk
  have hFo := hFo.kpS hk (by omega)
  refine v_aload_n (i := 0) dX18_init_5 rfl rfl ?_
  refine v_objI q926 (by decide) (Nat.le_of_ble_eq_true rfl) dX18_init_6 ?_
  refine v_aload_n (i := 0) dX18_init_9 rfl rfl ?_
  refine v_nw (t + 1) KX17 q927 q635 q157 (by omega) (by omega) dX18_init_10 (fun qJ η hqJ hη hk => ?_)
  have hJo : GO (21, 9, kzX17, lnX17) η (some (t + 1)) qJ (fun _ => 0) (zS kdX17) := by rw [hη]; exact bornX17
  have h0 := h0.th hk (by omega) (by omega)
  have hW := hW.kp hk
  have hFo := hFo.kpS hk (by omega)
  have hRo := hRo.kpS hk (by omega)
  refine v_dup dX18_init_13 rfl ?_
  refine v_aload_n (i := 0) dX18_init_14 rfl rfl ?_
  refine go_get3 hRo KX18 8 (by decide) rfl (f) rfl q939 dX18_init_15 ?_
  refine go_get3N hFo KX1 0 (by decide) rfl (w) f0 q554 dX18_init_18 ?_
  refine v_iconst (v := -1) dX18_init_21 k_iconst_m1 ?_
  refine v_iconst (v := -1) dX18_init_22 k_iconst_m1 ?_
  refine v_iconst (v := nI 0) dX18_init_23 k_iconst_0 ?_
  refine v_callI (kc' := 9) (ks' := 3092) (cG_init hW hJo (hn := 0) (ln := 0) (wo := 0) (Or.inl ⟨rfl, fun _ => rfl⟩) (Or.inl ⟨rfl, fun _ => rfl⟩)) (lw_meth q638) q157 q928 q637 rfl iX17_init rfl rfl (by decide) (by decide) (Nat.le_of_ble_eq_true rfl) (by decide) (by decide) dX18_init_24 (kr_W (fun η h => ?_)) kx_W
  obtain ⟨qq, hJ, hQ, hk⟩ := h
  have h0 := h0.th hk (by omega) (by omega)
  have hW := hW.kp hk
  have hFo := hFo.kpS hk (by omega)
  have hRo := hRo.kpS hk (by omega)
  refine go_put3F hRo KX18 0 (by decide) rfl q931 rfl rfl rfl rfl rfl dX18_init_27 (fun η hRo hk => ?_)
  have h0 := h0.th hk (by omega) (by omega)
  have hW := hW.kp hk
  have hFo := hFo.kpS hk (by omega)
  have hJ := hJ.kp hk (by omega)
  have hQ := hQ.kp hk (by omega)
  refine v_aload_n (i := 0) dX18_init_30 rfl rfl ?_
  refine v_nw (t + 3) KX7 q929 q503 q135 (by omega) (by omega) dX18_init_31 (fun qP η hqP hη hk => ?_)
  have hP : GO (8, 4, kzX7, lnX7) η (some (t + 3)) qP (fun _ => 0) (zS kdX7) := by rw [hη]; exact bornX7
  have h0 := h0.th hk (by omega) (by omega)
  have hW := hW.kp hk
  have hFo := hFo.kpS hk (by omega)
  have hJ := hJ.kp hk (by omega)
  have hQ := hQ.kp hk (by omega)
  have hRo := hRo.kpS hk (by omega)
  refine v_dup dX18_init_34 rfl ?_
  refine v_aload_n (i := 0) dX18_init_35 rfl rfl ?_
  refine go_get3 hRo KX18 8 (by decide) rfl (f) rfl q939 dX18_init_36 ?_
  refine go_get3N hFo KX1 0 (by decide) rfl (w) f0 q554 dX18_init_39 ?_
  refine v_callI (kc' := 6) (ks' := 3082) (cP_init hP) (lw_meth q506) q135 q930 q505 rfl iX7_init rfl rfl (by decide) (by decide) (Nat.le_of_ble_eq_true rfl) (by decide) (by decide) dX18_init_42 (kr_W (fun η h => ?_)) kx_W
  obtain ⟨hP, hk⟩ := h
  have h0 := h0.th hk (by omega) (by omega)
  have hW := hW.kp hk
  have hFo := hFo.kpS hk (by omega)
  have hRo := hRo.kpS hk (by omega)
  have hJ := hJ.kp hk (by omega)
  have hQ := hQ.kp hk (by omega)
  refine go_put3F hRo KX18 1 (by decide) rfl q932 rfl rfl rfl rfl rfl dX18_init_45 (fun η hRo hk => ?_)
  have h0 := h0.th hk (by omega) (by omega)
  have hW := hW.kp hk
  have hFo := hFo.kpS hk (by omega)
  have hJ := hJ.kp hk (by omega)
  have hQ := hQ.kp hk (by omega)
  have hP := hP.kp hk (by omega)
  refine v_aload_n (i := 0) dX18_init_48 rfl rfl ?_
  refine v_nw (t + 4) KX7 q929 q503 q135 (by omega) (by omega) dX18_init_49 (fun qT η hqT hη hk => ?_)
  have hT : GO (8, 4, kzX7, lnX7) η (some (t + 4)) qT (fun _ => 0) (zS kdX7) := by rw [hη]; exact bornX7
  have h0 := h0.th hk (by omega) (by omega)
  have hW := hW.kp hk
  have hFo := hFo.kpS hk (by omega)
  have hJ := hJ.kp hk (by omega)
  have hQ := hQ.kp hk (by omega)
  have hP := hP.kp hk (by omega)
  have hRo := hRo.kpS hk (by omega)
  refine v_dup dX18_init_52 rfl ?_
  refine v_aload_n (i := 0) dX18_init_53 rfl rfl ?_
  refine go_get3 hRo KX18 8 (by decide) rfl (f) rfl q939 dX18_init_54 ?_
  refine go_get3N hFo KX1 0 (by decide) rfl (w) f0 q554 dX18_init_57 ?_
  refine v_callI (kc' := 3) (ks' := 3072) (cP_init hT) (lw_meth q506) q135 q930 q505 rfl iX7_init rfl rfl (by decide) (by decide) (Nat.le_of_ble_eq_true rfl) (by decide) (by decide) dX18_init_60 (kr_W (fun η h => ?_)) kx_W
  obtain ⟨hT, hk⟩ := h
  have h0 := h0.th hk (by omega) (by omega)
  have hW := hW.kp hk
  have hFo := hFo.kpS hk (by omega)
  have hRo := hRo.kpS hk (by omega)
  have hJ := hJ.kp hk (by omega)
  have hQ := hQ.kp hk (by omega)
  have hP := hP.kp hk (by omega)
  refine go_put3F hRo KX18 2 (by decide) rfl q933 rfl rfl rfl rfl rfl dX18_init_63 (fun η hRo hk => ?_)
  have h0 := h0.th hk (by omega) (by omega)
  have hW := hW.kp hk
  have hFo := hFo.kpS hk (by omega)
  have hJ := hJ.kp hk (by omega)
  have hQ := hQ.kp hk (by omega)
  have hP := hP.kp hk (by omega)
  have hT := hT.kp hk (by omega)
  refine v_aload_n (i := 0) dX18_init_66 rfl rfl ?_
  refine v_sipush (v := nI 1024) dX18_init_67 k_sipush_1024 ?_
  refine go_newarrF hRo KX18 3 (by decide) rfl 12 3 1024 rfl (by decide) rfl q203 (by decide) (by decide) (by omega) (by omega) q934 rfl rfl rfl (fun _ => ⟨rfl, rfl⟩) dX18_init_70 dX18_init_72 (fun η adr hRo hk => ?_)
  have h0 := h0.th hk (by omega) (by omega)
  have hW := hW.kp hk
  have hFo := hFo.kpS hk (by omega)
  have hJ := hJ.kp hk (by omega)
  have hQ := hQ.kp hk (by omega)
  have hP := hP.kp hk (by omega)
  have hT := hT.kp hk (by omega)
  refine v_aload_n (i := 0) dX18_init_75 rfl rfl ?_
  refine v_sipush (v := nI 1024) dX18_init_76 k_sipush_1024 ?_
  refine ag_new (kc' := 1) (ks' := 1024) (t + 5) 1024 (by decide) (by decide) (by decide) dX18_init_79 (fun na η hna hN hk => ?_)
  have hJ := hJ.kp hk (by omega)
  have hQ := hQ.kp hk (by omega)
  have hP := hP.kp hk (by omega)
  have hT := hT.kp hk (by omega)
  have hW := hW.kp hk
  have h0 := h0.th hk (by omega) (by omega)
  have hRo := hRo.kpS hk (by omega)
  have hFo := hFo.kpS hk (by omega)
  refine go_put3 hRo KX18 4 (by decide) rfl q935 rfl rfl rfl dX18_init_81 (fun η hRo hk => ?_)
  have h0 := h0.th hk (by omega) (by omega)
  have hW := hW.kp hk
  have hFo := hFo.kpS hk (by omega)
  have hJ := hJ.kp hk (by omega)
  have hQ := hQ.kp hk (by omega)
  have hP := hP.kp hk (by omega)
  have hT := hT.kp hk (by omega)
  have hN := hN.kp hk (by omega)
  refine v_aload_n (i := 0) dX18_init_84 rfl rfl ?_
  refine v_sipush (v := nI 1024) dX18_init_85 k_sipush_1024 ?_
  refine ag_new (kc' := 0) (ks' := 0) (t + 6) 1024 (by decide) (by decide) (by decide) dX18_init_88 (fun nb η hnb hX hk => ?_)
  have hJ := hJ.kp hk (by omega)
  have hQ := hQ.kp hk (by omega)
  have hP := hP.kp hk (by omega)
  have hT := hT.kp hk (by omega)
  have hN := hN.kp hk (by omega)
  have hW := hW.kp hk
  have h0 := h0.th hk (by omega) (by omega)
  have hRo := hRo.kpS hk (by omega)
  have hFo := hFo.kpS hk (by omega)
  refine go_put3 hRo KX18 5 (by decide) rfl q936 rfl rfl rfl dX18_init_90 (fun η hRo hk => ?_)
  have h0 := h0.th hk (by omega) (by omega)
  have hW := hW.kp hk
  have hFo := hFo.kpS hk (by omega)
  have hJ := hJ.kp hk (by omega)
  have hQ := hQ.kp hk (by omega)
  have hP := hP.kp hk (by omega)
  have hT := hT.kp hk (by omega)
  have hN := hN.kp hk (by omega)
  have hX := hX.kp hk (by omega)
  exact v_vret rfl dX18_init_93 ⟨rfl, ⟨_, qJ, qq, qP, qT, na, nb, _, _, _, ⟨hRo.sc (by decide), rfl, rfl, rfl, rfl, rfl, ⟨_, hJ⟩, hQ.p0, hN, hX, Or.inl ⟨rfl, rfl⟩⟩, fun j => rfl, hP, hT⟩, h0⟩
