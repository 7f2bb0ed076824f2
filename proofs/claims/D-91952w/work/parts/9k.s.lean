set_option maxRecDepth 100000
theorem cS_init {G : Gl} {η0 : AH} {t m : Nat} {ad : Nat → Nat} (hMo : GO (3, 20, kzX3, lnX3) η0 (some t) m ad (zS kdX3)) : Ct G yX3_init cX3_init 1 none 1 (13) (222193) [.ref m] η0 (rv fun η => (∃ ad μ, GO scX3 η (some t) m ad μ) ∧ Kp t (t + 1) η0 η) := by
  refine Ct.start rfl rfl (Nat.le_of_ble_eq_true rfl) (fun Γ => ?_)
  have h0 : Kp t (t + 1) η0 η0 := Kp.rf
  refine v_aload_n (i := 0) dX3_init_0 rfl rfl ?_
  refine v_objI q276 (by decide) (Nat.le_of_ble_eq_true rfl) dX3_init_1 ?_
  refine v_aload_n (i := 0) dX3_init_4 rfl rfl ?_
  refine v_sipush (v := nI 2000) dX3_init_5 k_sipush_2000 ?_
  refine go_newarrF hMo KX3 2 (by decide) rfl 10 0 2000 rfl (by decide) rfl q202 (by decide) (by decide) (by omega) (by omega) q280 rfl rfl rfl (fun _ => ⟨rfl, rfl⟩) dX3_init_8 dX3_init_10 (fun η ad hMo hk => ?_)
  have h0 := h0.th hk (by omega) (by omega)
  refine v_aload_n (i := 0) dX3_init_13 rfl rfl ?_
  refine v_sipush (v := nI 8192) dX3_init_14 k_sipush_8192 ?_
  refine go_newarrF hMo KX3 3 (by decide) rfl 11 0 8192 rfl (by decide) rfl q202 (by decide) (by decide) (by omega) (by omega) q281 rfl rfl rfl (fun _ => ⟨rfl, rfl⟩) dX3_init_17 dX3_init_19 (fun η ad hMo hk => ?_)
  have h0 := h0.th hk (by omega) (by omega)
  refine v_aload_n (i := 0) dX3_init_22 rfl rfl ?_
  refine v_sipush (v := nI 2000) dX3_init_23 k_sipush_2000 ?_
  refine go_newarrF hMo KX3 4 (by decide) rfl 10 0 2000 rfl (by decide) rfl q202 (by decide) (by decide) (by omega) (by omega) q282 rfl rfl rfl (fun _ => ⟨rfl, rfl⟩) dX3_init_26 dX3_init_28 (fun η ad hMo hk => ?_)
  have h0 := h0.th hk (by omega) (by omega)
  refine v_aload_n (i := 0) dX3_init_31 rfl rfl ?_
  refine v_sipush (v := nI 2001) dX3_init_32 k_sipush_2001 ?_
  refine go_newarrF hMo KX3 5 (by decide) rfl 10 0 2001 rfl (by decide) rfl q202 (by decide) (by decide) (by omega) (by omega) q284 rfl rfl rfl (fun _ => ⟨rfl, rfl⟩) dX3_init_35 dX3_init_37 (fun η ad hMo hk => ?_)
  have h0 := h0.th hk (by omega) (by omega)
  refine v_aload_n (i := 0) dX3_init_40 rfl rfl ?_
  refine v_ldc (v := nI 40000) q277 dX3_init_41 ?_
  refine go_newarrF hMo KX3 6 (by decide) rfl 10 0 40000 rfl (by decide) rfl q202 (by decide) (by decide) (by omega) (by omega) q285 rfl rfl rfl (fun _ => ⟨rfl, rfl⟩) dX3_init_43 dX3_init_45 (fun η ad hMo hk => ?_)
  have h0 := h0.th hk (by omega) (by omega)
  refine v_aload_n (i := 0) dX3_init_48 rfl rfl ?_
  refine v_ldc (v := nI 40000) q277 dX3_init_49 ?_
  refine go_newarrF hMo KX3 7 (by decide) rfl 10 0 40000 rfl (by decide) rfl q202 (by decide) (by decide) (by omega) (by omega) q287 rfl rfl rfl (fun _ => ⟨rfl, rfl⟩) dX3_init_51 dX3_init_53 (fun η ad hMo hk => ?_)
  have h0 := h0.th hk (by omega) (by omega)
  refine v_aload_n (i := 0) dX3_init_56 rfl rfl ?_
  refine v_ldc (v := nI 40000) q277 dX3_init_57 ?_
  refine go_newarrF hMo KX3 8 (by decide) rfl 10 0 40000 rfl (by decide) rfl q202 (by decide) (by decide) (by omega) (by omega) q289 rfl rfl rfl (fun _ => ⟨rfl, rfl⟩) dX3_init_59 dX3_init_61 (fun η ad hMo hk => ?_)
  have h0 := h0.th hk (by omega) (by omega)
  refine v_aload_n (i := 0) dX3_init_64 rfl rfl ?_
  refine v_sipush (v := nI 2000) dX3_init_65 k_sipush_2000 ?_
  refine go_newarrF hMo KX3 12 (by decide) rfl 11 0 2000 rfl (by decide) rfl q202 (by decide) (by decide) (by omega) (by omega) q296 rfl rfl rfl (fun _ => ⟨rfl, rfl⟩) dX3_init_68 dX3_init_70 (fun η ad hMo hk => ?_)
  have h0 := h0.th hk (by omega) (by omega)
  refine v_aload_n (i := 0) dX3_init_73 rfl rfl ?_
  refine v_sipush (v := nI 2000) dX3_init_74 k_sipush_2000 ?_
  refine go_newarrF hMo KX3 13 (by decide) rfl 11 0 2000 rfl (by decide) rfl q202 (by decide) (by decide) (by omega) (by omega) q297 rfl rfl rfl (fun _ => ⟨rfl, rfl⟩) dX3_init_77 dX3_init_79 (fun η ad hMo hk => ?_)
  have h0 := h0.th hk (by omega) (by omega)
  refine v_aload_n (i := 0) dX3_init_82 rfl rfl ?_
  refine v_ldc (v := nI 40000) q277 dX3_init_83 ?_
  refine go_newarrF hMo KX3 16 (by decide) rfl 10 0 40000 rfl (by decide) rfl q202 (by decide) (by decide) (by omega) (by omega) q300 rfl rfl rfl (fun _ => ⟨rfl, rfl⟩) dX3_init_85 dX3_init_87 (fun η ad hMo hk => ?_)
  have h0 := h0.th hk (by omega) (by omega)
  refine v_aload_n (i := 0) dX3_init_90 rfl rfl ?_
  refine v_sipush (v := nI 2000) dX3_init_91 k_sipush_2000 ?_
  refine go_newarrF hMo KX3 17 (by decide) rfl 11 0 2000 rfl (by decide) rfl q202 (by decide) (by decide) (by omega) (by omega) q301 rfl rfl rfl (fun _ => ⟨rfl, rfl⟩) dX3_init_94 dX3_init_96 (fun η ad hMo hk => ?_)
  have h0 := h0.th hk (by omega) (by omega)
  refine v_aload_n (i := 0) dX3_init_99 rfl rfl ?_
  refine v_ldc (v := nI 40000) q277 dX3_init_100 ?_
  refine go_newarrF hMo KX3 18 (by decide) rfl 11 0 40000 rfl (by decide) rfl q202 (by decide) (by decide) (by omega) (by omega) q302 rfl rfl rfl (fun _ => ⟨rfl, rfl⟩) dX3_init_102 dX3_init_104 (fun η ad hMo hk => ?_)
  have h0 := h0.th hk (by omega) (by omega)
  refine v_aload_n (i := 0) dX3_init_107 rfl rfl ?_
  refine v_sipush (v := nI 2000) dX3_init_108 k_sipush_2000 ?_
  refine go_newarrF hMo KX3 19 (by decide) rfl 12 3 2000 rfl (by decide) rfl q203 (by decide) (by decide) (by omega) (by omega) q303 rfl rfl rfl (fun _ => ⟨rfl, rfl⟩) dX3_init_111 dX3_init_113 (fun η ad hMo hk => ?_)
  have h0 := h0.th hk (by omega) (by omega)
  exact v_vret rfl dX3_init_116 ⟨rfl, ⟨_, _, hMo.sc (by decide)⟩, h0⟩
