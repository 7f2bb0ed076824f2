set_option maxRecDepth 100000
theorem cC_chInit {G : Gl} {η0 : AH} {t q v : Nat} {ad : Nat → Nat} {σ : MS} (h : GO scX6 η0 (some t) q ad σ) (hc0 : η0 (G.2.2.2 503) = some (none, aR 9 0 (fun _ => none))) (hv : ElN η0 v) : Ct G yX6_init cX6_init 2 none 8 4 33 [.ref q, .ref v] η0 (rv fun η => CHb G η t q [v] [] 10 16 ∧ Kp t (t + 3) η0 η) := by
  refine Ct.start rfl rfl (Nat.le_of_ble_eq_true rfl) (fun Γ => ?_)
  have h0 : Kp t (t + 3) η0 η0 := Kp.rf
  refine v_aload_n (i := 0) dX6_init_0 rfl rfl ?_
  refine v_callIN (cE_exinit) (lw_meth q1414) q133 q1674 q1413 rfl iX5_init rfl rfl (by decide) (by decide) (Nat.le_of_ble_eq_true rfl) (Nat.le_refl _) (Nat.le_refl _) dX6_init_1 (kr_ev ?_) kx_e
  refine v_aload_n (i := 0) dX6_init_4 rfl rfl ?_
  refine v_nw (t + 1) KJ2 q1675 q177 q123 (by omega) (by omega) dX6_init_5 (fun qA η hqA hη hk => ?_)
  have hA0 : GO (2, 3, kzJ2, lnJ2) η (some (t + 1)) qA (fun _ => 0) (zS kdJ2) := by rw [hη]; exact bornJ2
  have h0 := h0.th hk (by omega) (by omega)
  have hc0 := hk.celN hc0
  have hv := hv.kp hk
  have h := h.kpS hk (by omega)
  refine v_dup dX6_init_8 rfl ?_
  refine v_callI (cJ_init (hA0.sc (kd2 := kdJ2) (by decide)) hc0 rfl) (lw_meth q180) q123 q1676 q179 rfl iJ2_init rfl rfl (by decide) (by decide) (Nat.le_of_ble_eq_true rfl) (Nat.le_refl _) (Nat.le_refl _) dX6_init_9 (kr_W (fun η h_ => ?_)) kx_W
  obtain ⟨hA, hk⟩ := h_
  have h0 := h0.th hk (by omega) (by omega)
  have hc0 := hk.celN hc0
  have hv := hv.kp hk
  have h := h.kpS hk (by omega)
  refine go_put3F h KX6 0 (by decide) rfl q1681 rfl rfl rfl rfl rfl dX6_init_12 (fun η h hk => ?_)
  have h0 := h0.th hk (by omega) (by omega)
  have hc0 := hk.celN hc0
  have hv := hv.kp hk
  have hA := hA.kpS hk (by omega)
  refine v_aload_n (i := 0) dX6_init_15 rfl rfl ?_
  refine v_nw (t + 2) KJ19 q1677 q1458 q153 (by omega) (by omega) dX6_init_16 (fun qS η hqS hη hk => ?_)
  have hS0 : GO (17, 4, kzJ19, lnJ19) η (some (t + 2)) qS (fun _ => 0) (zS kdJ19) := by rw [hη]; exact bornJ19
  have h0 := h0.th hk (by omega) (by omega)
  have hc0 := hk.celN hc0
  have hv := hv.kp hk
  have hA := hA.kpS hk (by omega)
  have h := h.kpS hk (by omega)
  refine v_dup dX6_init_19 rfl ?_
  refine v_callI (kc' := 1) (ks' := 10) (cJ_SBinit (hS0.sc (kd2 := kdJ19) (by decide)) rfl) (lw_meth q1461) q153 q1678 q1460 rfl iJ19_init rfl rfl (by decide) (by decide) (Nat.le_of_ble_eq_true rfl) (by decide) (by decide) dX6_init_20 (kr_W (fun η h_ => ?_)) kx_W
  obtain ⟨hS, hk⟩ := h_
  have h0 := h0.th hk (by omega) (by omega)
  have hc0 := hk.celN hc0
  have hv := hv.kp hk
  have h := h.kpS hk (by omega)
  have hA := hA.kpS hk (by omega)
  refine go_put3F h KX6 1 (by decide) rfl q1682 rfl rfl rfl rfl rfl dX6_init_23 (fun η h hk => ?_)
  have h0 := h0.th hk (by omega) (by omega)
  have hc0 := hk.celN hc0
  have hv := hv.kp hk
  have hA := hA.kpS hk (by omega)
  have hS := hS.kp hk (fun w e => by cases e; omega)
  refine v_aload_n (i := 0) dX6_init_26 rfl rfl ?_
  refine go_get3 h KX6 0 (by decide) rfl (qA) rfl q1681 dX6_init_27 ?_
  refine v_aload_n (i := 1) dX6_init_30 rfl rfl ?_
  refine v_Ladd (kc' := 0) (ks' := 0) hA (by decide) (fun y hy => absurd hy List.not_mem_nil) hv.el q1680 (by decide) (Nat.le_of_ble_eq_true rfl) (by decide) (by decide) dX6_init_31 (fun η hA hk _ => ?_)
  refine v_pop dX6_init_36 rfl ?_
  exact v_vret rfl dX6_init_37 ⟨rfl, ⟨ad, _, qA, qS, h.kpS hk (by omega), rfl, rfl, hA, hS.kp hk (fun w e => by cases e; omega)⟩, h0.th hk (by omega) (by omega)⟩
