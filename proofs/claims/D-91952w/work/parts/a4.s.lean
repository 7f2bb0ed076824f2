set_option maxRecDepth 100000
theorem cJ_asbInit {G : Gl} {η0 : AH} {t q : Nat} {ad : Nat → Nat} {σ : MS} (h : GO scJ19 η0 (some t) q ad σ) (s3 : gN σ 3 = 0) : Ct G yJ18_init cJ18_init 2 none 1 1 16 [.ref q, .int (nI 16)] η0 (rv fun η => SBq η (some t) q [] 16 ∧ Kp t (t + 1) η0 η) := by
  refine Ct.start rfl rfl (Nat.le_of_ble_eq_true rfl) (fun Γ => ?_)
  refine v_aload_n (i := 0) dJ18_init_0 rfl rfl ?_
  refine v_objI q1465 (by decide) (Nat.le_of_ble_eq_true rfl) dJ18_init_1 ?_
  refine v_gets 0 rfl q1466 rfl dJ18_init_4 ?_
  refine v_top (x' := nI 1) rfl ?_
  refine vn_if_eq (tgt := 25) dJ18_init_7 rfl (by decide) (fun c7 => ?_) (fun c7 => ?_)
  · exact absurd c7 (by decide)
  · refine v_aload_n (i := 0) dJ18_init_10 rfl rfl ?_
    refine v_iload_n (i := 1) dJ18_init_11 rfl rfl ?_
    refine v_newaT (kc' := 0) (ks' := 0) t 2 16 rfl (by decide) rfl q345 (by decide) (by decide) (by decide) (by decide) dJ18_init_12 (fun e he0 => ?_)
    obtain ⟨η, hη⟩ : ∃ η, η = up η0 e (some t, aB 16 (fun _ => 0)) := ⟨_, rfl⟩
    refine v_eq (show up η0 e (some t, .inl (2, 16, a0 2)) = η from hη.symm) ?_
    have hXt : Xt η0 η := fun b x hb => by rw [hη, up_n (fun z => by rw [z, he0] at hb; cases hb)]; exact hb
    have h := h.xt hXt
    have he : η e = some (some t, aB 16 (fun _ => 0)) := by rw [hη, up_s]
    have hne := h.nea he
    have h0 : Kp t (t + 1) η0 η := hXt.k_
    refine go_put3e h KJ19 0 (by decide) rfl q1474 rfl rfl rfl dJ18_init_14 (fun η h hk hx => ?_)
    have h0 := h0.th hk (by omega) (by omega)
    have he := (hx e hne).trans he
    refine v_aload_n (i := 0) dJ18_init_17 rfl rfl ?_
    refine v_iconst (v := nI 0) dJ18_init_18 k_iconst_0 ?_
    refine go_put0e h KJ19 1 (by decide) rfl q1475 rfl rfl rfl dJ18_init_19 (fun η h hk hx => ?_)
    have h0 := h0.th hk (by omega) (by omega)
    have he := (hx e hne).trans he
    refine v_goto (tgt := 38) dJ18_init_22 rfl ?_
    exact v_vret rfl dJ18_init_38 ⟨rfl, ⟨ad, _, e, _, h, rfl, rfl, s3, Nat.zero_le _, by decide, he, fun i hi => absurd hi (Nat.not_lt_zero i), fun c hc => absurd hc List.not_mem_nil, fun i => rfl⟩, h0⟩
theorem cJ_SBinit {G : Gl} {η0 : AH} {t q : Nat} {ad : Nat → Nat} {σ : MS} (h : GO scJ19 η0 (some t) q ad σ) (s3 : gN σ 3 = 0) : Ct G yJ19_init cJ19_init 1 none 2 1 16 [.ref q] η0 (rv fun η => SBq η (some t) q [] 16 ∧ Kp t (t + 1) η0 η) := by
  refine Ct.start rfl rfl (Nat.le_of_ble_eq_true rfl) (fun Γ => ?_)
  refine v_aload_n (i := 0) dJ19_init_0 rfl rfl ?_
  refine v_bipush (v := nI 16) dJ19_init_1 k_bipush_16 ?_
  refine v_callI (kc' := 0) (ks' := 0) (cJ_asbInit h s3) (lw_meth q1464) q152 q1462 q1463 rfl iJ18_init rfl rfl (by decide) (by decide) (Nat.le_of_ble_eq_true rfl) (by decide) (by decide) dJ19_init_3 (kr_W (fun η h => ?_)) kx_W
  exact v_vret rfl dJ19_init_6 ⟨rfl, h⟩
theorem cJ_SBapp {G : Gl} {η0 : AH} {t q cap : Nat} {cs : List Nat} (hS : SBq η0 (some t) q cs cap) (hc2 : cap ≤ 9000) {c : Nat} (hcc : c < 128) : Ct G yJ19_append_3 cJ19_append_3 2 (some (.object "java/lang/StringBuilder")) 5 (cbC cs.length cap) (cbS cs.length cap) [.ref q, .int (nI c)] η0 (rr fun r η => r = q ∧ SBq η (some t) q (cs ++ [c]) (cpB cs.length cap) ∧ Kp t (t + 1) η0 η) := by
  refine Ct.start rfl rfl (Nat.le_of_ble_eq_true rfl) (fun Γ => ?_)
  refine v_aload_n (i := 0) dJ19_append_3_0 rfl rfl ?_
  refine v_iload_n (i := 1) dJ19_append_3_1 rfl rfl ?_
  refine v_callSU (n := 1) (kc' := 0) (ks' := 0) (cJ_sbApp hS hc2 hcc) (lw_SU q1700 q2579 q467 q1701 q152 q1702) ⟨by decide, by decide +kernel⟩ KJ19 hS.rcv rfl rfl (by decide) (by decide) (Nat.le_of_ble_eq_true rfl) (by omega) (by omega) dJ19_append_3_2 (kr_R (fun r_ η h_ => ?_)) kx_R
  refine v_pop dJ19_append_3_5 rfl ?_
  refine v_aload_n (i := 0) dJ19_append_3_6 rfl rfl ?_
  exact v_aret rfl (Or.inl ⟨_, rfl⟩) dJ19_append_3_7 ⟨_, rfl, rfl, h_.2⟩
