set_option maxRecDepth 100000
theorem al_len {G : Gl} {η : AH} {o : Option Nat} {e cap : Nat} {f : Nat → Option Nat} (he : (cap = 0 ∧ e = G.2.2.2 503 ∧ η e = some (none, aR 9 0 (fun _ => none))) ∨ (0 < cap ∧ η e = some (o, aR 9 cap f))) : ∃ o1 f1, η e = some (o1, aR 9 cap f1) := by
  rcases he with ⟨h1, -, h2⟩ | ⟨-, h2⟩
  · rw [h1]; exact ⟨_, _, h2⟩
  · exact ⟨_, _, h2⟩
theorem app_get {xs : List Nat} {v : Nat} {f : Nat → Option Nat} (hf : ∀ i, i < xs.length → f i = xs[i]?) : ∀ i, i < (xs ++ [v]).length → va_up f xs.length (some v) i = (xs ++ [v])[i]? := fun i hi => by
  rw [List.length_append] at hi
  have hi : i < xs.length + 1 := hi
  by_cases c : i = xs.length
  · rw [c]
    unfold va_up
    rw [if_pos rfl]
    simp
  · unfold va_up
    rw [if_neg c, hf i (by omega), List.getElem?_append_left (by omega)]
/-- the room of a list behind one more element -/
def cpA (n cap : Nat) : Nat := if n < cap then cap else nxC cap
def cpC (n cap : Nat) : Nat := if n < cap then 0 else 1
def cpS (n cap : Nat) : Nat := if n < cap then 0 else nxC cap
theorem cJ_add2 {G : Gl} {η0 : AH} {t l e v cap : Nat} {xs : List Nat} {ad : Nat → Nat} {σ : MS} {f : Nat → Option Nat} (h : GO scJ2 η0 (some t) l ad σ) (s1 : gN σ 1 = e + 1) (s2 : gN σ 2 = xs.length) (hl : xs.length ≤ cap) (hc : cap ≤ 13000) (he : (cap = 0 ∧ e = G.2.2.2 503 ∧ η0 e = some (none, aR 9 0 (fun _ => none))) ∨ (0 < cap ∧ η0 e = some (some t, aR 9 cap f))) (hf : ∀ i, i < xs.length → f i = xs[i]?) (hxs : ∀ y ∈ xs, ElO η0 y) (hv : ElO η0 v) : Ct G yJ2_add_2 cJ2_add_2 4 none 6 (cpC xs.length cap) (cpS xs.length cap) [.ref l, .ref v, .ref e, .int (nI xs.length)] η0 (rv fun η => AL G η (some t) l (xs ++ [v]) (cpA xs.length cap) ∧ Kp t (t + 1) η0 η ∧ ∀ y, ElO η0 y → ElO η y) := by
  refine Ct.start rfl rfl (Nat.le_of_ble_eq_true rfl) (fun Γ => ?_)
  obtain ⟨o1, f1, hal⟩ := al_len he
  by_cases cl : xs.length < cap
  · have hcp : 0 < cap := by omega
    have ha : η0 e = some (some t, aR 9 cap f) := he.elim (fun q => absurd q.1 (by omega)) (fun q => q.2)
    have hk0 : Kp t (t + 1) η0 η0 := Kp.rf
    have hE : ∀ y, ElO η0 y → ElO η0 y := fun _ h => h
    refine v_iload_n (i := 3) dJ2_add_2_0 rfl rfl ?_
    refine v_aload_n (i := 2) dJ2_add_2_1 rfl rfl ?_
    refine v_alen hal (by decide) dJ2_add_2_2 ?_
    refine vn_icmp_ne (tgt := 11) dJ2_add_2_3 rfl (by omega) (by omega) (fun c3 => ?_) (fun c3 => ?_)
    · refine v_aload_n (i := 2) dJ2_add_2_11 rfl rfl ?_
      refine v_iload_n (i := 3) dJ2_add_2_12 rfl rfl ?_
      refine v_aload_n (i := 1) dJ2_add_2_13 rfl rfl ?_
      obtain ⟨ci_, N_, C_, T_, ty_, o_, F_, KV, hca, hvv⟩ := id hv
      refine v_aast ha hvv KV hca (vp_in_nI (by omega) (by omega)) dJ2_add_2_14 ?_
      rw [nI_clamp (by omega)]
      obtain ⟨η2, hg⟩ : ∃ η2, η2 = up η0 e (some t, aR 9 cap (va_up f xs.length (some v))) := ⟨_, rfl⟩
      rw [← hg]
      have h : GO scJ2 η2 (some t) l ad σ := by rw [hg]; exact h.ua ha (by decide)
      have hk0 : Kp t (t + 1) η0 η2 := by rw [hg]; exact hk0.tr (Kp.pt ha ⟨Nat.le_refl _, Nat.lt_succ_self _⟩)
      have hE : ∀ y, ElO η0 y → ElO η2 y := fun y hy => by rw [hg]; exact (hE y hy).ar ha
      have ha : η2 e = some (some t, aR 9 cap (va_up f xs.length (some v))) := by rw [hg, up_s]
      have hne := h.nea ha
      have h_ := h
      refine v_aload_n (i := 0) dJ2_add_2_15 rfl rfl ?_
      refine v_iload_n (i := 3) dJ2_add_2_16 rfl rfl ?_
      refine v_iconst (v := nI 1) dJ2_add_2_17 k_iconst_1 ?_
      refine vn_iadd dJ2_add_2_18 ?_
      refine go_put0e h KJ2 2 (by decide) rfl q191 rfl rfl rfl dJ2_add_2_19 (fun η h hk hx => ?_)
      exact v_vret rfl dJ2_add_2_22 (by
        have e1 : cpA xs.length cap = cap := if_pos cl
        rw [e1]
        refine ⟨rfl, ⟨ad, _, e, _, h, s1, (by rw [List.length_append]; rfl), (by rw [List.length_append]; show xs.length + 1 ≤ _; omega), (by omega), Or.inr ⟨by omega, (hx e hne).trans ha⟩, app_get hf⟩, hk0.tr hk, fun y hy => (hE y hy).pe h_ h hx⟩)
    · exact absurd (show xs.length = cap from c3) (by omega)
  · have ecl : xs.length = cap := by omega
    have hnx : cap < nxC cap ∧ nxC cap ≤ 20000 := by unfold nxC mxL; split <;> (try split) <;> omega
    refine v_iload_n (i := 3) dJ2_add_2_0 rfl rfl ?_
    refine v_aload_n (i := 2) dJ2_add_2_1 rfl rfl ?_
    refine v_alen hal (by decide) dJ2_add_2_2 ?_
    refine vn_icmp_ne (tgt := 11) dJ2_add_2_3 rfl (by omega) (by omega) (fun c3 => ?_) (fun c3 => ?_)
    · exact absurd ecl c3
    · refine v_aload_n (i := 0) dJ2_add_2_6 rfl rfl ?_
      refine v_callVe (kc' := 0) (ks' := 0) (cJ_grow h s1 (by omega) he (fun i hi y hy => hxs y (List.mem_of_getElem? ((hf i (by omega)).symm.trans hy))) (s2.trans ecl)) (lw_V q832 q834 qs13 q123 q835) iJ2_grow rfl KJ2 h.rcv rfl rfl (by decide) (by decide) (Nat.le_of_ble_eq_true rfl) (by unfold cpC; rw [if_neg cl]; exact Nat.le_refl _) (by show 0 + nxC cap ≤ cpS xs.length cap; unfold cpS; rw [if_neg cl]; omega) dJ2_add_2_7 (kr_R (fun q η h_ => ?_)) kx_R
      obtain ⟨⟨σ2, h, s1, s2b⟩, ⟨f2, ha, hf2⟩, hk0, hE⟩ := h_
      have hv := hE v hv
      refine v_astore_n (i := 2) dJ2_add_2_10 rfl (by decide) rfl ?_
      refine v_aload_n (i := 2) dJ2_add_2_11 rfl rfl ?_
      refine v_iload_n (i := 3) dJ2_add_2_12 rfl rfl ?_
      refine v_aload_n (i := 1) dJ2_add_2_13 rfl rfl ?_
      obtain ⟨ci_, N_, C_, T_, ty_, o_, F_, KV, hca, hvv⟩ := id hv
      refine v_aast ha hvv KV hca (vp_in_nI (by omega) (by omega)) dJ2_add_2_14 ?_
      rw [nI_clamp (by omega)]
      obtain ⟨η2, hg⟩ : ∃ η2, η2 = up η q (some t, aR 9 (nxC cap) (va_up f2 xs.length (some v))) := ⟨_, rfl⟩
      rw [← hg]
      have h : GO scJ2 η2 (some t) l ad σ2 := by rw [hg]; exact h.ua ha (by decide)
      have hk0 : Kp t (t + 1) η0 η2 := by rw [hg]; exact hk0.tr (Kp.pt ha ⟨Nat.le_refl _, Nat.lt_succ_self _⟩)
      have hE : ∀ y, ElO η0 y → ElO η2 y := fun y hy => by rw [hg]; exact (hE y hy).ar ha
      have ha : η2 q = some (some t, aR 9 (nxC cap) (va_up f2 xs.length (some v))) := by rw [hg, up_s]
      have hne := h.nea ha
      have h_ := h
      refine v_aload_n (i := 0) dJ2_add_2_15 rfl rfl ?_
      refine v_iload_n (i := 3) dJ2_add_2_16 rfl rfl ?_
      refine v_iconst (v := nI 1) dJ2_add_2_17 k_iconst_1 ?_
      refine vn_iadd dJ2_add_2_18 ?_
      refine go_put0e h KJ2 2 (by decide) rfl q191 rfl rfl rfl dJ2_add_2_19 (fun η h hk hx => ?_)
      exact v_vret rfl dJ2_add_2_22 (by
        have e1 : cpA xs.length cap = nxC cap := if_neg cl
        rw [e1]
        refine ⟨rfl, ⟨ad, _, q, _, h, s1, (by rw [List.length_append]; rfl), (by rw [List.length_append]; show xs.length + 1 ≤ _; omega), (by omega), Or.inr ⟨by omega, (hx q hne).trans ha⟩, app_get (fun i hi => (hf2 i (by omega)).trans (hf i hi))⟩, hk0.tr hk, fun y hy => (hE y hy).pe h_ h hx⟩)
theorem cJ_add {G : Gl} {η0 : AH} {t l cap : Nat} {xs : List Nat} (hA : AL G η0 (some t) l xs cap) {v : Nat} (hc2 : cap ≤ 13000) (hxs : ∀ y ∈ xs, ElO η0 y) (hv : ElO η0 v) : Ct G yJ2_add cJ2_add 2 (some .boolean) 7 (cpC xs.length cap) (cpS xs.length cap) [.ref l, .ref v] η0 (ri fun r η => r = nI 1 ∧ AL G η (some t) l (xs ++ [v]) (cpA xs.length cap) ∧ Kp t (t + 1) η0 η ∧ ∀ y, ElO η0 y → ElO η y) := by
  refine Ct.start rfl rfl (Nat.le_of_ble_eq_true rfl) (fun Γ => ?_)
  obtain ⟨ad, σ, e, f, h, s1, s2, hl, hc, he, hf⟩ := hA
  have h_ := h
  obtain ⟨o1, f1, hal⟩ := al_len he
  have hne := h.nea hal
  refine v_aload_n (i := 0) dJ2_add_0 rfl rfl ?_
  refine v_dup dJ2_add_1 rfl ?_
  refine go_get2S h KJ2 0 (by decide) rfl (gI σ 0) rfl q193 q194 dJ2_add_2 ?_
  refine v_iconst (v := nI 1) dJ2_add_5 k_iconst_1 ?_
  refine v_iadd dJ2_add_6 ?_
  refine go_put2Se h KJ2 0 (by decide) rfl q193 q194 rfl rfl rfl dJ2_add_7 (fun η h hk hx => ?_)
  have he : (cap = 0 ∧ e = G.2.2.2 503 ∧ _ = some (none, aR 9 0 (fun _ => none))) ∨ (0 < cap ∧ _ = some (some t, aR 9 cap f)) := he.imp (fun q => ⟨q.1, q.2.1, (hx e hne).trans q.2.2⟩) (fun q => ⟨q.1, (hx e hne).trans q.2⟩)
  have hE : ∀ y, ElO η0 y → ElO _ y := fun y hy => hy.pe h_ h hx
  have hxs : ∀ y ∈ xs, ElO _ y := fun y hy => hE y (hxs y hy)
  have hv := hE v hv
  refine v_aload_n (i := 0) dJ2_add_10 rfl rfl ?_
  refine v_aload_n (i := 1) dJ2_add_11 rfl rfl ?_
  refine v_aload_n (i := 0) dJ2_add_12 rfl rfl ?_
  refine go_get3 h KJ2 1 (by decide) rfl (e) s1 q190 dJ2_add_13 ?_
  refine v_aload_n (i := 0) dJ2_add_16 rfl rfl ?_
  refine go_get0 h KJ2 2 (by decide) rfl (xs.length) s2 q191 dJ2_add_17 ?_
  refine v_callVe (kc' := 0) (ks' := 0) (cJ_add2 h s1 s2 hl (by omega) he hf hxs hv) (lw_V q828 q830 qs12 q123 q831) iJ2_add_2 rfl KJ2 h.rcv rfl rfl (by decide) (by decide) (Nat.le_of_ble_eq_true rfl) (by omega) (by omega) dJ2_add_20 (kr_W (fun η h_2 => ?_)) kx_W
  obtain ⟨hA, hk2, hE2⟩ := h_2
  refine v_iconst (v := nI 1) dJ2_add_23 k_iconst_1 ?_
  exact v_zret rfl rfl dJ2_add_24 ⟨_, rfl, rfl, hA, hk.tr hk2, fun y hy => hE2 y (hE y hy)⟩
