set_option maxRecDepth 100000
theorem mxN_99 {f : Nat → Nat} {s : Nat} : ∀ n, (∀ t, t < n → f t ≤ 99) → mxN f s n ≤ 99
  | 0, _ => Nat.zero_le _
  | n + 1, h => by
    unfold mxN
    have h1 := mxN_99 (f := f) (s := s) n (fun t ht => h t (by omega))
    have h2 := h n (Nat.lt_succ_self _)
    split <;> omega
theorem minE_99 {τ : Td} (h : TB τ) (X : XT) (e : Nat) : minE τ X e ≤ 99 := mxN_99 _ (fun t ht => (h.2.1 t ht).2.1)
/-- what a crossing weighs: 1, or minutes and then 1 -/
def Wq (τ : Td) (X : XT) (q e : Nat) : Nat := if q = 0 then 1 else W4e τ X e
theorem Wq_pos (τ : Td) (X : XT) (q e : Nat) : 0 < Wq τ X q e := by
  unfold Wq W4e
  split <;> omega
theorem Wq_le {τ : Td} (h : TB τ) (X : XT) (q e : Nat) : Wq τ X q e ≤ 405505 := by
  have := minE_99 h X e
  unfold Wq W4e
  split <;> omega
def MBk (kk : Nat) (μ μ' : MS) : Prop := (∀ k, gN μ' k = gN μ k) ∧ ∀ k, k ≠ kk → k ≠ 19 → gA μ' k = gA μ k
theorem MBk.rf (kk : Nat) (μ : MS) : MBk kk μ μ := ⟨fun _ => rfl, fun _ _ _ => rfl⟩
theorem MBk.tr {kk : Nat} {μ μ1 μ2 : MS} (h : MBk kk μ μ1) (h2 : MBk kk μ1 μ2) : MBk kk μ μ2 := ⟨fun k => (h2.1 k).trans (h.1 k), fun k a b => (h2.2 k a b).trans (h.2 k a b)⟩
theorem MBk.st {kk : Nat} {μ μ1 : MS} (h : MBk kk μ μ1) {k i v : Nat} (hk : k = kk ∨ k = 19) : MBk kk μ (sA μ1 k i v) := ⟨h.1, fun j a b => by rw [gA_sA, if_neg (by omega)]; exact h.2 j a b⟩
theorem MBk.mx {kk : Nat} {τ : Td} {μ μ' : MS} {X : XT} (h : MBk kk μ μ') (hk : 12 ≤ kk) (hX : MX τ μ X) : MX τ μ' X := by
  unfold MX
  rw [h.1, h.1, h.2 3 (by omega) (by decide), h.2 2 (by omega) (by decide), h.2 4 (by omega) (by decide), h.2 6 (by omega) (by decide), h.2 7 (by omega) (by decide), h.2 8 (by omega) (by decide)]
  exact hX
theorem cS_step {G : Gl} {η : AH} {t m : Nat} {adm : Nat → Nat} {μ : MS} (hMo : GO scX3 η (some t) m adm μ) {τ : Td} {X : XT} (hTB : TB τ) (hX : MX τ μ X) {e qk : Nat} (he : e < xe X) (hq : qk < 2) : Ct G yX3_step cX3_step 3 (some .int) 0 (0) (0) [.ref m, .int (nI e), .int (nI qk)] η (re (some (.int (nI (Wq τ X qk e)))) η) := by
  refine Ct.start rfl rfl (Nat.le_of_ble_eq_true rfl) (fun Γ => ?_)
  have x6 := hX.2.2.2.2.2 e he
  have x4 := hX.2.2.2.1
  have hm := minE_99 hTB X e
  refine v_iload_n (i := 2) dX3_step_0 rfl rfl ?_
  refine vn_if_eq (tgt := 19) dX3_step_1 rfl (by omega) (fun c1 => ?_) (fun c1 => ?_)
  · refine v_iconst (v := nI 1) dX3_step_19 k_iconst_1 ?_
    exact v_iret rfl dX3_step_20 (by unfold Wq; rw [if_pos c1]; exact ⟨rfl, rfl⟩)
  · refine v_aload_n (i := 0) dX3_step_4 rfl rfl ?_
    refine go_getA hMo KX3 8 (by decide) (by decide) q289 dX3_step_5 ?_
    refine v_iload_n (i := 1) dX3_step_8 rfl rfl ?_
    refine go_ld10 hMo 8 (by decide) rfl (show _ < 40000 from (by omega)) (by decide) _ x6.2.2.1 dX3_step_9 ?_
    refine v_sipush (v := nI 4096) dX3_step_10 k_sipush_4096 ?_
    refine vn_imul dX3_step_13 ?_
    refine v_iconst (v := nI 1) dX3_step_14 k_iconst_1 ?_
    refine vn_iadd dX3_step_15 ?_
    refine v_goto (tgt := 20) dX3_step_16 rfl ?_
    exact v_iret rfl dX3_step_20 (by unfold Wq; rw [if_neg c1]; exact ⟨rfl, rfl⟩)
theorem cS_back_left {G : Gl} {η0 : AH} {w : Nat} {τ : Td} (hW : Wd G η0 w τ) {t m j q : Nat} {adm : Nat → Nat} {hd ld : Nat → Nat} {wo : Nat} {μ : MS} (hM : ME η0 t m w j q adm τ hd ld wo μ) {X : XT} (hX : MX τ μ X) (hw : XW X) (hF : FSm μ X) (hU : TU μ X) (hx0 : xfs X 0 = 0) (hxn : xfs X (xn X) = xe X) : Ct G yX3_back cX3_back 8 none 5 (3) (10) [.ref m, .int (nI 0), .ref (adm 12)] η0 (rv fun η => ∃ μ2, ME η t m w j q adm τ hd ld wo μ2 ∧ Kp t (t + 4) η0 η ∧ MBk 12 μ μ2 ∧ EQd X (glT τ X) (Wq τ X 0) (gA μ2 12) ∧ ∀ x, x < xn X → gA μ2 12 x ≤ 811415505) := by
  refine Ct.start rfl rfl (Nat.le_of_ble_eq_true rfl) (fun Γ => ?_)
  have hTB := hW.tb
  obtain ⟨hMo, m0, m1, hJ, hQ⟩ := hM
  obtain ⟨w1, w2, w3, w4, w5, w6⟩ := id hw
  obtain ⟨x1, x2, x3, x4, x5, x6⟩ := id hX
  have hWp := Wq_pos τ X 0
  have hWl := Wq_le hTB X 0
  have L161 : ∀ (pl N : Nat) (ptr K s p : Nat) (η : AH) (μ1 : MS) (z7 : Option Value), ptr ≤ N → ptr = lstE (xej X) s p → GO scX3 η (some t) m adm μ1 → (∃ lw, Jd η (t + 1) j q w τ hd ld wo lw) → P0 η (t + 2) q w → Kp t (t + 4) η0 η → MBk 12 μ μ1 → K < 2000 → s < xn X → p ≤ xe X → DJ X (glT τ X) (Wq τ X 0) 405505 (K + 1) s p (gA μ1 19) (gA μ1 12) → (gA μ1 19) s ≠ 0 → (gA μ1 12) s ≤ K * 405505 + 1 → (∀ u, u < xn X → (gA μ1 19) u ≠ 0 → (gA μ1 12) u ≤ (gA μ1 12) s) → cntN (gA μ1 19) (xn X) = K + 1 → (∀ y, y < xn X → gA μ1 19 y < 2) → (∀ (η : AH) (μ1 : MS) (z6 z7 : Option Value), GO scX3 η (some t) m adm μ1 → (∃ lw, Jd η (t + 1) j q w τ hd ld wo lw) → P0 η (t + 2) q w → Kp t (t + 4) η0 η → MBk 12 μ μ1 → DJ X (glT τ X) (Wq τ X 0) 405505 (K + 1) 0 0 (gA μ1 19) (gA μ1 12) → cntN (gA μ1 19) (xn X) = K + 1 → (∀ y, y < xn X → gA μ1 19 y < 2) → V G Γ yX3_back cX3_back 8 none [] 5 (rv fun η => ∃ μ2, ME η t m w j q adm τ hd ld wo μ2 ∧ Kp t (t + 4) η0 η ∧ MBk 12 μ μ2 ∧ EQd X (glT τ X) (Wq τ X 0) (gA μ2 12) ∧ ∀ x, x < xn X → gA μ2 12 x ≤ 811415505) (0) (0) (η) 231 [some (.ref m), some (.int (nI 0)), some (.ref (adm 12)), some (.ref pl), some (.int (nI K)), some (.int (nI s)), z6, z7] []) → V G Γ yX3_back cX3_back 8 none [] 5 (rv fun η => ∃ μ2, ME η t m w j q adm τ hd ld wo μ2 ∧ Kp t (t + 4) η0 η ∧ MBk 12 μ μ2 ∧ EQd X (glT τ X) (Wq τ X 0) (gA μ2 12) ∧ ∀ x, x < xn X → gA μ2 12 x ≤ 811415505) (0) (0) (η) 161 [some (.ref m), some (.int (nI 0)), some (.ref (adm 12)), some (.ref pl), some (.int (nI K)), some (.int (nI s)), some (.int (oI ptr)), z7] [] := by
    intro pl N
    induction N with
    | zero =>
      intro ptr K s p η μ1 z7 hpN hpe hMo hJ hQ h0 hMK hK hs hp hDJ hds hbs hle hct h2 KK
      have e0 : ptr = 0 := by omega
      subst e0
      refine v_iload (i := 6) dX3_back_161 rfl ?_
      refine v_iconst (v := -1) dX3_back_163 k_iconst_m1 ?_
      refine vo_icmp_eq (tgt := 231) dX3_back_164 rfl (by omega) (fun c164 => ?_) (fun c164 => ?_)
      · exact KK η μ1 _ _ hMo hJ hQ h0 hMK (hDJ.end_ (lstE_0 hpe.symm)) hct h2
      · exact absurd rfl c164
    | succ N ih =>
      intro ptr K s p η μ1 z7 hpN hpe hMo hJ hQ h0 hMK hK hs hp hDJ hds hbs hle hct h2 KK
      by_cases c0 : ptr = 0
      · exact ih ptr K s p η μ1 z7 (by omega) hpe hMo hJ hQ h0 hMK hK hs hp hDJ hds hbs hle hct h2 KK
      obtain ⟨e, rfl⟩ : ∃ e, ptr = e + 1 := ⟨ptr - 1, by omega⟩
      obtain ⟨g1, g2, g3⟩ := lstE_s hpe.symm
      have he : e < xe X := by omega
      obtain ⟨x, hx, hx1, hx2⟩ := own_e hw hx0 (n := xn X) (Nat.le_refl _) (show e < xfs X (xn X) by rw [hxn]; exact he)
      have hfr : gA μ1 16 e = x := by rw [hMK.2 16 (by decide) (by decide)]; exact hU.1 x hx e hx1 hx2
      have hnx : gA μ1 18 e = lstE (xej X) s e := by rw [hMK.2 18 (by decide) (by decide)]; exact (hU.2.2 e he).trans (by rw [g2])
      have hX1 := hMK.mx (by decide) hX
      have hfs0 := hDJ.2.2.1 s hs hds
      have hfx := hDJ.1 x hx
      have hWe := hWp e
      have hWu := hWl e
      obtain ⟨hD2, hD3⟩ := hDJ.stp hw hWp (fun _ => hWl e) hs hds hbs hle hx hx1 hx2 g2 g3
      have hKb : K * 405505 ≤ 1999 * 405505 := Nat.mul_le_mul_right _ (by omega)
      obtain ⟨v, hv⟩ : ∃ v, (gA μ1 12) s = v + 1 := ⟨(gA μ1 12) s - 1, by omega⟩
      have hle2 := lstE_le (xej X) s e
      have hlx : lstE (xej X) s e ≤ N := by omega
      show V G Γ yX3_back cX3_back 8 none [] 5 (rv fun η => ∃ μ2, ME η t m w j q adm τ hd ld wo μ2 ∧ Kp t (t + 4) η0 η ∧ MBk 12 μ μ2 ∧ EQd X (glT τ X) (Wq τ X 0) (gA μ2 12) ∧ ∀ x, x < xn X → gA μ2 12 x ≤ 811415505) (0) (0) (η) 161 [some (.ref m), some (.int (nI 0)), some (.ref (adm 12)), some (.ref pl), some (.int (nI K)), some (.int (nI s)), some (.int (nI e)), z7] []
      refine v_iload (i := 6) dX3_back_161 rfl ?_
      refine v_iconst (v := -1) dX3_back_163 k_iconst_m1 ?_
      refine v_icmp_eq (tgt := 231) dX3_back_164 rfl (fun c164 => ?_) (fun c164 => ?_)
      · exact absurd c164 (nI_m1 (by omega))
      · refine v_aload_n (i := 2) dX3_back_167 rfl rfl ?_
        refine v_iload (i := 5) dX3_back_168 rfl ?_
        refine go_ld11 hMo 12 (by decide) rfl (show _ < 2000 from (by omega)) (by decide) _ hv dX3_back_170 ?_
        refine v_aload_n (i := 0) dX3_back_171 rfl rfl ?_
        refine v_iload (i := 6) dX3_back_172 rfl ?_
        refine v_iload_n (i := 1) dX3_back_174 rfl rfl ?_
        refine v_callVe (cS_step hMo hTB hX1 he (by decide)) (lw_V q781 q783 qs10 q124 q784) iX3_step rfl KX3 hMo.rcv rfl rfl (by decide) (by decide) (Nat.le_of_ble_eq_true rfl) (Nat.le_refl _) (Nat.le_refl _) dX3_back_175 (kr_ei ?_) kx_e
        refine vn_iadd dX3_back_178 ?_
        refine v_istore (i := 7) dX3_back_179 (by decide) rfl ?_
        refine v_aload_n (i := 2) dX3_back_181 rfl rfl ?_
        refine v_aload_n (i := 0) dX3_back_182 rfl rfl ?_
        refine go_getA hMo KX3 16 (by decide) (by decide) q300 dX3_back_183 ?_
        refine v_iload (i := 6) dX3_back_186 rfl ?_
        refine go_ld10 hMo 16 (by decide) rfl (show _ < 40000 from (by omega)) (by decide) _ hfr dX3_back_188 ?_
        refine go_ld11 hMo 12 (by decide) rfl (show _ < 2000 from (by omega)) (by decide) _ rfl dX3_back_189 ?_
        refine v_iconst (v := -1) dX3_back_190 k_iconst_m1 ?_
        refine vo_icmp_eq (tgt := 208) dX3_back_191 rfl (by omega) (fun c191 => ?_) (fun c191 => ?_)
        · have hc : (gA μ1 12) x = 0 ∨ (gA μ1 12) s + Wq τ X 0 e < (gA μ1 12) x := Or.inl c191
          rw [if_pos hc] at hD2 hD3
          refine v_aload_n (i := 2) dX3_back_208 rfl rfl ?_
          refine v_aload_n (i := 0) dX3_back_209 rfl rfl ?_
          refine go_getA hMo KX3 16 (by decide) (by decide) q300 dX3_back_210 ?_
          refine v_iload (i := 6) dX3_back_213 rfl ?_
          refine go_ld10 hMo 16 (by decide) rfl (show _ < 40000 from (by omega)) (by decide) _ hfr dX3_back_215 ?_
          refine v_iload (i := 7) dX3_back_216 rfl ?_
          refine go_st11n hMo 12 (by decide) rfl (show _ < 2000 from (by omega)) (by decide) dX3_back_218 (fun η hMo hk => ?_)
          have h0 := h0.th hk (by omega) (by omega)
          have hQ := hQ.kp hk (by omega)
          obtain ⟨lw, hJ⟩ := hJ
          have hJ := hJ.kp hk (by omega)
          have hJ : ∃ lw, Jd _ (t + 1) j q w τ hd ld wo lw := ⟨lw, hJ⟩
          refine v_aload_n (i := 0) dX3_back_219 rfl rfl ?_
          refine go_getA hMo KX3 18 (by decide) (by decide) q302 dX3_back_220 ?_
          refine v_iload (i := 6) dX3_back_223 rfl ?_
          refine go_ld11 hMo 18 (by decide) rfl (show _ < 40000 from (by omega)) (by decide) _ hnx dX3_back_225 ?_
          refine v_istore (i := 6) dX3_back_226 (by decide) rfl ?_
          refine v_goto (tgt := 161) dX3_back_228 rfl ?_
          have eU : va_up (gA μ1 12) x (v + Wq τ X 0 e + 1) = va_up (gA μ1 12) x ((gA μ1 12) s + Wq τ X 0 e) := by rw [show v + Wq τ X 0 e + 1 = (gA μ1 12) s + Wq τ X 0 e by omega]
          rw [← eU] at hD2 hD3
          have hs' : gA (sA μ1 12 x (v + Wq τ X 0 e + 1)) 12 s = (gA μ1 12) s := hD3 s hs hds
          have hMK2 := hMK.st (k := 12) (i := x) (v := v + Wq τ X 0 e + 1) (Or.inl rfl)
          exact ih (lstE (xej X) s e) K s e η _ _ hlx rfl hMo hJ hQ h0 hMK2 hK hs (by omega) hD2 hds (by rw [hs']; exact hbs) (fun u hu hd => (by rw [hs']; exact Nat.le_trans (Nat.le_of_eq (hD3 u hu hd)) (hle u hu hd))) hct h2 KK
        · refine v_iload (i := 7) dX3_back_194 rfl ?_
          refine v_aload_n (i := 2) dX3_back_196 rfl rfl ?_
          refine v_aload_n (i := 0) dX3_back_197 rfl rfl ?_
          refine go_getA hMo KX3 16 (by decide) (by decide) q300 dX3_back_198 ?_
          refine v_iload (i := 6) dX3_back_201 rfl ?_
          refine go_ld10 hMo 16 (by decide) rfl (show _ < 40000 from (by omega)) (by decide) _ hfr dX3_back_203 ?_
          refine go_ld11 hMo 12 (by decide) rfl (show _ < 2000 from (by omega)) (by decide) _ rfl dX3_back_204 ?_
          refine v_icmp_ge (tgt := 219) dX3_back_205 rfl (fun c205 => ?_) (fun c205 => ?_)
          · rw [i_le, oI_toInt (by omega), nI_toInt (by omega)] at c205
            have hc : ¬ ((gA μ1 12) x = 0 ∨ (gA μ1 12) s + Wq τ X 0 e < (gA μ1 12) x) := fun z => z.elim c191 (fun z => by omega)
            rw [if_neg hc] at hD2 hD3
            refine v_aload_n (i := 0) dX3_back_219 rfl rfl ?_
            refine go_getA hMo KX3 18 (by decide) (by decide) q302 dX3_back_220 ?_
            refine v_iload (i := 6) dX3_back_223 rfl ?_
            refine go_ld11 hMo 18 (by decide) rfl (show _ < 40000 from (by omega)) (by decide) _ hnx dX3_back_225 ?_
            refine v_istore (i := 6) dX3_back_226 (by decide) rfl ?_
            refine v_goto (tgt := 161) dX3_back_228 rfl ?_
            exact ih (lstE (xej X) s e) K s e η μ1 _ hlx rfl hMo hJ hQ h0 hMK hK hs (by omega) hD2 hds hbs hle hct h2 KK
          · rw [i_le, oI_toInt (by omega), nI_toInt (by omega)] at c205
            have hc : (gA μ1 12) x = 0 ∨ (gA μ1 12) s + Wq τ X 0 e < (gA μ1 12) x := Or.inr (by omega)
            rw [if_pos hc] at hD2 hD3
            refine v_aload_n (i := 2) dX3_back_208 rfl rfl ?_
            refine v_aload_n (i := 0) dX3_back_209 rfl rfl ?_
            refine go_getA hMo KX3 16 (by decide) (by decide) q300 dX3_back_210 ?_
            refine v_iload (i := 6) dX3_back_213 rfl ?_
            refine go_ld10 hMo 16 (by decide) rfl (show _ < 40000 from (by omega)) (by decide) _ hfr dX3_back_215 ?_
            refine v_iload (i := 7) dX3_back_216 rfl ?_
            refine go_st11n hMo 12 (by decide) rfl (show _ < 2000 from (by omega)) (by decide) dX3_back_218 (fun η hMo hk => ?_)
            have h0 := h0.th hk (by omega) (by omega)
            have hQ := hQ.kp hk (by omega)
            obtain ⟨lw, hJ⟩ := hJ
            have hJ := hJ.kp hk (by omega)
            have hJ : ∃ lw, Jd _ (t + 1) j q w τ hd ld wo lw := ⟨lw, hJ⟩
            refine v_aload_n (i := 0) dX3_back_219 rfl rfl ?_
            refine go_getA hMo KX3 18 (by decide) (by decide) q302 dX3_back_220 ?_
            refine v_iload (i := 6) dX3_back_223 rfl ?_
            refine go_ld11 hMo 18 (by decide) rfl (show _ < 40000 from (by omega)) (by decide) _ hnx dX3_back_225 ?_
            refine v_istore (i := 6) dX3_back_226 (by decide) rfl ?_
            refine v_goto (tgt := 161) dX3_back_228 rfl ?_
            have eU : va_up (gA μ1 12) x (v + Wq τ X 0 e + 1) = va_up (gA μ1 12) x ((gA μ1 12) s + Wq τ X 0 e) := by rw [show v + Wq τ X 0 e + 1 = (gA μ1 12) s + Wq τ X 0 e by omega]
            rw [← eU] at hD2 hD3
            have hs' : gA (sA μ1 12 x (v + Wq τ X 0 e + 1)) 12 s = (gA μ1 12) s := hD3 s hs hds
            have hMK2 := hMK.st (k := 12) (i := x) (v := v + Wq τ X 0 e + 1) (Or.inl rfl)
            exact ih (lstE (xej X) s e) K s e η _ _ hlx rfl hMo hJ hQ h0 hMK2 hK hs (by omega) hD2 hds (by rw [hs']; exact hbs) (fun u hu hd => (by rw [hs']; exact Nat.le_trans (Nat.le_of_eq (hD3 u hu hd)) (hle u hu hd))) hct h2 KK
  have L83 : ∀ (pl n x sv K : Nat) (η : AH) (μ1 : MS) (z7 : Option Value), x + n = xn X → GO scX3 η (some t) m adm μ1 → (∃ lw, Jd η (t + 1) j q w τ hd ld wo lw) → P0 η (t + 2) q w → Kp t (t + 4) η0 η → MBk 12 μ μ1 → K < 2000 → DJ X (glT τ X) (Wq τ X 0) 405505 K 0 0 (gA μ1 19) (gA μ1 12) → cntN (gA μ1 19) (xn X) = K → sv ≤ x → (sv = 0 → ∀ y, y < x → (gA μ1 19) y = 0 → (gA μ1 12) y = 0) → (∀ s, sv = s + 1 → (gA μ1 19) s = 0 ∧ (gA μ1 12) s ≠ 0 ∧ ∀ y, y < x → (gA μ1 19) y = 0 → (gA μ1 12) y ≠ 0 → (gA μ1 12) s ≤ (gA μ1 12) y) → (∀ y, y < xn X → gA μ1 19 y < 2) → (∀ (η : AH) (μ1 : MS) (z5 z6 z7 : Option Value), GO scX3 η (some t) m adm μ1 → (∃ lw, Jd η (t + 1) j q w τ hd ld wo lw) → P0 η (t + 2) q w → Kp t (t + 4) η0 η → MBk 12 μ μ1 → DJ X (glT τ X) (Wq τ X 0) 405505 (K + 1) 0 0 (gA μ1 19) (gA μ1 12) → cntN (gA μ1 19) (xn X) = K + 1 → (∀ y, y < xn X → gA μ1 19 y < 2) → V G Γ yX3_back cX3_back 8 none [] 5 (rv fun η => ∃ μ2, ME η t m w j q adm τ hd ld wo μ2 ∧ Kp t (t + 4) η0 η ∧ MBk 12 μ μ2 ∧ EQd X (glT τ X) (Wq τ X 0) (gA μ2 12) ∧ ∀ x, x < xn X → gA μ2 12 x ≤ 811415505) (0) (0) (η) 231 [some (.ref m), some (.int (nI 0)), some (.ref (adm 12)), some (.ref pl), some (.int (nI K)), z5, z6, z7] []) → V G Γ yX3_back cX3_back 8 none [] 5 (rv fun η => ∃ μ2, ME η t m w j q adm τ hd ld wo μ2 ∧ Kp t (t + 4) η0 η ∧ MBk 12 μ μ2 ∧ EQd X (glT τ X) (Wq τ X 0) (gA μ2 12) ∧ ∀ x, x < xn X → gA μ2 12 x ≤ 811415505) (0) (0) (η) 83 [some (.ref m), some (.int (nI 0)), some (.ref (adm 12)), some (.ref pl), some (.int (nI K)), some (.int (oI sv)), some (.int (nI x)), z7] [] := by
    intro pl n
    induction n with
    | zero =>
      intro x sv K η μ1 z7 hn hMo hJ hQ h0 hMK hK hDJ hct hsx hz hm h2 KK
      have ex : x = xn X := by omega
      subst ex
      refine v_iload (i := 6) dX3_back_83 rfl ?_
      refine v_aload_n (i := 0) dX3_back_85 rfl rfl ?_
      refine go_get0 hMo KX3 9 (by decide) rfl (xn X) ((hMK.1 9).trans x1) q290 dX3_back_86 ?_
      refine vn_icmp_ge (tgt := 137) dX3_back_89 rfl (by omega) (by omega) (fun c89 => ?_) (fun c89 => ?_)
      · refine v_iload (i := 5) dX3_back_137 rfl ?_
        refine v_iconst (v := -1) dX3_back_139 k_iconst_m1 ?_
        refine vo_icmp_ne (tgt := 144) dX3_back_140 rfl (by omega) (fun c140 => ?_) (fun c140 => ?_)
        · obtain ⟨s, rfl⟩ : ∃ s, sv = s + 1 := ⟨sv - 1, by omega⟩
          obtain ⟨q1, q2, q3⟩ := hm s rfl
          have hs : s < xn X := by omega
          obtain ⟨hN1, hN2⟩ := hDJ.new hw hs q1 q2 (fun y hy hd hf => q3 y hy hd hf)
          have hbs := hDJ.1 s hs
          have hhd : gA μ1 17 s = lstE (xej X) s (xe X) := by rw [hMK.2 17 (by decide) (by decide)]; exact hU.2.1 s hs
          have hle2 := lstE_le (xej X) s (xe X)
          show V G Γ yX3_back cX3_back 8 none [] 5 (rv fun η => ∃ μ2, ME η t m w j q adm τ hd ld wo μ2 ∧ Kp t (t + 4) η0 η ∧ MBk 12 μ μ2 ∧ EQd X (glT τ X) (Wq τ X 0) (gA μ2 12) ∧ ∀ x, x < xn X → gA μ2 12 x ≤ 811415505) (0) (0) (η) 144 [some (.ref m), some (.int (nI 0)), some (.ref (adm 12)), some (.ref pl), some (.int (nI K)), some (.int (nI s)), some (.int (nI (xn X))), z7] []
          refine v_aload_n (i := 0) dX3_back_144 rfl rfl ?_
          refine go_getA hMo KX3 19 (by decide) (by decide) q303 dX3_back_145 ?_
          refine v_iload (i := 5) dX3_back_148 rfl ?_
          refine v_iconst (v := nI 1) dX3_back_150 k_iconst_1 ?_
          refine go_st12 hMo 19 (by decide) rfl (show _ < 2000 from (by omega)) (by decide) (by decide) dX3_back_151 (fun η hMo hk => ?_)
          have h0 := h0.th hk (by omega) (by omega)
          have hQ := hQ.kp hk (by omega)
          obtain ⟨lw, hJ⟩ := hJ
          have hJ := hJ.kp hk (by omega)
          have hJ : ∃ lw, Jd _ (t + 1) j q w τ hd ld wo lw := ⟨lw, hJ⟩
          refine v_aload_n (i := 0) dX3_back_152 rfl rfl ?_
          refine go_getA hMo KX3 17 (by decide) (by decide) q301 dX3_back_153 ?_
          refine v_iload (i := 5) dX3_back_156 rfl ?_
          refine go_ld11 hMo 17 (by decide) rfl (show _ < 2000 from (by omega)) (by decide) _ hhd dX3_back_158 ?_
          refine v_istore (i := 6) dX3_back_159 (by decide) rfl ?_
          refine L161 pl (xe X) _ K s (xe X) η _ _ hle2 rfl hMo hJ hQ h0 (hMK.st (Or.inr rfl)) hK hs (Nat.le_refl _) hN1 (by show va_up (gA μ1 19) s 1 s ≠ 0; rw [va_up_e]; decide) hbs hN2 ?_ ?_ ?_
          · show cntN (va_up (gA μ1 19) s 1) (xn X) = K + 1
            rw [cntN_up (by decide) q1 hs, hct]
          · intro y hy
            show va_up (gA μ1 19) s 1 y < 2
            by_cases c : y = s
            · rw [c, va_up_e]; decide
            · rw [va_up_n c]; exact h2 y hy
          · intro η μ2 z6 z7 hMo hJ hQ h0 hMK hD hc h3
            exact KK η μ2 _ z6 z7 hMo hJ hQ h0 hMK hD hc h3
        · exact v_vret rfl dX3_back_143 (by
            refine ⟨rfl, μ1, ⟨hMo, (hMK.1 0).trans m0, (hMK.1 1).trans m1, hJ, hQ⟩, h0, hMK, hDJ.fin hw hWp (fun y hy hd => hz c140 y hy hd), fun x hx => ?_⟩
            have hb := hDJ.1 x hx
            have hKb : K * 405505 ≤ 1999 * 405505 := Nat.mul_le_mul_right _ (by omega)
            omega)
      · exact absurd (show xn X < xn X from c89) (by omega)
    | succ n ih =>
      intro x sv K η μ1 z7 hn hMo hJ hQ h0 hMK hK hDJ hct hsx hz hm h2 KK
      have hx : x < xn X := by omega
      have hdx := h2 x hx
      have hbx := hDJ.1 x hx
      have hKb : K * 405505 ≤ 1999 * 405505 := Nat.mul_le_mul_right _ (by omega)
      have hsb : ∀ s, sv = s + 1 → (gA μ1 12) s ≤ K * 405505 + 1 := fun s e => hDJ.1 s (by omega)
      refine v_iload (i := 6) dX3_back_83 rfl ?_
      refine v_aload_n (i := 0) dX3_back_85 rfl rfl ?_
      refine go_get0 hMo KX3 9 (by decide) rfl (xn X) ((hMK.1 9).trans x1) q290 dX3_back_86 ?_
      refine vn_icmp_ge (tgt := 137) dX3_back_89 rfl (by omega) (by omega) (fun c89 => ?_) (fun c89 => ?_)
      · exact absurd (show xn X ≤ x from c89) (by omega)
      · refine v_aload_n (i := 0) dX3_back_92 rfl rfl ?_
        refine go_getA hMo KX3 19 (by decide) (by decide) q303 dX3_back_93 ?_
        refine v_iload (i := 6) dX3_back_96 rfl ?_
        refine go_ld12 hMo 19 (by decide) rfl (show _ < 2000 from (by omega)) (by decide) _ rfl dX3_back_98 ?_
        refine vn_if_ne (tgt := 131) dX3_back_99 rfl (by omega) (fun c99 => ?_) (fun c99 => ?_)
        · refine vn_iinc 1 dX3_back_131 rfl k_iconst_1 (by decide) rfl ?_
          refine v_goto (tgt := 83) dX3_back_134 rfl ?_
          refine ih (x + 1) sv K η μ1 _ (by omega) hMo hJ hQ h0 hMK hK hDJ hct (by omega) (fun sz y hy hd => ?_) (fun s0 e0 => ?_) h2 KK
          · by_cases c : y = x
            · exact absurd (c ▸ hd) (by omega)
            · exact hz sz y (by omega) hd
          · obtain ⟨r1, r2, r3⟩ := hm s0 e0
            refine ⟨r1, r2, fun y hy hd hf => ?_⟩
            by_cases c : y = x
            · exact absurd (c ▸ hd) (by omega)
            · exact r3 y (by omega) hd hf
        · refine v_aload_n (i := 2) dX3_back_102 rfl rfl ?_
          refine v_iload (i := 6) dX3_back_103 rfl ?_
          refine go_ld11 hMo 12 (by decide) rfl (show _ < 2000 from (by omega)) (by decide) _ rfl dX3_back_105 ?_
          refine v_iconst (v := -1) dX3_back_106 k_iconst_m1 ?_
          refine vo_icmp_eq (tgt := 131) dX3_back_107 rfl (by omega) (fun c107 => ?_) (fun c107 => ?_)
          · refine vn_iinc 1 dX3_back_131 rfl k_iconst_1 (by decide) rfl ?_
            refine v_goto (tgt := 83) dX3_back_134 rfl ?_
            refine ih (x + 1) sv K η μ1 _ (by omega) hMo hJ hQ h0 hMK hK hDJ hct (by omega) (fun sz y hy hd => ?_) (fun s0 e0 => ?_) h2 KK
            · by_cases c : y = x
              · rw [c]; omega
              · exact hz sz y (by omega) hd
            · obtain ⟨r1, r2, r3⟩ := hm s0 e0
              refine ⟨r1, r2, fun y hy hd hf => ?_⟩
              by_cases c : y = x
              · exact absurd (c ▸ hf) (by omega)
              · exact r3 y (by omega) hd hf
          · refine v_iload (i := 5) dX3_back_110 rfl ?_
            refine v_iconst (v := -1) dX3_back_112 k_iconst_m1 ?_
            refine vo_icmp_eq (tgt := 127) dX3_back_113 rfl (by omega) (fun c113 => ?_) (fun c113 => ?_)
            · refine v_iload (i := 6) dX3_back_127 rfl ?_
              refine v_istore (i := 5) dX3_back_129 (by decide) rfl ?_
              refine vn_iinc 1 dX3_back_131 rfl k_iconst_1 (by decide) rfl ?_
              refine v_goto (tgt := 83) dX3_back_134 rfl ?_
              refine ih (x + 1) (x + 1) K η μ1 _ (by omega) hMo hJ hQ h0 hMK hK hDJ hct (Nat.le_refl _) (fun z => absurd z (by omega)) (fun s0 e0 => ?_) h2 KK
              have e0 : s0 = x := by omega
              subst e0
              refine ⟨by omega, by omega, fun y hy hd hf => ?_⟩
              by_cases c : y = s0
              · rw [c]; exact Nat.le_refl _
              · exact absurd (hz c113 y (by omega) hd) hf
            · obtain ⟨s, rfl⟩ : ∃ s, sv = s + 1 := ⟨sv - 1, by omega⟩
              obtain ⟨q1, q2, q3⟩ := hm s rfl
              have hsb := hsb s rfl
              refine v_aload_n (i := 2) dX3_back_116 rfl rfl ?_
              refine v_iload (i := 6) dX3_back_117 rfl ?_
              refine go_ld11 hMo 12 (by decide) rfl (show _ < 2000 from (by omega)) (by decide) _ rfl dX3_back_119 ?_
              refine v_aload_n (i := 2) dX3_back_120 rfl rfl ?_
              refine v_iload (i := 5) dX3_back_121 rfl ?_
              refine go_ld11 hMo 12 (by decide) rfl (show _ < 2000 from (by omega)) (by decide) _ rfl dX3_back_123 ?_
              refine voo_icmp_ge (tgt := 131) dX3_back_124 rfl (by omega) (by omega) (fun c124 => ?_) (fun c124 => ?_)
              · refine vn_iinc 1 dX3_back_131 rfl k_iconst_1 (by decide) rfl ?_
                refine v_goto (tgt := 83) dX3_back_134 rfl ?_
                refine ih (x + 1) (s + 1) K η μ1 _ (by omega) hMo hJ hQ h0 hMK hK hDJ hct (by omega) (fun sz y hy hd => ?_) (fun s0 e0 => ?_) h2 KK
                · by_cases c : y = x
                  · exact absurd sz (by omega)
                  · exact hz sz y (by omega) hd
                · obtain ⟨r1, r2, r3⟩ := hm s0 e0
                  refine ⟨r1, r2, fun y hy hd hf => ?_⟩
                  by_cases c : y = x
                  · have e0 : s0 = s := by omega
                    subst e0
                    rw [c]; omega
                  · exact r3 y (by omega) hd hf
              · refine v_iload (i := 6) dX3_back_127 rfl ?_
                refine v_istore (i := 5) dX3_back_129 (by decide) rfl ?_
                refine vn_iinc 1 dX3_back_131 rfl k_iconst_1 (by decide) rfl ?_
                refine v_goto (tgt := 83) dX3_back_134 rfl ?_
                refine ih (x + 1) (x + 1) K η μ1 _ (by omega) hMo hJ hQ h0 hMK hK hDJ hct (Nat.le_refl _) (fun z => absurd z (by omega)) (fun s0 e0 => ?_) h2 KK
                have e0 : s0 = x := by omega
                subst e0
                refine ⟨by omega, by omega, fun y hy hd hf => ?_⟩
                by_cases c : y = s0
                · rw [c]; exact Nat.le_refl _
                · exact Nat.le_trans (Nat.le_of_lt (by omega)) (q3 y (by omega) hd hf)
  have L68 : ∀ (pl n K : Nat) (η : AH) (μ1 : MS) (z5 z6 z7 : Option Value), K + n = xn X → GO scX3 η (some t) m adm μ1 → (∃ lw, Jd η (t + 1) j q w τ hd ld wo lw) → P0 η (t + 2) q w → Kp t (t + 4) η0 η → MBk 12 μ μ1 → DJ X (glT τ X) (Wq τ X 0) 405505 K 0 0 (gA μ1 19) (gA μ1 12) → cntN (gA μ1 19) (xn X) = K → (∀ y, y < xn X → gA μ1 19 y < 2) → V G Γ yX3_back cX3_back 8 none [] 5 (rv fun η => ∃ μ2, ME η t m w j q adm τ hd ld wo μ2 ∧ Kp t (t + 4) η0 η ∧ MBk 12 μ μ2 ∧ EQd X (glT τ X) (Wq τ X 0) (gA μ2 12) ∧ ∀ x, x < xn X → gA μ2 12 x ≤ 811415505) (0) (0) (η) 68 [some (.ref m), some (.int (nI 0)), some (.ref (adm 12)), some (.ref pl), some (.int (nI K)), z5, z6, z7] [] := by
    intro pl n
    induction n with
    | zero =>
      intro K η μ1 z5 z6 z7 hn hMo hJ hQ h0 hMK hDJ hct h2
      have eK : K = xn X := by omega
      subst eK
      have hn2 := x3.1
      refine v_iload (i := 4) dX3_back_68 rfl ?_
      refine v_aload_n (i := 0) dX3_back_70 rfl rfl ?_
      refine go_get0 hMo KX3 9 (by decide) rfl (xn X) ((hMK.1 9).trans x1) q290 dX3_back_71 ?_
      refine vn_icmp_ge (tgt := 237) dX3_back_74 rfl (by omega) (by omega) (fun c74 => ?_) (fun c74 => ?_)
      · exact v_vret rfl dX3_back_237 (by
          refine ⟨rfl, μ1, ⟨hMo, (hMK.1 0).trans m0, (hMK.1 1).trans m1, hJ, hQ⟩, h0, hMK, hDJ.fin hw hWp (fun y hy hd => absurd hd (cntN_all hct y hy)), fun x hx => ?_⟩
          have hb := hDJ.1 x hx
          have hKb : xn X * 405505 ≤ 2000 * 405505 := Nat.mul_le_mul_right _ (by omega)
          omega)
      · exact absurd (show xn X < xn X from c74) (by omega)
    | succ n ih =>
      intro K η μ1 z5 z6 z7 hn hMo hJ hQ h0 hMK hDJ hct h2
      have hn2 := x3.1
      refine v_iload (i := 4) dX3_back_68 rfl ?_
      refine v_aload_n (i := 0) dX3_back_70 rfl rfl ?_
      refine go_get0 hMo KX3 9 (by decide) rfl (xn X) ((hMK.1 9).trans x1) q290 dX3_back_71 ?_
      refine vn_icmp_ge (tgt := 237) dX3_back_74 rfl (by omega) (by omega) (fun c74 => ?_) (fun c74 => ?_)
      · exact absurd (show xn X ≤ K from c74) (by omega)
      · refine v_iconst (v := -1) dX3_back_77 k_iconst_m1 ?_
        refine v_istore (i := 5) dX3_back_78 (by decide) rfl ?_
        refine v_iconst (v := nI 0) dX3_back_80 k_iconst_0 ?_
        refine v_istore (i := 6) dX3_back_81 (by decide) rfl ?_
        refine L83 pl (xn X) 0 0 K η μ1 _ (by omega) hMo hJ hQ h0 hMK (by omega) hDJ hct (Nat.le_refl _) (fun _ y hy => absurd hy (by omega)) (fun s e => absurd e (by omega)) h2 ?_
        intro η μ1 z5 z6 z7 hMo hJ hQ h0 hMK hDJ hct h2
        refine vn_iinc 1 dX3_back_231 rfl k_iconst_1 (by decide) rfl ?_
        refine v_goto (tgt := 68) dX3_back_234 rfl ?_
        exact ih (K + 1) η μ1 z5 z6 z7 (by omega) hMo hJ hQ h0 hMK hDJ hct h2
  have L15 : ∀ (pl n i : Nat) (η : AH) (μ1 : MS), i + n = xn X → GO scX3 η (some t) m adm μ1 → (∃ lw, Jd η (t + 1) j q w τ hd ld wo lw) → P0 η (t + 2) q w → Kp t (t + 4) η0 η → MBk 12 μ μ1 → Wd G η w τ → P0 η (t + 3) pl w → (∀ y, y < i → ((glT τ X) y → (gA μ1 12) y = 1) ∧ (¬ (glT τ X) y → (gA μ1 12) y = 0)) → (∀ y, y < i → (gA μ1 19) y = 0) → V G Γ yX3_back cX3_back 8 none [] 5 (rv fun η => ∃ μ2, ME η t m w j q adm τ hd ld wo μ2 ∧ Kp t (t + 4) η0 η ∧ MBk 12 μ μ2 ∧ EQd X (glT τ X) (Wq τ X 0) (gA μ2 12) ∧ ∀ x, x < xn X → gA μ2 12 x ≤ 811415505) (0) (0) (η) 15 [some (.ref m), some (.int (nI 0)), some (.ref (adm 12)), some (.ref pl), some (.int (nI i)), none, none, none] [] := by
    intro pl n
    induction n with
    | zero =>
      intro i η μ1 hn hMo hJ hQ h0 hMK hW hP hF1 hF2
      have ei : i = xn X := by omega
      subst ei
      have hn2 := x3.1
      refine v_iload (i := 4) dX3_back_15 rfl ?_
      refine v_aload_n (i := 0) dX3_back_17 rfl rfl ?_
      refine go_get0 hMo KX3 9 (by decide) rfl (xn X) ((hMK.1 9).trans x1) q290 dX3_back_18 ?_
      refine vn_icmp_ge (tgt := 65) dX3_back_21 rfl (by omega) (by omega) (fun c21 => ?_) (fun c21 => ?_)
      · refine v_iconst (v := nI 0) dX3_back_65 k_iconst_0 ?_
        refine v_istore (i := 4) dX3_back_66 (by decide) rfl ?_
        exact L68 pl (xn X) 0 η μ1 none none none (by omega) hMo hJ hQ h0 hMK (DJ.beg hF2 hF1 hw) (cntN_0 hF2) (fun y hy => by rw [hF2 y hy]; decide)
      · exact absurd (show xn X < xn X from c21) (by omega)
    | succ n ih =>
      intro i η μ1 hn hMo hJ hQ h0 hMK hW hP hF1 hF2
      have hn2 := x3.1
      have hi : i < xn X := by omega
      have x5i := x5 i hi
      refine v_iload (i := 4) dX3_back_15 rfl ?_
      refine v_aload_n (i := 0) dX3_back_17 rfl rfl ?_
      refine go_get0 hMo KX3 9 (by decide) rfl (xn X) ((hMK.1 9).trans x1) q290 dX3_back_18 ?_
      refine vn_icmp_ge (tgt := 65) dX3_back_21 rfl (by omega) (by omega) (fun c21 => ?_) (fun c21 => ?_)
      · exact absurd (show xn X ≤ i from c21) (by omega)
      · refine v_aload_n (i := 3) dX3_back_24 rfl rfl ?_
        refine v_aload_n (i := 0) dX3_back_25 rfl rfl ?_
        refine go_getA hMo KX3 2 (by decide) (by decide) q280 dX3_back_26 ?_
        refine v_iload (i := 4) dX3_back_29 rfl ?_
        refine go_ld10 hMo 2 (by decide) rfl (show _ < 2000 from (by omega)) (by decide) _ ((congrFun (hMK.2 2 (by decide) (by decide)) i).trans x5i.1) dX3_back_31 ?_
        refine v_callVe (cP_read hW hP (xst X i)) (lw_V q705 q706 q707 q135 q708) iX7_read rfl KX7 hP.rcv rfl rfl (by decide) (by decide) (Nat.le_of_ble_eq_true rfl) (Nat.le_refl _) (Nat.le_refl _) dX3_back_32 (kr_W (fun η h => ?_)) kx_W
        obtain ⟨hP, hk⟩ := h
        have h0 := h0.th hk (by omega) (by omega)
        have hW := hW.kp hk
        have hQ := hQ.kp hk (by omega)
        obtain ⟨lw, hJ⟩ := hJ
        have hJ := hJ.kp hk (by omega)
        have hJ : ∃ lw, Jd _ (t + 1) j q w τ hd ld wo lw := ⟨lw, hJ⟩
        have hMo := hMo.kpS hk (by omega)
        refine v_aload_n (i := 2) dX3_back_35 rfl rfl ?_
        refine v_iload (i := 4) dX3_back_36 rfl ?_
        refine v_aload_n (i := 3) dX3_back_38 rfl rfl ?_
        refine v_callVe (cP_isGoal hW hP) (lw_V q777 q778 q779 q135 q780) iX7_isGoal rfl KX7 hP.rcv rfl rfl (by decide) (by decide) (Nat.le_of_ble_eq_true rfl) (Nat.le_refl _) (Nat.le_refl _) dX3_back_39 (kr_ei ?_) kx_e
        refine vn_if_eq (tgt := 49) dX3_back_42 rfl (by split <;> decide) (fun c42 => ?_) (fun c42 => ?_)
        · have hg : ¬ glT τ X i := fun hg => absurd ((if_pos hg).symm.trans c42) (by decide)
          refine v_iconst (v := -1) dX3_back_49 k_iconst_m1 ?_
          refine go_st11m hMo 12 (by decide) rfl (show _ < 2000 from (by omega)) (by decide) dX3_back_50 (fun η hMo hk => ?_)
          have h0 := h0.th hk (by omega) (by omega)
          have hW := hW.kp hk
          have hQ := hQ.kp hk (by omega)
          obtain ⟨lw, hJ⟩ := hJ
          have hJ := hJ.kp hk (by omega)
          have hJ : ∃ lw, Jd _ (t + 1) j q w τ hd ld wo lw := ⟨lw, hJ⟩
          have hP := hP.kp hk (by omega)
          refine v_aload_n (i := 0) dX3_back_51 rfl rfl ?_
          refine go_getA hMo KX3 19 (by decide) (by decide) q303 dX3_back_52 ?_
          refine v_iload (i := 4) dX3_back_55 rfl ?_
          refine v_iconst (v := nI 0) dX3_back_57 k_iconst_0 ?_
          refine go_st12 hMo 19 (by decide) rfl (show _ < 2000 from (by omega)) (by decide) (by decide) dX3_back_58 (fun η hMo hk => ?_)
          have h0 := h0.th hk (by omega) (by omega)
          have hW := hW.kp hk
          have hQ := hQ.kp hk (by omega)
          obtain ⟨lw, hJ⟩ := hJ
          have hJ := hJ.kp hk (by omega)
          have hJ : ∃ lw, Jd _ (t + 1) j q w τ hd ld wo lw := ⟨lw, hJ⟩
          have hP := hP.kp hk (by omega)
          refine vn_iinc 1 dX3_back_59 rfl k_iconst_1 (by decide) rfl ?_
          refine v_goto (tgt := 15) dX3_back_62 rfl ?_
          refine ih (i + 1) η _ (by omega) hMo hJ hQ h0 ((hMK.st (Or.inl rfl)).st (Or.inr rfl)) hW hP.p0 (fun y hy => ?_) (fun y hy => ?_)
          · show ((glT τ X) y → va_up (gA μ1 12) i 0 y = 1) ∧ (¬ (glT τ X) y → va_up (gA μ1 12) i 0 y = 0)
            by_cases c : y = i
            · subst c
              rw [va_up_e]
              exact ⟨fun z => absurd z hg, fun _ => rfl⟩
            · rw [va_up_n c]; exact hF1 y (by omega)
          · show va_up (gA μ1 19) i 0 y = 0
            by_cases c : y = i
            · rw [c, va_up_e]
            · rw [va_up_n c]; exact hF2 y (by omega)
        · have hg : glT τ X i := by by_cases hg : setN (xst X i) (tN τ 29 - 1) (tN τ 30) = 2 ^ tN τ 30 - 1; exact hg; exact absurd (if_neg hg) c42
          refine v_iconst (v := nI 0) dX3_back_45 k_iconst_0 ?_
          refine v_goto (tgt := 50) dX3_back_46 rfl ?_
          refine go_st11n hMo 12 (by decide) rfl (show _ < 2000 from (by omega)) (by decide) dX3_back_50 (fun η hMo hk => ?_)
          have h0 := h0.th hk (by omega) (by omega)
          have hW := hW.kp hk
          have hQ := hQ.kp hk (by omega)
          obtain ⟨lw, hJ⟩ := hJ
          have hJ := hJ.kp hk (by omega)
          have hJ : ∃ lw, Jd _ (t + 1) j q w τ hd ld wo lw := ⟨lw, hJ⟩
          have hP := hP.kp hk (by omega)
          refine v_aload_n (i := 0) dX3_back_51 rfl rfl ?_
          refine go_getA hMo KX3 19 (by decide) (by decide) q303 dX3_back_52 ?_
          refine v_iload (i := 4) dX3_back_55 rfl ?_
          refine v_iconst (v := nI 0) dX3_back_57 k_iconst_0 ?_
          refine go_st12 hMo 19 (by decide) rfl (show _ < 2000 from (by omega)) (by decide) (by decide) dX3_back_58 (fun η hMo hk => ?_)
          have h0 := h0.th hk (by omega) (by omega)
          have hW := hW.kp hk
          have hQ := hQ.kp hk (by omega)
          obtain ⟨lw, hJ⟩ := hJ
          have hJ := hJ.kp hk (by omega)
          have hJ : ∃ lw, Jd _ (t + 1) j q w τ hd ld wo lw := ⟨lw, hJ⟩
          have hP := hP.kp hk (by omega)
          refine vn_iinc 1 dX3_back_59 rfl k_iconst_1 (by decide) rfl ?_
          refine v_goto (tgt := 15) dX3_back_62 rfl ?_
          refine ih (i + 1) η _ (by omega) hMo hJ hQ h0 ((hMK.st (Or.inl rfl)).st (Or.inr rfl)) hW hP.p0 (fun y hy => ?_) (fun y hy => ?_)
          · show ((glT τ X) y → va_up (gA μ1 12) i 1 y = 1) ∧ (¬ (glT τ X) y → va_up (gA μ1 12) i 1 y = 0)
            by_cases c : y = i
            · subst c
              rw [va_up_e]
              exact ⟨fun _ => rfl, fun z => absurd hg z⟩
            · rw [va_up_n c]; exact hF1 y (by omega)
          · show va_up (gA μ1 19) i 0 y = 0
            by_cases c : y = i
            · rw [c, va_up_e]
            · rw [va_up_n c]; exact hF2 y (by omega)
  have h0 : Kp t (t + 4) η0 η0 := Kp.rf
  have hMK := MBk.rf 12 μ
  refine v_nw (t + 3) KX7 q693 q503 q135 (by omega) (by omega) dX3_back_0 (fun qP η hqP hη hk => ?_)
  have hPo : GO (8, 4, kzX7, lnX7) η (some (t + 3)) qP (fun _ => 0) (zS kdX7) := by rw [hη]; exact bornX7
  have h0 := h0.th hk (by omega) (by omega)
  have hW := hW.kp hk
  have hQ := hQ.kp hk (by omega)
  obtain ⟨lw, hJ⟩ := hJ
  have hJ := hJ.kp hk (by omega)
  have hJ : ∃ lw, Jd _ (t + 1) j q w τ hd ld wo lw := ⟨lw, hJ⟩
  have hMo := hMo.kpS hk (by omega)
  refine v_dup dX3_back_3 rfl ?_
  refine v_aload_n (i := 0) dX3_back_4 rfl rfl ?_
  refine go_get3 hMo KX3 0 (by decide) rfl (w) (show gN μ 0 = w + 1 from m0) q278 dX3_back_5 ?_
  refine v_callI (kc' := 0) (ks' := 0) (cP_init hPo) (lw_meth q506) q135 q694 q505 rfl iX7_init rfl rfl (by decide) (by decide) (Nat.le_of_ble_eq_true rfl) (by decide) (by decide) dX3_back_8 (kr_W (fun η h => ?_)) kx_W
  obtain ⟨hPo, hk⟩ := h
  have h0 := h0.th hk (by omega) (by omega)
  have hW := hW.kp hk
  have hQ := hQ.kp hk (by omega)
  obtain ⟨lw, hJ⟩ := hJ
  have hJ := hJ.kp hk (by omega)
  have hJ : ∃ lw, Jd _ (t + 1) j q w τ hd ld wo lw := ⟨lw, hJ⟩
  have hMo := hMo.kpS hk (by omega)
  refine v_astore_n (i := 3) dX3_back_11 rfl (by decide) rfl ?_
  refine v_iconst (v := nI 0) dX3_back_12 k_iconst_0 ?_
  refine v_istore (i := 4) dX3_back_13 (by decide) rfl ?_
  exact L15 qP (xn X) 0 η μ (by omega) hMo hJ hQ h0 hMK hW hPo (fun y hy => absurd hy (by omega)) (fun y hy => absurd hy (by omega))
theorem cS_back_cost {G : Gl} {η0 : AH} {w : Nat} {τ : Td} (hW : Wd G η0 w τ) {t m j q : Nat} {adm : Nat → Nat} {hd ld : Nat → Nat} {wo : Nat} {μ : MS} (hM : ME η0 t m w j q adm τ hd ld wo μ) {X : XT} (hX : MX τ μ X) (hw : XW X) (hF : FSm μ X) (hU : TU μ X) (hx0 : xfs X 0 = 0) (hxn : xfs X (xn X) = xe X) : Ct G yX3_back cX3_back 8 none 5 (3) (10) [.ref m, .int (nI 1), .ref (adm 13)] η0 (rv fun η => ∃ μ2, ME η t m w j q adm τ hd ld wo μ2 ∧ Kp t (t + 4) η0 η ∧ MBk 13 μ μ2 ∧ EQd X (glT τ X) (Wq τ X 1) (gA μ2 13) ∧ ∀ x, x < xn X → gA μ2 13 x ≤ 811415505) := by
  refine Ct.start rfl rfl (Nat.le_of_ble_eq_true rfl) (fun Γ => ?_)
  have hTB := hW.tb
  obtain ⟨hMo, m0, m1, hJ, hQ⟩ := hM
  obtain ⟨w1, w2, w3, w4, w5, w6⟩ := id hw
  obtain ⟨x1, x2, x3, x4, x5, x6⟩ := id hX
  have hWp := Wq_pos τ X 1
  have hWl := Wq_le hTB X 1
  have L161 : ∀ (pl N : Nat) (ptr K s p : Nat) (η : AH) (μ1 : MS) (z7 : Option Value), ptr ≤ N → ptr = lstE (xej X) s p → GO scX3 η (some t) m adm μ1 → (∃ lw, Jd η (t + 1) j q w τ hd ld wo lw) → P0 η (t + 2) q w → Kp t (t + 4) η0 η → MBk 13 μ μ1 → K < 2000 → s < xn X → p ≤ xe X → DJ X (glT τ X) (Wq τ X 1) 405505 (K + 1) s p (gA μ1 19) (gA μ1 13) → (gA μ1 19) s ≠ 0 → (gA μ1 13) s ≤ K * 405505 + 1 → (∀ u, u < xn X → (gA μ1 19) u ≠ 0 → (gA μ1 13) u ≤ (gA μ1 13) s) → cntN (gA μ1 19) (xn X) = K + 1 → (∀ y, y < xn X → gA μ1 19 y < 2) → (∀ (η : AH) (μ1 : MS) (z6 z7 : Option Value), GO scX3 η (some t) m adm μ1 → (∃ lw, Jd η (t + 1) j q w τ hd ld wo lw) → P0 η (t + 2) q w → Kp t (t + 4) η0 η → MBk 13 μ μ1 → DJ X (glT τ X) (Wq τ X 1) 405505 (K + 1) 0 0 (gA μ1 19) (gA μ1 13) → cntN (gA μ1 19) (xn X) = K + 1 → (∀ y, y < xn X → gA μ1 19 y < 2) → V G Γ yX3_back cX3_back 8 none [] 5 (rv fun η => ∃ μ2, ME η t m w j q adm τ hd ld wo μ2 ∧ Kp t (t + 4) η0 η ∧ MBk 13 μ μ2 ∧ EQd X (glT τ X) (Wq τ X 1) (gA μ2 13) ∧ ∀ x, x < xn X → gA μ2 13 x ≤ 811415505) (0) (0) (η) 231 [some (.ref m), some (.int (nI 1)), some (.ref (adm 13)), some (.ref pl), some (.int (nI K)), some (.int (nI s)), z6, z7] []) → V G Γ yX3_back cX3_back 8 none [] 5 (rv fun η => ∃ μ2, ME η t m w j q adm τ hd ld wo μ2 ∧ Kp t (t + 4) η0 η ∧ MBk 13 μ μ2 ∧ EQd X (glT τ X) (Wq τ X 1) (gA μ2 13) ∧ ∀ x, x < xn X → gA μ2 13 x ≤ 811415505) (0) (0) (η) 161 [some (.ref m), some (.int (nI 1)), some (.ref (adm 13)), some (.ref pl), some (.int (nI K)), some (.int (nI s)), some (.int (oI ptr)), z7] [] := by
    intro pl N
    induction N with
    | zero =>
      intro ptr K s p η μ1 z7 hpN hpe hMo hJ hQ h0 hMK hK hs hp hDJ hds hbs hle hct h2 KK
      have e0 : ptr = 0 := by omega
      subst e0
      refine v_iload (i := 6) dX3_back_161 rfl ?_
      refine v_iconst (v := -1) dX3_back_163 k_iconst_m1 ?_
      refine vo_icmp_eq (tgt := 231) dX3_back_164 rfl (by omega) (fun c164 => ?_) (fun c164 => ?_)
      · exact KK η μ1 _ _ hMo hJ hQ h0 hMK (hDJ.end_ (lstE_0 hpe.symm)) hct h2
      · exact absurd rfl c164
    | succ N ih =>
      intro ptr K s p η μ1 z7 hpN hpe hMo hJ hQ h0 hMK hK hs hp hDJ hds hbs hle hct h2 KK
      by_cases c0 : ptr = 0
      · exact ih ptr K s p η μ1 z7 (by omega) hpe hMo hJ hQ h0 hMK hK hs hp hDJ hds hbs hle hct h2 KK
      obtain ⟨e, rfl⟩ : ∃ e, ptr = e + 1 := ⟨ptr - 1, by omega⟩
      obtain ⟨g1, g2, g3⟩ := lstE_s hpe.symm
      have he : e < xe X := by omega
      obtain ⟨x, hx, hx1, hx2⟩ := own_e hw hx0 (n := xn X) (Nat.le_refl _) (show e < xfs X (xn X) by rw [hxn]; exact he)
      have hfr : gA μ1 16 e = x := by rw [hMK.2 16 (by decide) (by decide)]; exact hU.1 x hx e hx1 hx2
      have hnx : gA μ1 18 e = lstE (xej X) s e := by rw [hMK.2 18 (by decide) (by decide)]; exact (hU.2.2 e he).trans (by rw [g2])
      have hX1 := hMK.mx (by decide) hX
      have hfs0 := hDJ.2.2.1 s hs hds
      have hfx := hDJ.1 x hx
      have hWe := hWp e
      have hWu := hWl e
      obtain ⟨hD2, hD3⟩ := hDJ.stp hw hWp (fun _ => hWl e) hs hds hbs hle hx hx1 hx2 g2 g3
      have hKb : K * 405505 ≤ 1999 * 405505 := Nat.mul_le_mul_right _ (by omega)
      obtain ⟨v, hv⟩ : ∃ v, (gA μ1 13) s = v + 1 := ⟨(gA μ1 13) s - 1, by omega⟩
      have hle2 := lstE_le (xej X) s e
      have hlx : lstE (xej X) s e ≤ N := by omega
      show V G Γ yX3_back cX3_back 8 none [] 5 (rv fun η => ∃ μ2, ME η t m w j q adm τ hd ld wo μ2 ∧ Kp t (t + 4) η0 η ∧ MBk 13 μ μ2 ∧ EQd X (glT τ X) (Wq τ X 1) (gA μ2 13) ∧ ∀ x, x < xn X → gA μ2 13 x ≤ 811415505) (0) (0) (η) 161 [some (.ref m), some (.int (nI 1)), some (.ref (adm 13)), some (.ref pl), some (.int (nI K)), some (.int (nI s)), some (.int (nI e)), z7] []
      refine v_iload (i := 6) dX3_back_161 rfl ?_
      refine v_iconst (v := -1) dX3_back_163 k_iconst_m1 ?_
      refine v_icmp_eq (tgt := 231) dX3_back_164 rfl (fun c164 => ?_) (fun c164 => ?_)
      · exact absurd c164 (nI_m1 (by omega))
      · refine v_aload_n (i := 2) dX3_back_167 rfl rfl ?_
        refine v_iload (i := 5) dX3_back_168 rfl ?_
        refine go_ld11 hMo 13 (by decide) rfl (show _ < 2000 from (by omega)) (by decide) _ hv dX3_back_170 ?_
        refine v_aload_n (i := 0) dX3_back_171 rfl rfl ?_
        refine v_iload (i := 6) dX3_back_172 rfl ?_
        refine v_iload_n (i := 1) dX3_back_174 rfl rfl ?_
        refine v_callVe (cS_step hMo hTB hX1 he (by decide)) (lw_V q781 q783 qs10 q124 q784) iX3_step rfl KX3 hMo.rcv rfl rfl (by decide) (by decide) (Nat.le_of_ble_eq_true rfl) (Nat.le_refl _) (Nat.le_refl _) dX3_back_175 (kr_ei ?_) kx_e
        refine vn_iadd dX3_back_178 ?_
        refine v_istore (i := 7) dX3_back_179 (by decide) rfl ?_
        refine v_aload_n (i := 2) dX3_back_181 rfl rfl ?_
        refine v_aload_n (i := 0) dX3_back_182 rfl rfl ?_
        refine go_getA hMo KX3 16 (by decide) (by decide) q300 dX3_back_183 ?_
        refine v_iload (i := 6) dX3_back_186 rfl ?_
        refine go_ld10 hMo 16 (by decide) rfl (show _ < 40000 from (by omega)) (by decide) _ hfr dX3_back_188 ?_
        refine go_ld11 hMo 13 (by decide) rfl (show _ < 2000 from (by omega)) (by decide) _ rfl dX3_back_189 ?_
        refine v_iconst (v := -1) dX3_back_190 k_iconst_m1 ?_
        refine vo_icmp_eq (tgt := 208) dX3_back_191 rfl (by omega) (fun c191 => ?_) (fun c191 => ?_)
        · have hc : (gA μ1 13) x = 0 ∨ (gA μ1 13) s + Wq τ X 1 e < (gA μ1 13) x := Or.inl c191
          rw [if_pos hc] at hD2 hD3
          refine v_aload_n (i := 2) dX3_back_208 rfl rfl ?_
          refine v_aload_n (i := 0) dX3_back_209 rfl rfl ?_
          refine go_getA hMo KX3 16 (by decide) (by decide) q300 dX3_back_210 ?_
          refine v_iload (i := 6) dX3_back_213 rfl ?_
          refine go_ld10 hMo 16 (by decide) rfl (show _ < 40000 from (by omega)) (by decide) _ hfr dX3_back_215 ?_
          refine v_iload (i := 7) dX3_back_216 rfl ?_
          refine go_st11n hMo 13 (by decide) rfl (show _ < 2000 from (by omega)) (by decide) dX3_back_218 (fun η hMo hk => ?_)
          have h0 := h0.th hk (by omega) (by omega)
          have hQ := hQ.kp hk (by omega)
          obtain ⟨lw, hJ⟩ := hJ
          have hJ := hJ.kp hk (by omega)
          have hJ : ∃ lw, Jd _ (t + 1) j q w τ hd ld wo lw := ⟨lw, hJ⟩
          refine v_aload_n (i := 0) dX3_back_219 rfl rfl ?_
          refine go_getA hMo KX3 18 (by decide) (by decide) q302 dX3_back_220 ?_
          refine v_iload (i := 6) dX3_back_223 rfl ?_
          refine go_ld11 hMo 18 (by decide) rfl (show _ < 40000 from (by omega)) (by decide) _ hnx dX3_back_225 ?_
          refine v_istore (i := 6) dX3_back_226 (by decide) rfl ?_
          refine v_goto (tgt := 161) dX3_back_228 rfl ?_
          have eU : va_up (gA μ1 13) x (v + Wq τ X 1 e + 1) = va_up (gA μ1 13) x ((gA μ1 13) s + Wq τ X 1 e) := by rw [show v + Wq τ X 1 e + 1 = (gA μ1 13) s + Wq τ X 1 e by omega]
          rw [← eU] at hD2 hD3
          have hs' : gA (sA μ1 13 x (v + Wq τ X 1 e + 1)) 13 s = (gA μ1 13) s := hD3 s hs hds
          have hMK2 := hMK.st (k := 13) (i := x) (v := v + Wq τ X 1 e + 1) (Or.inl rfl)
          exact ih (lstE (xej X) s e) K s e η _ _ hlx rfl hMo hJ hQ h0 hMK2 hK hs (by omega) hD2 hds (by rw [hs']; exact hbs) (fun u hu hd => (by rw [hs']; exact Nat.le_trans (Nat.le_of_eq (hD3 u hu hd)) (hle u hu hd))) hct h2 KK
        · refine v_iload (i := 7) dX3_back_194 rfl ?_
          refine v_aload_n (i := 2) dX3_back_196 rfl rfl ?_
          refine v_aload_n (i := 0) dX3_back_197 rfl rfl ?_
          refine go_getA hMo KX3 16 (by decide) (by decide) q300 dX3_back_198 ?_
          refine v_iload (i := 6) dX3_back_201 rfl ?_
          refine go_ld10 hMo 16 (by decide) rfl (show _ < 40000 from (by omega)) (by decide) _ hfr dX3_back_203 ?_
          refine go_ld11 hMo 13 (by decide) rfl (show _ < 2000 from (by omega)) (by decide) _ rfl dX3_back_204 ?_
          refine v_icmp_ge (tgt := 219) dX3_back_205 rfl (fun c205 => ?_) (fun c205 => ?_)
          · rw [i_le, oI_toInt (by omega), nI_toInt (by omega)] at c205
            have hc : ¬ ((gA μ1 13) x = 0 ∨ (gA μ1 13) s + Wq τ X 1 e < (gA μ1 13) x) := fun z => z.elim c191 (fun z => by omega)
            rw [if_neg hc] at hD2 hD3
            refine v_aload_n (i := 0) dX3_back_219 rfl rfl ?_
            refine go_getA hMo KX3 18 (by decide) (by decide) q302 dX3_back_220 ?_
            refine v_iload (i := 6) dX3_back_223 rfl ?_
            refine go_ld11 hMo 18 (by decide) rfl (show _ < 40000 from (by omega)) (by decide) _ hnx dX3_back_225 ?_
            refine v_istore (i := 6) dX3_back_226 (by decide) rfl ?_
            refine v_goto (tgt := 161) dX3_back_228 rfl ?_
            exact ih (lstE (xej X) s e) K s e η μ1 _ hlx rfl hMo hJ hQ h0 hMK hK hs (by omega) hD2 hds hbs hle hct h2 KK
          · rw [i_le, oI_toInt (by omega), nI_toInt (by omega)] at c205
            have hc : (gA μ1 13) x = 0 ∨ (gA μ1 13) s + Wq τ X 1 e < (gA μ1 13) x := Or.inr (by omega)
            rw [if_pos hc] at hD2 hD3
            refine v_aload_n (i := 2) dX3_back_208 rfl rfl ?_
            refine v_aload_n (i := 0) dX3_back_209 rfl rfl ?_
            refine go_getA hMo KX3 16 (by decide) (by decide) q300 dX3_back_210 ?_
            refine v_iload (i := 6) dX3_back_213 rfl ?_
            refine go_ld10 hMo 16 (by decide) rfl (show _ < 40000 from (by omega)) (by decide) _ hfr dX3_back_215 ?_
            refine v_iload (i := 7) dX3_back_216 rfl ?_
            refine go_st11n hMo 13 (by decide) rfl (show _ < 2000 from (by omega)) (by decide) dX3_back_218 (fun η hMo hk => ?_)
            have h0 := h0.th hk (by omega) (by omega)
            have hQ := hQ.kp hk (by omega)
            obtain ⟨lw, hJ⟩ := hJ
            have hJ := hJ.kp hk (by omega)
            have hJ : ∃ lw, Jd _ (t + 1) j q w τ hd ld wo lw := ⟨lw, hJ⟩
            refine v_aload_n (i := 0) dX3_back_219 rfl rfl ?_
            refine go_getA hMo KX3 18 (by decide) (by decide) q302 dX3_back_220 ?_
            refine v_iload (i := 6) dX3_back_223 rfl ?_
            refine go_ld11 hMo 18 (by decide) rfl (show _ < 40000 from (by omega)) (by decide) _ hnx dX3_back_225 ?_
            refine v_istore (i := 6) dX3_back_226 (by decide) rfl ?_
            refine v_goto (tgt := 161) dX3_back_228 rfl ?_
            have eU : va_up (gA μ1 13) x (v + Wq τ X 1 e + 1) = va_up (gA μ1 13) x ((gA μ1 13) s + Wq τ X 1 e) := by rw [show v + Wq τ X 1 e + 1 = (gA μ1 13) s + Wq τ X 1 e by omega]
            rw [← eU] at hD2 hD3
            have hs' : gA (sA μ1 13 x (v + Wq τ X 1 e + 1)) 13 s = (gA μ1 13) s := hD3 s hs hds
            have hMK2 := hMK.st (k := 13) (i := x) (v := v + Wq τ X 1 e + 1) (Or.inl rfl)
            exact ih (lstE (xej X) s e) K s e η _ _ hlx rfl hMo hJ hQ h0 hMK2 hK hs (by omega) hD2 hds (by rw [hs']; exact hbs) (fun u hu hd => (by rw [hs']; exact Nat.le_trans (Nat.le_of_eq (hD3 u hu hd)) (hle u hu hd))) hct h2 KK
  have L83 : ∀ (pl n x sv K : Nat) (η : AH) (μ1 : MS) (z7 : Option Value), x + n = xn X → GO scX3 η (some t) m adm μ1 → (∃ lw, Jd η (t + 1) j q w τ hd ld wo lw) → P0 η (t + 2) q w → Kp t (t + 4) η0 η → MBk 13 μ μ1 → K < 2000 → DJ X (glT τ X) (Wq τ X 1) 405505 K 0 0 (gA μ1 19) (gA μ1 13) → cntN (gA μ1 19) (xn X) = K → sv ≤ x → (sv = 0 → ∀ y, y < x → (gA μ1 19) y = 0 → (gA μ1 13) y = 0) → (∀ s, sv = s + 1 → (gA μ1 19) s = 0 ∧ (gA μ1 13) s ≠ 0 ∧ ∀ y, y < x → (gA μ1 19) y = 0 → (gA μ1 13) y ≠ 0 → (gA μ1 13) s ≤ (gA μ1 13) y) → (∀ y, y < xn X → gA μ1 19 y < 2) → (∀ (η : AH) (μ1 : MS) (z5 z6 z7 : Option Value), GO scX3 η (some t) m adm μ1 → (∃ lw, Jd η (t + 1) j q w τ hd ld wo lw) → P0 η (t + 2) q w → Kp t (t + 4) η0 η → MBk 13 μ μ1 → DJ X (glT τ X) (Wq τ X 1) 405505 (K + 1) 0 0 (gA μ1 19) (gA μ1 13) → cntN (gA μ1 19) (xn X) = K + 1 → (∀ y, y < xn X → gA μ1 19 y < 2) → V G Γ yX3_back cX3_back 8 none [] 5 (rv fun η => ∃ μ2, ME η t m w j q adm τ hd ld wo μ2 ∧ Kp t (t + 4) η0 η ∧ MBk 13 μ μ2 ∧ EQd X (glT τ X) (Wq τ X 1) (gA μ2 13) ∧ ∀ x, x < xn X → gA μ2 13 x ≤ 811415505) (0) (0) (η) 231 [some (.ref m), some (.int (nI 1)), some (.ref (adm 13)), some (.ref pl), some (.int (nI K)), z5, z6, z7] []) → V G Γ yX3_back cX3_back 8 none [] 5 (rv fun η => ∃ μ2, ME η t m w j q adm τ hd ld wo μ2 ∧ Kp t (t + 4) η0 η ∧ MBk 13 μ μ2 ∧ EQd X (glT τ X) (Wq τ X 1) (gA μ2 13) ∧ ∀ x, x < xn X → gA μ2 13 x ≤ 811415505) (0) (0) (η) 83 [some (.ref m), some (.int (nI 1)), some (.ref (adm 13)), some (.ref pl), some (.int (nI K)), some (.int (oI sv)), some (.int (nI x)), z7] [] := by
    intro pl n
    induction n with
    | zero =>
      intro x sv K η μ1 z7 hn hMo hJ hQ h0 hMK hK hDJ hct hsx hz hm h2 KK
      have ex : x = xn X := by omega
      subst ex
      refine v_iload (i := 6) dX3_back_83 rfl ?_
      refine v_aload_n (i := 0) dX3_back_85 rfl rfl ?_
      refine go_get0 hMo KX3 9 (by decide) rfl (xn X) ((hMK.1 9).trans x1) q290 dX3_back_86 ?_
      refine vn_icmp_ge (tgt := 137) dX3_back_89 rfl (by omega) (by omega) (fun c89 => ?_) (fun c89 => ?_)
      · refine v_iload (i := 5) dX3_back_137 rfl ?_
        refine v_iconst (v := -1) dX3_back_139 k_iconst_m1 ?_
        refine vo_icmp_ne (tgt := 144) dX3_back_140 rfl (by omega) (fun c140 => ?_) (fun c140 => ?_)
        · obtain ⟨s, rfl⟩ : ∃ s, sv = s + 1 := ⟨sv - 1, by omega⟩
          obtain ⟨q1, q2, q3⟩ := hm s rfl
          have hs : s < xn X := by omega
          obtain ⟨hN1, hN2⟩ := hDJ.new hw hs q1 q2 (fun y hy hd hf => q3 y hy hd hf)
          have hbs := hDJ.1 s hs
          have hhd : gA μ1 17 s = lstE (xej X) s (xe X) := by rw [hMK.2 17 (by decide) (by decide)]; exact hU.2.1 s hs
          have hle2 := lstE_le (xej X) s (xe X)
          show V G Γ yX3_back cX3_back 8 none [] 5 (rv fun η => ∃ μ2, ME η t m w j q adm τ hd ld wo μ2 ∧ Kp t (t + 4) η0 η ∧ MBk 13 μ μ2 ∧ EQd X (glT τ X) (Wq τ X 1) (gA μ2 13) ∧ ∀ x, x < xn X → gA μ2 13 x ≤ 811415505) (0) (0) (η) 144 [some (.ref m), some (.int (nI 1)), some (.ref (adm 13)), some (.ref pl), some (.int (nI K)), some (.int (nI s)), some (.int (nI (xn X))), z7] []
          refine v_aload_n (i := 0) dX3_back_144 rfl rfl ?_
          refine go_getA hMo KX3 19 (by decide) (by decide) q303 dX3_back_145 ?_
          refine v_iload (i := 5) dX3_back_148 rfl ?_
          refine v_iconst (v := nI 1) dX3_back_150 k_iconst_1 ?_
          refine go_st12 hMo 19 (by decide) rfl (show _ < 2000 from (by omega)) (by decide) (by decide) dX3_back_151 (fun η hMo hk => ?_)
          have h0 := h0.th hk (by omega) (by omega)
          have hQ := hQ.kp hk (by omega)
          obtain ⟨lw, hJ⟩ := hJ
          have hJ := hJ.kp hk (by omega)
          have hJ : ∃ lw, Jd _ (t + 1) j q w τ hd ld wo lw := ⟨lw, hJ⟩
          refine v_aload_n (i := 0) dX3_back_152 rfl rfl ?_
          refine go_getA hMo KX3 17 (by decide) (by decide) q301 dX3_back_153 ?_
          refine v_iload (i := 5) dX3_back_156 rfl ?_
          refine go_ld11 hMo 17 (by decide) rfl (show _ < 2000 from (by omega)) (by decide) _ hhd dX3_back_158 ?_
          refine v_istore (i := 6) dX3_back_159 (by decide) rfl ?_
          refine L161 pl (xe X) _ K s (xe X) η _ _ hle2 rfl hMo hJ hQ h0 (hMK.st (Or.inr rfl)) hK hs (Nat.le_refl _) hN1 (by show va_up (gA μ1 19) s 1 s ≠ 0; rw [va_up_e]; decide) hbs hN2 ?_ ?_ ?_
          · show cntN (va_up (gA μ1 19) s 1) (xn X) = K + 1
            rw [cntN_up (by decide) q1 hs, hct]
          · intro y hy
            show va_up (gA μ1 19) s 1 y < 2
            by_cases c : y = s
            · rw [c, va_up_e]; decide
            · rw [va_up_n c]; exact h2 y hy
          · intro η μ2 z6 z7 hMo hJ hQ h0 hMK hD hc h3
            exact KK η μ2 _ z6 z7 hMo hJ hQ h0 hMK hD hc h3
        · exact v_vret rfl dX3_back_143 (by
            refine ⟨rfl, μ1, ⟨hMo, (hMK.1 0).trans m0, (hMK.1 1).trans m1, hJ, hQ⟩, h0, hMK, hDJ.fin hw hWp (fun y hy hd => hz c140 y hy hd), fun x hx => ?_⟩
            have hb := hDJ.1 x hx
            have hKb : K * 405505 ≤ 1999 * 405505 := Nat.mul_le_mul_right _ (by omega)
            omega)
      · exact absurd (show xn X < xn X from c89) (by omega)
    | succ n ih =>
      intro x sv K η μ1 z7 hn hMo hJ hQ h0 hMK hK hDJ hct hsx hz hm h2 KK
      have hx : x < xn X := by omega
      have hdx := h2 x hx
      have hbx := hDJ.1 x hx
      have hKb : K * 405505 ≤ 1999 * 405505 := Nat.mul_le_mul_right _ (by omega)
      have hsb : ∀ s, sv = s + 1 → (gA μ1 13) s ≤ K * 405505 + 1 := fun s e => hDJ.1 s (by omega)
      refine v_iload (i := 6) dX3_back_83 rfl ?_
      refine v_aload_n (i := 0) dX3_back_85 rfl rfl ?_
      refine go_get0 hMo KX3 9 (by decide) rfl (xn X) ((hMK.1 9).trans x1) q290 dX3_back_86 ?_
      refine vn_icmp_ge (tgt := 137) dX3_back_89 rfl (by omega) (by omega) (fun c89 => ?_) (fun c89 => ?_)
      · exact absurd (show xn X ≤ x from c89) (by omega)
      · refine v_aload_n (i := 0) dX3_back_92 rfl rfl ?_
        refine go_getA hMo KX3 19 (by decide) (by decide) q303 dX3_back_93 ?_
        refine v_iload (i := 6) dX3_back_96 rfl ?_
        refine go_ld12 hMo 19 (by decide) rfl (show _ < 2000 from (by omega)) (by decide) _ rfl dX3_back_98 ?_
        refine vn_if_ne (tgt := 131) dX3_back_99 rfl (by omega) (fun c99 => ?_) (fun c99 => ?_)
        · refine vn_iinc 1 dX3_back_131 rfl k_iconst_1 (by decide) rfl ?_
          refine v_goto (tgt := 83) dX3_back_134 rfl ?_
          refine ih (x + 1) sv K η μ1 _ (by omega) hMo hJ hQ h0 hMK hK hDJ hct (by omega) (fun sz y hy hd => ?_) (fun s0 e0 => ?_) h2 KK
          · by_cases c : y = x
            · exact absurd (c ▸ hd) (by omega)
            · exact hz sz y (by omega) hd
          · obtain ⟨r1, r2, r3⟩ := hm s0 e0
            refine ⟨r1, r2, fun y hy hd hf => ?_⟩
            by_cases c : y = x
            · exact absurd (c ▸ hd) (by omega)
            · exact r3 y (by omega) hd hf
        · refine v_aload_n (i := 2) dX3_back_102 rfl rfl ?_
          refine v_iload (i := 6) dX3_back_103 rfl ?_
          refine go_ld11 hMo 13 (by decide) rfl (show _ < 2000 from (by omega)) (by decide) _ rfl dX3_back_105 ?_
          refine v_iconst (v := -1) dX3_back_106 k_iconst_m1 ?_
          refine vo_icmp_eq (tgt := 131) dX3_back_107 rfl (by omega) (fun c107 => ?_) (fun c107 => ?_)
          · refine vn_iinc 1 dX3_back_131 rfl k_iconst_1 (by decide) rfl ?_
            refine v_goto (tgt := 83) dX3_back_134 rfl ?_
            refine ih (x + 1) sv K η μ1 _ (by omega) hMo hJ hQ h0 hMK hK hDJ hct (by omega) (fun sz y hy hd => ?_) (fun s0 e0 => ?_) h2 KK
            · by_cases c : y = x
              · rw [c]; omega
              · exact hz sz y (by omega) hd
            · obtain ⟨r1, r2, r3⟩ := hm s0 e0
              refine ⟨r1, r2, fun y hy hd hf => ?_⟩
              by_cases c : y = x
              · exact absurd (c ▸ hf) (by omega)
              · exact r3 y (by omega) hd hf
          · refine v_iload (i := 5) dX3_back_110 rfl ?_
            refine v_iconst (v := -1) dX3_back_112 k_iconst_m1 ?_
            refine vo_icmp_eq (tgt := 127) dX3_back_113 rfl (by omega) (fun c113 => ?_) (fun c113 => ?_)
            · refine v_iload (i := 6) dX3_back_127 rfl ?_
              refine v_istore (i := 5) dX3_back_129 (by decide) rfl ?_
              refine vn_iinc 1 dX3_back_131 rfl k_iconst_1 (by decide) rfl ?_
              refine v_goto (tgt := 83) dX3_back_134 rfl ?_
              refine ih (x + 1) (x + 1) K η μ1 _ (by omega) hMo hJ hQ h0 hMK hK hDJ hct (Nat.le_refl _) (fun z => absurd z (by omega)) (fun s0 e0 => ?_) h2 KK
              have e0 : s0 = x := by omega
              subst e0
              refine ⟨by omega, by omega, fun y hy hd hf => ?_⟩
              by_cases c : y = s0
              · rw [c]; exact Nat.le_refl _
              · exact absurd (hz c113 y (by omega) hd) hf
            · obtain ⟨s, rfl⟩ : ∃ s, sv = s + 1 := ⟨sv - 1, by omega⟩
              obtain ⟨q1, q2, q3⟩ := hm s rfl
              have hsb := hsb s rfl
              refine v_aload_n (i := 2) dX3_back_116 rfl rfl ?_
              refine v_iload (i := 6) dX3_back_117 rfl ?_
              refine go_ld11 hMo 13 (by decide) rfl (show _ < 2000 from (by omega)) (by decide) _ rfl dX3_back_119 ?_
              refine v_aload_n (i := 2) dX3_back_120 rfl rfl ?_
              refine v_iload (i := 5) dX3_back_121 rfl ?_
              refine go_ld11 hMo 13 (by decide) rfl (show _ < 2000 from (by omega)) (by decide) _ rfl dX3_back_123 ?_
              refine voo_icmp_ge (tgt := 131) dX3_back_124 rfl (by omega) (by omega) (fun c124 => ?_) (fun c124 => ?_)
              · refine vn_iinc 1 dX3_back_131 rfl k_iconst_1 (by decide) rfl ?_
                refine v_goto (tgt := 83) dX3_back_134 rfl ?_
                refine ih (x + 1) (s + 1) K η μ1 _ (by omega) hMo hJ hQ h0 hMK hK hDJ hct (by omega) (fun sz y hy hd => ?_) (fun s0 e0 => ?_) h2 KK
                · by_cases c : y = x
                  · exact absurd sz (by omega)
                  · exact hz sz y (by omega) hd
                · obtain ⟨r1, r2, r3⟩ := hm s0 e0
                  refine ⟨r1, r2, fun y hy hd hf => ?_⟩
                  by_cases c : y = x
                  · have e0 : s0 = s := by omega
                    subst e0
                    rw [c]; omega
                  · exact r3 y (by omega) hd hf
              · refine v_iload (i := 6) dX3_back_127 rfl ?_
                refine v_istore (i := 5) dX3_back_129 (by decide) rfl ?_
                refine vn_iinc 1 dX3_back_131 rfl k_iconst_1 (by decide) rfl ?_
                refine v_goto (tgt := 83) dX3_back_134 rfl ?_
                refine ih (x + 1) (x + 1) K η μ1 _ (by omega) hMo hJ hQ h0 hMK hK hDJ hct (Nat.le_refl _) (fun z => absurd z (by omega)) (fun s0 e0 => ?_) h2 KK
                have e0 : s0 = x := by omega
                subst e0
                refine ⟨by omega, by omega, fun y hy hd hf => ?_⟩
                by_cases c : y = s0
                · rw [c]; exact Nat.le_refl _
                · exact Nat.le_trans (Nat.le_of_lt (by omega)) (q3 y (by omega) hd hf)
  have L68 : ∀ (pl n K : Nat) (η : AH) (μ1 : MS) (z5 z6 z7 : Option Value), K + n = xn X → GO scX3 η (some t) m adm μ1 → (∃ lw, Jd η (t + 1) j q w τ hd ld wo lw) → P0 η (t + 2) q w → Kp t (t + 4) η0 η → MBk 13 μ μ1 → DJ X (glT τ X) (Wq τ X 1) 405505 K 0 0 (gA μ1 19) (gA μ1 13) → cntN (gA μ1 19) (xn X) = K → (∀ y, y < xn X → gA μ1 19 y < 2) → V G Γ yX3_back cX3_back 8 none [] 5 (rv fun η => ∃ μ2, ME η t m w j q adm τ hd ld wo μ2 ∧ Kp t (t + 4) η0 η ∧ MBk 13 μ μ2 ∧ EQd X (glT τ X) (Wq τ X 1) (gA μ2 13) ∧ ∀ x, x < xn X → gA μ2 13 x ≤ 811415505) (0) (0) (η) 68 [some (.ref m), some (.int (nI 1)), some (.ref (adm 13)), some (.ref pl), some (.int (nI K)), z5, z6, z7] [] := by
    intro pl n
    induction n with
    | zero =>
      intro K η μ1 z5 z6 z7 hn hMo hJ hQ h0 hMK hDJ hct h2
      have eK : K = xn X := by omega
      subst eK
      have hn2 := x3.1
      refine v_iload (i := 4) dX3_back_68 rfl ?_
      refine v_aload_n (i := 0) dX3_back_70 rfl rfl ?_
      refine go_get0 hMo KX3 9 (by decide) rfl (xn X) ((hMK.1 9).trans x1) q290 dX3_back_71 ?_
      refine vn_icmp_ge (tgt := 237) dX3_back_74 rfl (by omega) (by omega) (fun c74 => ?_) (fun c74 => ?_)
      · exact v_vret rfl dX3_back_237 (by
          refine ⟨rfl, μ1, ⟨hMo, (hMK.1 0).trans m0, (hMK.1 1).trans m1, hJ, hQ⟩, h0, hMK, hDJ.fin hw hWp (fun y hy hd => absurd hd (cntN_all hct y hy)), fun x hx => ?_⟩
          have hb := hDJ.1 x hx
          have hKb : xn X * 405505 ≤ 2000 * 405505 := Nat.mul_le_mul_right _ (by omega)
          omega)
      · exact absurd (show xn X < xn X from c74) (by omega)
    | succ n ih =>
      intro K η μ1 z5 z6 z7 hn hMo hJ hQ h0 hMK hDJ hct h2
      have hn2 := x3.1
      refine v_iload (i := 4) dX3_back_68 rfl ?_
      refine v_aload_n (i := 0) dX3_back_70 rfl rfl ?_
      refine go_get0 hMo KX3 9 (by decide) rfl (xn X) ((hMK.1 9).trans x1) q290 dX3_back_71 ?_
      refine vn_icmp_ge (tgt := 237) dX3_back_74 rfl (by omega) (by omega) (fun c74 => ?_) (fun c74 => ?_)
      · exact absurd (show xn X ≤ K from c74) (by omega)
      · refine v_iconst (v := -1) dX3_back_77 k_iconst_m1 ?_
        refine v_istore (i := 5) dX3_back_78 (by decide) rfl ?_
        refine v_iconst (v := nI 0) dX3_back_80 k_iconst_0 ?_
        refine v_istore (i := 6) dX3_back_81 (by decide) rfl ?_
        refine L83 pl (xn X) 0 0 K η μ1 _ (by omega) hMo hJ hQ h0 hMK (by omega) hDJ hct (Nat.le_refl _) (fun _ y hy => absurd hy (by omega)) (fun s e => absurd e (by omega)) h2 ?_
        intro η μ1 z5 z6 z7 hMo hJ hQ h0 hMK hDJ hct h2
        refine vn_iinc 1 dX3_back_231 rfl k_iconst_1 (by decide) rfl ?_
        refine v_goto (tgt := 68) dX3_back_234 rfl ?_
        exact ih (K + 1) η μ1 z5 z6 z7 (by omega) hMo hJ hQ h0 hMK hDJ hct h2
  have L15 : ∀ (pl n i : Nat) (η : AH) (μ1 : MS), i + n = xn X → GO scX3 η (some t) m adm μ1 → (∃ lw, Jd η (t + 1) j q w τ hd ld wo lw) → P0 η (t + 2) q w → Kp t (t + 4) η0 η → MBk 13 μ μ1 → Wd G η w τ → P0 η (t + 3) pl w → (∀ y, y < i → ((glT τ X) y → (gA μ1 13) y = 1) ∧ (¬ (glT τ X) y → (gA μ1 13) y = 0)) → (∀ y, y < i → (gA μ1 19) y = 0) → V G Γ yX3_back cX3_back 8 none [] 5 (rv fun η => ∃ μ2, ME η t m w j q adm τ hd ld wo μ2 ∧ Kp t (t + 4) η0 η ∧ MBk 13 μ μ2 ∧ EQd X (glT τ X) (Wq τ X 1) (gA μ2 13) ∧ ∀ x, x < xn X → gA μ2 13 x ≤ 811415505) (0) (0) (η) 15 [some (.ref m), some (.int (nI 1)), some (.ref (adm 13)), some (.ref pl), some (.int (nI i)), none, none, none] [] := by
    intro pl n
    induction n with
    | zero =>
      intro i η μ1 hn hMo hJ hQ h0 hMK hW hP hF1 hF2
      have ei : i = xn X := by omega
      subst ei
      have hn2 := x3.1
      refine v_iload (i := 4) dX3_back_15 rfl ?_
      refine v_aload_n (i := 0) dX3_back_17 rfl rfl ?_
      refine go_get0 hMo KX3 9 (by decide) rfl (xn X) ((hMK.1 9).trans x1) q290 dX3_back_18 ?_
      refine vn_icmp_ge (tgt := 65) dX3_back_21 rfl (by omega) (by omega) (fun c21 => ?_) (fun c21 => ?_)
      · refine v_iconst (v := nI 0) dX3_back_65 k_iconst_0 ?_
        refine v_istore (i := 4) dX3_back_66 (by decide) rfl ?_
        exact L68 pl (xn X) 0 η μ1 none none none (by omega) hMo hJ hQ h0 hMK (DJ.beg hF2 hF1 hw) (cntN_0 hF2) (fun y hy => by rw [hF2 y hy]; decide)
      · exact absurd (show xn X < xn X from c21) (by omega)
    | succ n ih =>
      intro i η μ1 hn hMo hJ hQ h0 hMK hW hP hF1 hF2
      have hn2 := x3.1
      have hi : i < xn X := by omega
      have x5i := x5 i hi
      refine v_iload (i := 4) dX3_back_15 rfl ?_
      refine v_aload_n (i := 0) dX3_back_17 rfl rfl ?_
      refine go_get0 hMo KX3 9 (by decide) rfl (xn X) ((hMK.1 9).trans x1) q290 dX3_back_18 ?_
      refine vn_icmp_ge (tgt := 65) dX3_back_21 rfl (by omega) (by omega) (fun c21 => ?_) (fun c21 => ?_)
      · exact absurd (show xn X ≤ i from c21) (by omega)
      · refine v_aload_n (i := 3) dX3_back_24 rfl rfl ?_
        refine v_aload_n (i := 0) dX3_back_25 rfl rfl ?_
        refine go_getA hMo KX3 2 (by decide) (by decide) q280 dX3_back_26 ?_
        refine v_iload (i := 4) dX3_back_29 rfl ?_
        refine go_ld10 hMo 2 (by decide) rfl (show _ < 2000 from (by omega)) (by decide) _ ((congrFun (hMK.2 2 (by decide) (by decide)) i).trans x5i.1) dX3_back_31 ?_
        refine v_callVe (cP_read hW hP (xst X i)) (lw_V q705 q706 q707 q135 q708) iX7_read rfl KX7 hP.rcv rfl rfl (by decide) (by decide) (Nat.le_of_ble_eq_true rfl) (Nat.le_refl _) (Nat.le_refl _) dX3_back_32 (kr_W (fun η h => ?_)) kx_W
        obtain ⟨hP, hk⟩ := h
        have h0 := h0.th hk (by omega) (by omega)
        have hW := hW.kp hk
        have hQ := hQ.kp hk (by omega)
        obtain ⟨lw, hJ⟩ := hJ
        have hJ := hJ.kp hk (by omega)
        have hJ : ∃ lw, Jd _ (t + 1) j q w τ hd ld wo lw := ⟨lw, hJ⟩
        have hMo := hMo.kpS hk (by omega)
        refine v_aload_n (i := 2) dX3_back_35 rfl rfl ?_
        refine v_iload (i := 4) dX3_back_36 rfl ?_
        refine v_aload_n (i := 3) dX3_back_38 rfl rfl ?_
        refine v_callVe (cP_isGoal hW hP) (lw_V q777 q778 q779 q135 q780) iX7_isGoal rfl KX7 hP.rcv rfl rfl (by decide) (by decide) (Nat.le_of_ble_eq_true rfl) (Nat.le_refl _) (Nat.le_refl _) dX3_back_39 (kr_ei ?_) kx_e
        refine vn_if_eq (tgt := 49) dX3_back_42 rfl (by split <;> decide) (fun c42 => ?_) (fun c42 => ?_)
        · have hg : ¬ glT τ X i := fun hg => absurd ((if_pos hg).symm.trans c42) (by decide)
          refine v_iconst (v := -1) dX3_back_49 k_iconst_m1 ?_
          refine go_st11m hMo 13 (by decide) rfl (show _ < 2000 from (by omega)) (by decide) dX3_back_50 (fun η hMo hk => ?_)
          have h0 := h0.th hk (by omega) (by omega)
          have hW := hW.kp hk
          have hQ := hQ.kp hk (by omega)
          obtain ⟨lw, hJ⟩ := hJ
          have hJ := hJ.kp hk (by omega)
          have hJ : ∃ lw, Jd _ (t + 1) j q w τ hd ld wo lw := ⟨lw, hJ⟩
          have hP := hP.kp hk (by omega)
          refine v_aload_n (i := 0) dX3_back_51 rfl rfl ?_
          refine go_getA hMo KX3 19 (by decide) (by decide) q303 dX3_back_52 ?_
          refine v_iload (i := 4) dX3_back_55 rfl ?_
          refine v_iconst (v := nI 0) dX3_back_57 k_iconst_0 ?_
          refine go_st12 hMo 19 (by decide) rfl (show _ < 2000 from (by omega)) (by decide) (by decide) dX3_back_58 (fun η hMo hk => ?_)
          have h0 := h0.th hk (by omega) (by omega)
          have hW := hW.kp hk
          have hQ := hQ.kp hk (by omega)
          obtain ⟨lw, hJ⟩ := hJ
          have hJ := hJ.kp hk (by omega)
          have hJ : ∃ lw, Jd _ (t + 1) j q w τ hd ld wo lw := ⟨lw, hJ⟩
          have hP := hP.kp hk (by omega)
          refine vn_iinc 1 dX3_back_59 rfl k_iconst_1 (by decide) rfl ?_
          refine v_goto (tgt := 15) dX3_back_62 rfl ?_
          refine ih (i + 1) η _ (by omega) hMo hJ hQ h0 ((hMK.st (Or.inl rfl)).st (Or.inr rfl)) hW hP.p0 (fun y hy => ?_) (fun y hy => ?_)
          · show ((glT τ X) y → va_up (gA μ1 13) i 0 y = 1) ∧ (¬ (glT τ X) y → va_up (gA μ1 13) i 0 y = 0)
            by_cases c : y = i
            · subst c
              rw [va_up_e]
              exact ⟨fun z => absurd z hg, fun _ => rfl⟩
            · rw [va_up_n c]; exact hF1 y (by omega)
          · show va_up (gA μ1 19) i 0 y = 0
            by_cases c : y = i
            · rw [c, va_up_e]
            · rw [va_up_n c]; exact hF2 y (by omega)
        · have hg : glT τ X i := by by_cases hg : setN (xst X i) (tN τ 29 - 1) (tN τ 30) = 2 ^ tN τ 30 - 1; exact hg; exact absurd (if_neg hg) c42
          refine v_iconst (v := nI 0) dX3_back_45 k_iconst_0 ?_
          refine v_goto (tgt := 50) dX3_back_46 rfl ?_
          refine go_st11n hMo 13 (by decide) rfl (show _ < 2000 from (by omega)) (by decide) dX3_back_50 (fun η hMo hk => ?_)
          have h0 := h0.th hk (by omega) (by omega)
          have hW := hW.kp hk
          have hQ := hQ.kp hk (by omega)
          obtain ⟨lw, hJ⟩ := hJ
          have hJ := hJ.kp hk (by omega)
          have hJ : ∃ lw, Jd _ (t + 1) j q w τ hd ld wo lw := ⟨lw, hJ⟩
          have hP := hP.kp hk (by omega)
          refine v_aload_n (i := 0) dX3_back_51 rfl rfl ?_
          refine go_getA hMo KX3 19 (by decide) (by decide) q303 dX3_back_52 ?_
          refine v_iload (i := 4) dX3_back_55 rfl ?_
          refine v_iconst (v := nI 0) dX3_back_57 k_iconst_0 ?_
          refine go_st12 hMo 19 (by decide) rfl (show _ < 2000 from (by omega)) (by decide) (by decide) dX3_back_58 (fun η hMo hk => ?_)
          have h0 := h0.th hk (by omega) (by omega)
          have hW := hW.kp hk
          have hQ := hQ.kp hk (by omega)
          obtain ⟨lw, hJ⟩ := hJ
          have hJ := hJ.kp hk (by omega)
          have hJ : ∃ lw, Jd _ (t + 1) j q w τ hd ld wo lw := ⟨lw, hJ⟩
          have hP := hP.kp hk (by omega)
          refine vn_iinc 1 dX3_back_59 rfl k_iconst_1 (by decide) rfl ?_
          refine v_goto (tgt := 15) dX3_back_62 rfl ?_
          refine ih (i + 1) η _ (by omega) hMo hJ hQ h0 ((hMK.st (Or.inl rfl)).st (Or.inr rfl)) hW hP.p0 (fun y hy => ?_) (fun y hy => ?_)
          · show ((glT τ X) y → va_up (gA μ1 13) i 1 y = 1) ∧ (¬ (glT τ X) y → va_up (gA μ1 13) i 1 y = 0)
            by_cases c : y = i
            · subst c
              rw [va_up_e]
              exact ⟨fun _ => rfl, fun z => absurd hg z⟩
            · rw [va_up_n c]; exact hF1 y (by omega)
          · show va_up (gA μ1 19) i 0 y = 0
            by_cases c : y = i
            · rw [c, va_up_e]
            · rw [va_up_n c]; exact hF2 y (by omega)
  have h0 : Kp t (t + 4) η0 η0 := Kp.rf
  have hMK := MBk.rf 13 μ
  refine v_nw (t + 3) KX7 q693 q503 q135 (by omega) (by omega) dX3_back_0 (fun qP η hqP hη hk => ?_)
  have hPo : GO (8, 4, kzX7, lnX7) η (some (t + 3)) qP (fun _ => 0) (zS kdX7) := by rw [hη]; exact bornX7
  have h0 := h0.th hk (by omega) (by omega)
  have hW := hW.kp hk
  have hQ := hQ.kp hk (by omega)
  obtain ⟨lw, hJ⟩ := hJ
  have hJ := hJ.kp hk (by omega)
  have hJ : ∃ lw, Jd _ (t + 1) j q w τ hd ld wo lw := ⟨lw, hJ⟩
  have hMo := hMo.kpS hk (by omega)
  refine v_dup dX3_back_3 rfl ?_
  refine v_aload_n (i := 0) dX3_back_4 rfl rfl ?_
  refine go_get3 hMo KX3 0 (by decide) rfl (w) (show gN μ 0 = w + 1 from m0) q278 dX3_back_5 ?_
  refine v_callI (kc' := 0) (ks' := 0) (cP_init hPo) (lw_meth q506) q135 q694 q505 rfl iX7_init rfl rfl (by decide) (by decide) (Nat.le_of_ble_eq_true rfl) (by decide) (by decide) dX3_back_8 (kr_W (fun η h => ?_)) kx_W
  obtain ⟨hPo, hk⟩ := h
  have h0 := h0.th hk (by omega) (by omega)
  have hW := hW.kp hk
  have hQ := hQ.kp hk (by omega)
  obtain ⟨lw, hJ⟩ := hJ
  have hJ := hJ.kp hk (by omega)
  have hJ : ∃ lw, Jd _ (t + 1) j q w τ hd ld wo lw := ⟨lw, hJ⟩
  have hMo := hMo.kpS hk (by omega)
  refine v_astore_n (i := 3) dX3_back_11 rfl (by decide) rfl ?_
  refine v_iconst (v := nI 0) dX3_back_12 k_iconst_0 ?_
  refine v_istore (i := 4) dX3_back_13 (by decide) rfl ?_
  exact L15 qP (xn X) 0 η μ (by omega) hMo hJ hQ h0 hMK hW hPo (fun y hy => absurd hy (by omega)) (fun y hy => absurd hy (by omega))
