theorem cM_expression {G : Gl} {m : Nat} {ad : Nat → Nat} {η0 : AH} (hap : Mp m ad) (σ : MS) (hP : PO σ) (p : Nat) (hp : p ≤ gN σ 21) (hg : gN σ 19 = 0) (hT : gN σ 30 ≤ 8) (hl : ∀ t, t < 8 → gA σ 40 t < 2147483648) (hlo : 2 * gN σ 34 ≤ 3 * p) : Ct G yX8_expression cX8_expression 4 (some .int) 6 0 0 [.ref m] (MH m ad (TS σ p) η0) (ri fun rt η => rt = nI (gN σ 34) ∧ (∀ p2 f, exM (tq σ) (gA σ 40) (gN σ 30) p = .ok (p2, f) → p2 ≤ gN σ 21 ∧ ∃ rd r wt wn dp td, η = MH m ad (XS σ p2 rd (gN σ 34 + r.length + 1) wt wn dp td) η0 ∧ pN rd (gN σ 34) (0 :: r) ∧ Sm r [f] ∧ (∀ i, i < gN σ 34 → rd i = gA σ 46 i) ∧ 2 * (gN σ 34 + r.length + 1) ≤ 3 * p2 + 3) ∧ ∀ k q, exM (tq σ) (gA σ 40) (gN σ 30) p = .error (k, q) → k < 2147483648 ∧ ¬ k = 0 ∧ q ≤ gN σ 21 ∧ ∃ rd tp wt wn dp td, η = MH m ad (XS (flt σ k (tq σ q 24)) q rd tp wt wn dp td) η0) := by
  refine Ct.start rfl rfl (Nat.le_of_ble_eq_true rfl) (fun Γ => ?_)
  generalize hR : exM (tq σ) (gA σ 40) (gN σ 30) p = R
  have hz7 := hP.1
  have hTK := tq_TKo hP
  have h26 : ∀ p, p ≤ gN σ 21 → tq σ p 26 < 2147483648 := fun p hp => by have := (tq_b hP hp).2.2.2.2.1; omega
  have LE : ∀ (k q : Nat) (η : AH) (z3 : Option Value), R = .error (k, q) → XE m ad η0 σ k q η → V G Γ yX8_expression cX8_expression 4 (some .int) [] 6 (ri fun rt η => rt = nI (gN σ 34) ∧ (∀ p2 f, R = .ok (p2, f) → p2 ≤ gN σ 21 ∧ ∃ rd r wt wn dp td, η = MH m ad (XS σ p2 rd (gN σ 34 + r.length + 1) wt wn dp td) η0 ∧ pN rd (gN σ 34) (0 :: r) ∧ Sm r [f] ∧ (∀ i, i < gN σ 34 → rd i = gA σ 46 i) ∧ 2 * (gN σ 34 + r.length + 1) ≤ 3 * p2 + 3) ∧ ∀ k q, R = .error (k, q) → k < 2147483648 ∧ ¬ k = 0 ∧ q ≤ gN σ 21 ∧ ∃ rd tp wt wn dp td, η = MH m ad (XS (flt σ k (tq σ q 24)) q rd tp wt wn dp td) η0) 0 0 (η) 35 [some (.ref m), some (.int (nI (gN σ 34))), some (.int (nI 1)), z3] [] := by
    intro k q η z3 hRe hx
    obtain ⟨hk1, hk2, hq, rd, tp, wt, ops, dp, td, rfl, hw, ho, hb1, hb2⟩ := hx
    have dl := drL_len 0 ops []
    refine v_iload_n (i := 2) dX8_expression_35 rfl rfl ?_
    refine vn_if_eq (tgt := 357) dX8_expression_36 rfl (by decide) (fun c36 => ?_) (fun c36 => ?_)
    · exact absurd c36 (by decide)
    · refine v_aload_n (i := 0) dX8_expression_39 rfl rfl ?_
      refine v_callVi (cM_goodB hap (XS (flt σ k (tq σ q 24)) q rd tp wt (ops.length) dp td) hk2 hk1) (lw_V q2229 q2231 qs61 q136 q2232) iX8_isGood rfl KX8 MH_m rfl rfl (by decide) (by decide) (Nat.le_of_ble_eq_true rfl) dX8_expression_40 ?_
      refine vn_if_eq (tgt := 357) dX8_expression_43 rfl (by decide) (fun c43 => ?_) (fun c43 => ?_)
      · refine v_aload_n (i := 0) dX8_expression_357 rfl rfl ?_
        refine v_callVi (cM_goodB hap (XS (flt σ k (tq σ q 24)) q rd tp wt (ops.length) dp td) hk2 hk1) (lw_V q2229 q2231 qs61 q136 q2232) iX8_isGood rfl KX8 MH_m rfl rfl (by decide) (by decide) (Nat.le_of_ble_eq_true rfl) dX8_expression_358 ?_
        refine vn_if_eq (tgt := 377) dX8_expression_361 rfl (by decide) (fun c361 => ?_) (fun c361 => ?_)
        · refine v_aload_n (i := 0) dX8_expression_377 rfl rfl ?_
          refine v_iconst (v := nI 0) dX8_expression_378 k_iconst_0 ?_
          refine v_callVW (kc' := 0) (ks' := 0) (cM_drops hap (flt σ k (tq σ q 24)) q tp 0 (by decide) wt dp td rd ops [] (by first | omega | (simp; omega)) hb2 ho hw trivial) (lw_V q2301 q2303 qs79 q136 q2304) iX8_drops rfl KX8 MH_m rfl rfl (by decide) (by decide) (Nat.le_of_ble_eq_true rfl) (by decide) (by decide) dX8_expression_379 (fun η' h => ?_)
          obtain ⟨rd2, rfl, -, -⟩ := h
          refine v_aload_n (i := 0) dX8_expression_382 rfl rfl ?_
          refine v_iconst (v := nI 0) dX8_expression_383 k_iconst_0 ?_
          refine v_callVv (cM_putsX hap (flt σ k (tq σ q 24)) q rd2 (tp + (drL 0 ops []).2.length) wt (drL 0 ops []).1.length dp td 0 (by first | omega | (simp at dl; omega))) (lw_V q2297 q2299 qs78 q136 q2300) iX8_puts rfl KX8 MH_m rfl rfl (by decide) (by decide) (Nat.le_of_ble_eq_true rfl) dX8_expression_384 ?_
          refine v_iload_n (i := 1) dX8_expression_387 rfl rfl ?_
          exact v_iret rfl dX8_expression_388 ⟨_, rfl, rfl, fun _ _ e => (by rw [hRe] at e; cases e), fun k' q' e => (by rw [hRe] at e; cases e; exact ⟨hk1, hk2, hq, _, _, _, _, _, _, rfl⟩)⟩
        · exact absurd rfl c361
      · exact absurd rfl c43
  have L : ∀ (n p : Nat) (rd : Nat → Nat) (r : List Nat) (wt : Nat → Nat) (ops : List Nat) (fs : List Fn) (t : Nat) (ts : List Nat) (td : Nat → Nat) (z3 : Option Value), opr (tq σ) (gA σ 40) (gN σ 30) n p ops fs (t :: ts) = R → gN σ 21 < n + p → p ≤ gN σ 21 → Sm r fs → fs.length = nb ops + 1 → (∀ a ∈ ops, 3 ≤ a ∧ a < 13) → n12 ops = ts.length → pN rd (gN σ 34) r → pN wt 0 ops → pN td 1 (t :: ts) → ts.length ≤ 5 → ops.length ≤ p → 2 * (gN σ 34 + r.length + ops.length) ≤ 3 * p + 1 → (∀ i, i < gN σ 34 → rd i = gA σ 46 i) → (∀ x ∈ t :: ts, x < 2) → V G Γ yX8_expression cX8_expression 4 (some .int) [] 6 (ri fun rt η => rt = nI (gN σ 34) ∧ (∀ p2 f, R = .ok (p2, f) → p2 ≤ gN σ 21 ∧ ∃ rd r wt wn dp td, η = MH m ad (XS σ p2 rd (gN σ 34 + r.length + 1) wt wn dp td) η0 ∧ pN rd (gN σ 34) (0 :: r) ∧ Sm r [f] ∧ (∀ i, i < gN σ 34 → rd i = gA σ 46 i) ∧ 2 * (gN σ 34 + r.length + 1) ≤ 3 * p2 + 3) ∧ ∀ k q, R = .error (k, q) → k < 2147483648 ∧ ¬ k = 0 ∧ q ≤ gN σ 21 ∧ ∃ rd tp wt wn dp td, η = MH m ad (XS (flt σ k (tq σ q 24)) q rd tp wt wn dp td) η0) 0 0 (MH m ad (XS σ p rd (gN σ 34 + r.length) wt (ops.length) ((t :: ts).length) td) η0) 35 [some (.ref m), some (.int (nI (gN σ 34))), some (.int (nI 1)), z3] [] := by
    intro n
    induction n with
    | zero => intro p rd r wt ops fs t ts td z3 he h1 h2; omega
    | succ n ih =>
      intro p rd r wt ops fs t ts td z3 he h1 h2 hSm hfl ho h12 hpr hw htd h5 hop hbd hlow hx2
      have bk := kwT_le (tq σ p)
      have hlen : (t :: ts).length = ts.length + 1 := rfl
      have ho2 : ∀ a ∈ ops, a < 13 := fun a ha => (ho a ha).2
      have htt : td (ts.length + 1) = t := pN_len1 htd
      have ht2 : t < 2 := hx2 t List.mem_cons_self
      obtain ⟨b22, b23, b24, b25, b26, b27, b28⟩ := tq_b hP h2
      have hnx : ¬ tq σ p 23 = 0 → p < nx σ p := nx_gt hP h2
      have dl := fun l => drL_len l ops r
      have dk := fun l => dr_ok l ops r fs hSm hfl ho
      have L192 : ¬ kwT (tq σ p) = 15 → ¬ kwT (tq σ p) = 16 → ¬ (isS (tq σ p) 60 ∧ t = 0) → ¬ (isS (tq σ p) 61 ∧ t = 0) → ∀ z3 : Option Value, V G Γ yX8_expression cX8_expression 4 (some .int) [] 6 (ri fun rt η => rt = nI (gN σ 34) ∧ (∀ p2 f, R = .ok (p2, f) → p2 ≤ gN σ 21 ∧ ∃ rd r wt wn dp td, η = MH m ad (XS σ p2 rd (gN σ 34 + r.length + 1) wt wn dp td) η0 ∧ pN rd (gN σ 34) (0 :: r) ∧ Sm r [f] ∧ (∀ i, i < gN σ 34 → rd i = gA σ 46 i) ∧ 2 * (gN σ 34 + r.length + 1) ≤ 3 * p2 + 3) ∧ ∀ k q, R = .error (k, q) → k < 2147483648 ∧ ¬ k = 0 ∧ q ≤ gN σ 21 ∧ ∃ rd tp wt wn dp td, η = MH m ad (XS (flt σ k (tq σ q 24)) q rd tp wt wn dp td) η0) 0 0 (MH m ad (XS σ p rd (gN σ 34 + r.length) wt (ops.length) ((t :: ts).length) td) η0) 192 [some (.ref m), some (.int (nI (gN σ 34))), some (.int (nI 1)), z3] [] := by
        intro n1 n2 n3 n4 z3
        refine v_aload_n (i := 0) dX8_expression_192 rfl rfl ?_
        refine v_bipush (v := nI 43) dX8_expression_193 k_bipush_43 ?_
        refine v_callVi (cM_signX hap σ hP p h2 rd (gN σ 34 + r.length) wt ops.length (t :: ts).length td 43 (by decide)) (lw_V q2237 q2239 qs63 q136 q2240) iX8_isSign rfl KX8 MH_m rfl rfl (by decide) (by decide) (Nat.le_of_ble_eq_true rfl) dX8_expression_195 ?_
        by_cases h195 : isS (tq σ p) 43
        · rw [if_pos h195]
          have hnx := hnx (by omega)
          refine vn_if_ne (tgt := 210) dX8_expression_198 rfl (by decide) (fun c198 => ?_) (fun c198 => ?_)
          · refine v_aload_n (i := 0) dX8_expression_210 rfl rfl ?_
            refine v_iconst (v := nI 5) dX8_expression_211 k_iconst_5 ?_
            refine v_callVW (kc' := 0) (ks' := 0) (cM_drops hap σ p (gN σ 34) 5 (by decide) wt (t :: ts).length td rd ops r (by omega) (by omega) ho2 hw hpr) (lw_V q2301 q2303 qs79 q136 q2304) iX8_drops rfl KX8 MH_m rfl rfl (by decide) (by decide) (Nat.le_of_ble_eq_true rfl) (by decide) (by decide) dX8_expression_212 (fun η' h => ?_)
            obtain ⟨rd2, rfl, hpr2, hlow2⟩ := h
            have dle := drL_le 5 ops r
            have dl := dl 5
            obtain ⟨dk1, dk2, dk3⟩ := dk 5
            have hK : opK (tq σ p) t = 8 := by unfold opK; rw [if_neg n1, if_neg n2, if_neg n3, if_neg n4, if_pos h195]
            have hM := (opr_op (T := tq σ) (lt := gA σ 40) (nT := gN σ 30) (n := n) (ops := ops) (fs := fs) (ts := t :: ts) hK (by decide)).symm.trans he
            have hdin : ∀ x ∈ (drL 5 ops r).1, x ∈ ops := by rw [dk2]; exact drF_in 5 ops fs
            have hwn : pN wt 0 (drL 5 ops r).1 := drL_pN hw
            refine v_aload_n (i := 0) dX8_expression_215 rfl rfl ?_
            refine v_aload_n (i := 0) dX8_expression_216 rfl rfl ?_
            refine v_bipush (v := nI 43) dX8_expression_217 k_bipush_43 ?_
            refine v_callVi (cM_signY hap σ hP p h2 rd2 (gN σ 34 + (drL 5 ops r).2.length) wt (drL 5 ops r).1.length (t :: ts).length td 43 (by decide) h195) (lw_V q2237 q2239 qs63 q136 q2240) iX8_isSign rfl KX8 MH_m rfl rfl (by decide) (by decide) (Nat.le_of_ble_eq_true rfl) dX8_expression_219 ?_
            refine vn_if_eq (tgt := 230) dX8_expression_222 rfl (by decide) (fun c222 => ?_) (fun c222 => ?_)
            · exact absurd c222 (by decide)
            · refine v_bipush (v := nI 8) dX8_expression_225 k_bipush_8 ?_
              refine v_goto (tgt := 232) dX8_expression_227 rfl ?_
              refine v_callVv (cM_waitX hap σ p rd2 (gN σ 34 + (drL 5 ops r).2.length) wt (drL 5 ops r).1.length (t :: ts).length td 8 (by omega)) (lw_V q2289 q2291 qs76 q136 q2292) iX8_waitsFor rfl KX8 MH_m rfl rfl (by decide) (by decide) (Nat.le_of_ble_eq_true rfl) dX8_expression_232 ?_
              refine v_aload_n (i := 0) dX8_expression_235 rfl rfl ?_
              refine v_callVv (cM_goesX hap σ hP p h2 rd2 (gN σ 34 + (drL 5 ops r).2.length) (va_up wt (drL 5 ops r).1.length 8) ((drL 5 ops r).1.length + 1) (t :: ts).length (td)) (lw_V q2201 q2203 qs57 q136 q2204) iX8_goes rfl KX8 MH_m rfl rfl (by decide) (by decide) (Nat.le_of_ble_eq_true rfl) dX8_expression_236 ?_
              refine v_aload_n (i := 0) dX8_expression_239 rfl rfl ?_
              refine v_iconst (v := nI 0) dX8_expression_240 k_iconst_0 ?_
              refine v_callVW (kc' := 0) (ks' := 0) (cM_operand hap σ hP (nx σ p) b22 hg rd2 (gN σ 34 + (drL 5 ops r).2.length) (va_up wt (drL 5 ops r).1.length 8) (8 :: (drL 5 ops r).1) (t :: ts) (td) hT hl (by have := pN_push (v := 8) hwn; rwa [Nat.zero_add] at this) htd (by first | omega | (simp; omega)) (by first | omega | (simp; omega)) (by first | omega | (simp; omega)) (fun x hx => by rcases List.mem_cons.mp hx with rfl | hx; exact (by decide); exact ho2 x (hdin x hx)) 0 (by decide)) (lw_V q2285 q2287 qs75 q136 q2288) iX8_operand rfl KX8 MH_m rfl rfl (by decide) (by decide) (Nat.le_of_ble_eq_true rfl) (by decide) (by decide) dX8_expression_241 (fun η' h => ?_)
              obtain ⟨hy, hn⟩ := h
              by_cases h241 : ∃ z, opd (tq σ) (gA σ 40) (gN σ 30) 701 0 0 (nx σ p) (8 :: (drL 5 ops r).1) (t :: ts) = .ok z
              · obtain ⟨⟨p3, ops3, ts3, c3⟩, hz⟩ := h241
                obtain ⟨wt3, td3, hw3, htd3, rfl⟩ := hy p3 ops3 ts3 c3 hz
                obtain ⟨a1, a2, a3, a4, a5, a6, a7, a8, a9, a10⟩ := opd_inv hTK hT h26 701 0 0 (nx σ p) _ _ p3 ops3 ts3 c3 b22 hz
                rw [dk2] at hz
                have hM2 : _ = R := (andT_ok hz).symm.trans hM
                have n12d : n12 (drL 5 ops r).1 = n12 ops := by rw [dk2]; exact drF_n12 5 ops fs
                have hSm3 := Sm_C dk1 a10
                have hpr3 := pN_push (v := c3.2) (pN_push (v := c3.1) hpr2)
                have hin3 : ∀ x ∈ (8 :: (drL 5 ops r).1), 3 ≤ x ∧ x < 13 := fun x hx => by rcases List.mem_cons.mp hx with rfl | hx; exact ⟨by decide, by decide⟩; exact ho x (hdin x hx)
                have hlow3 : ∀ i, i < gN σ 34 → va_up (va_up rd2 (gN σ 34 + (drL 5 ops r).2.length) c3.1) (gN σ 34 + (drL 5 ops r).2.length + 1) c3.2 i = gA σ 46 i := fun i hi => by rw [va_up_n (by omega), va_up_n (by omega), hlow2 i hi]; exact hlow i hi
                have e12 : n12 (8 :: (drL 5 ops r).1) = n12 (drL 5 ops r).1 := n12_n _ (by decide)
                have enb : nb (8 :: (drL 5 ops r).1) = nb (drL 5 ops r).1 + 1 := nb_a _ (by decide) (by decide)
                simp only [List.length_cons] at a4 a5 a6 a7
                rcases ts3 with _ | ⟨t3, ts3⟩
                · exact absurd a6 (by simp)
                refine v_goto (tgt := 354) dX8_expression_244 rfl ?_
                refine v_goto (tgt := 35) dX8_expression_354 rfl ?_
                exact ih p3 _ (c3.2 :: c3.1 :: (drL 5 ops r).2) wt3 ops3 (fC c3 :: (drF 5 ops fs).2) t3 ts3 td3 _ hM2 (by omega) a2 hSm3 (by rw [List.length_cons, dk3, a3, enb, dk2]) (a8 hin3) (by first | omega | (simp at a4; omega)) hpr3 hw3 htd3 (by first | omega | (simp at a7; omega)) (by first | omega | (simp; omega)) (by first | omega | (simp; omega)) hlow3 (a9 (fun x hx => hx2 x hx))
              · obtain ⟨ke, qe, hz⟩ := er_of h241
                have hxe := hn ke qe hz
                rw [dk2] at hz
                have hM2 : _ = R := (andT_er hz).symm.trans hM
                refine v_goto (tgt := 354) dX8_expression_244 rfl ?_
                refine v_goto (tgt := 35) dX8_expression_354 rfl ?_
                exact LE ke qe _ _ hM2.symm hxe
          · exact absurd c198 (by decide)
        · rw [if_neg h195]
          refine vn_if_ne (tgt := 210) dX8_expression_198 rfl (by decide) (fun c198 => ?_) (fun c198 => ?_)
          · exact absurd rfl c198
          · refine v_aload_n (i := 0) dX8_expression_201 rfl rfl ?_
            refine v_bipush (v := nI 45) dX8_expression_202 k_bipush_45 ?_
            refine v_callVi (cM_signX hap σ hP p h2 rd (gN σ 34 + r.length) wt ops.length (t :: ts).length td 45 (by decide)) (lw_V q2237 q2239 qs63 q136 q2240) iX8_isSign rfl KX8 MH_m rfl rfl (by decide) (by decide) (Nat.le_of_ble_eq_true rfl) dX8_expression_204 ?_
            by_cases h204 : isS (tq σ p) 45
            · rw [if_pos h204]
              have hnx := hnx (by omega)
              refine vn_if_eq (tgt := 247) dX8_expression_207 rfl (by decide) (fun c207 => ?_) (fun c207 => ?_)
              · exact absurd c207 (by decide)
              · refine v_aload_n (i := 0) dX8_expression_210 rfl rfl ?_
                refine v_iconst (v := nI 5) dX8_expression_211 k_iconst_5 ?_
                refine v_callVW (kc' := 0) (ks' := 0) (cM_drops hap σ p (gN σ 34) 5 (by decide) wt (t :: ts).length td rd ops r (by omega) (by omega) ho2 hw hpr) (lw_V q2301 q2303 qs79 q136 q2304) iX8_drops rfl KX8 MH_m rfl rfl (by decide) (by decide) (Nat.le_of_ble_eq_true rfl) (by decide) (by decide) dX8_expression_212 (fun η' h => ?_)
                obtain ⟨rd2, rfl, hpr2, hlow2⟩ := h
                have dle := drL_le 5 ops r
                have dl := dl 5
                obtain ⟨dk1, dk2, dk3⟩ := dk 5
                have hK : opK (tq σ p) t = 9 := by unfold opK; rw [if_neg n1, if_neg n2, if_neg n3, if_neg n4, if_neg h195, if_pos h204]
                have hM := (opr_op (T := tq σ) (lt := gA σ 40) (nT := gN σ 30) (n := n) (ops := ops) (fs := fs) (ts := t :: ts) hK (by decide)).symm.trans he
                have hdin : ∀ x ∈ (drL 5 ops r).1, x ∈ ops := by rw [dk2]; exact drF_in 5 ops fs
                have hwn : pN wt 0 (drL 5 ops r).1 := drL_pN hw
                refine v_aload_n (i := 0) dX8_expression_215 rfl rfl ?_
                refine v_aload_n (i := 0) dX8_expression_216 rfl rfl ?_
                refine v_bipush (v := nI 43) dX8_expression_217 k_bipush_43 ?_
                refine v_callVi (cM_signN hap σ hP p h2 rd2 (gN σ 34 + (drL 5 ops r).2.length) wt (drL 5 ops r).1.length (t :: ts).length td 43 (by decide) h195) (lw_V q2237 q2239 qs63 q136 q2240) iX8_isSign rfl KX8 MH_m rfl rfl (by decide) (by decide) (Nat.le_of_ble_eq_true rfl) dX8_expression_219 ?_
                refine vn_if_eq (tgt := 230) dX8_expression_222 rfl (by decide) (fun c222 => ?_) (fun c222 => ?_)
                · refine v_bipush (v := nI 9) dX8_expression_230 k_bipush_9 ?_
                  refine v_callVv (cM_waitX hap σ p rd2 (gN σ 34 + (drL 5 ops r).2.length) wt (drL 5 ops r).1.length (t :: ts).length td 9 (by omega)) (lw_V q2289 q2291 qs76 q136 q2292) iX8_waitsFor rfl KX8 MH_m rfl rfl (by decide) (by decide) (Nat.le_of_ble_eq_true rfl) dX8_expression_232 ?_
                  refine v_aload_n (i := 0) dX8_expression_235 rfl rfl ?_
                  refine v_callVv (cM_goesX hap σ hP p h2 rd2 (gN σ 34 + (drL 5 ops r).2.length) (va_up wt (drL 5 ops r).1.length 9) ((drL 5 ops r).1.length + 1) (t :: ts).length (td)) (lw_V q2201 q2203 qs57 q136 q2204) iX8_goes rfl KX8 MH_m rfl rfl (by decide) (by decide) (Nat.le_of_ble_eq_true rfl) dX8_expression_236 ?_
                  refine v_aload_n (i := 0) dX8_expression_239 rfl rfl ?_
                  refine v_iconst (v := nI 0) dX8_expression_240 k_iconst_0 ?_
                  refine v_callVW (kc' := 0) (ks' := 0) (cM_operand hap σ hP (nx σ p) b22 hg rd2 (gN σ 34 + (drL 5 ops r).2.length) (va_up wt (drL 5 ops r).1.length 9) (9 :: (drL 5 ops r).1) (t :: ts) (td) hT hl (by have := pN_push (v := 9) hwn; rwa [Nat.zero_add] at this) htd (by first | omega | (simp; omega)) (by first | omega | (simp; omega)) (by first | omega | (simp; omega)) (fun x hx => by rcases List.mem_cons.mp hx with rfl | hx; exact (by decide); exact ho2 x (hdin x hx)) 0 (by decide)) (lw_V q2285 q2287 qs75 q136 q2288) iX8_operand rfl KX8 MH_m rfl rfl (by decide) (by decide) (Nat.le_of_ble_eq_true rfl) (by decide) (by decide) dX8_expression_241 (fun η' h => ?_)
                  obtain ⟨hy, hn⟩ := h
                  by_cases h241 : ∃ z, opd (tq σ) (gA σ 40) (gN σ 30) 701 0 0 (nx σ p) (9 :: (drL 5 ops r).1) (t :: ts) = .ok z
                  · obtain ⟨⟨p3, ops3, ts3, c3⟩, hz⟩ := h241
                    obtain ⟨wt3, td3, hw3, htd3, rfl⟩ := hy p3 ops3 ts3 c3 hz
                    obtain ⟨a1, a2, a3, a4, a5, a6, a7, a8, a9, a10⟩ := opd_inv hTK hT h26 701 0 0 (nx σ p) _ _ p3 ops3 ts3 c3 b22 hz
                    rw [dk2] at hz
                    have hM2 : _ = R := (andT_ok hz).symm.trans hM
                    have n12d : n12 (drL 5 ops r).1 = n12 ops := by rw [dk2]; exact drF_n12 5 ops fs
                    have hSm3 := Sm_C dk1 a10
                    have hpr3 := pN_push (v := c3.2) (pN_push (v := c3.1) hpr2)
                    have hin3 : ∀ x ∈ (9 :: (drL 5 ops r).1), 3 ≤ x ∧ x < 13 := fun x hx => by rcases List.mem_cons.mp hx with rfl | hx; exact ⟨by decide, by decide⟩; exact ho x (hdin x hx)
                    have hlow3 : ∀ i, i < gN σ 34 → va_up (va_up rd2 (gN σ 34 + (drL 5 ops r).2.length) c3.1) (gN σ 34 + (drL 5 ops r).2.length + 1) c3.2 i = gA σ 46 i := fun i hi => by rw [va_up_n (by omega), va_up_n (by omega), hlow2 i hi]; exact hlow i hi
                    have e12 : n12 (9 :: (drL 5 ops r).1) = n12 (drL 5 ops r).1 := n12_n _ (by decide)
                    have enb : nb (9 :: (drL 5 ops r).1) = nb (drL 5 ops r).1 + 1 := nb_a _ (by decide) (by decide)
                    simp only [List.length_cons] at a4 a5 a6 a7
                    rcases ts3 with _ | ⟨t3, ts3⟩
                    · exact absurd a6 (by simp)
                    refine v_goto (tgt := 354) dX8_expression_244 rfl ?_
                    refine v_goto (tgt := 35) dX8_expression_354 rfl ?_
                    exact ih p3 _ (c3.2 :: c3.1 :: (drL 5 ops r).2) wt3 ops3 (fC c3 :: (drF 5 ops fs).2) t3 ts3 td3 _ hM2 (by omega) a2 hSm3 (by rw [List.length_cons, dk3, a3, enb, dk2]) (a8 hin3) (by first | omega | (simp at a4; omega)) hpr3 hw3 htd3 (by first | omega | (simp at a7; omega)) (by first | omega | (simp; omega)) (by first | omega | (simp; omega)) hlow3 (a9 (fun x hx => hx2 x hx))
                  · obtain ⟨ke, qe, hz⟩ := er_of h241
                    have hxe := hn ke qe hz
                    rw [dk2] at hz
                    have hM2 : _ = R := (andT_er hz).symm.trans hM
                    refine v_goto (tgt := 354) dX8_expression_244 rfl ?_
                    refine v_goto (tgt := 35) dX8_expression_354 rfl ?_
                    exact LE ke qe _ _ hM2.symm hxe
                · exact absurd rfl c222
            · rw [if_neg h204]
              refine vn_if_eq (tgt := 247) dX8_expression_207 rfl (by decide) (fun c207 => ?_) (fun c207 => ?_)
              · have n5 : ¬ isS (tq σ p) 43 := h195
                have n6 : ¬ isS (tq σ p) 45 := h204
                refine v_aload_n (i := 0) dX8_expression_247 rfl rfl ?_
                refine v_bipush (v := nI 42) dX8_expression_248 k_bipush_42 ?_
                refine v_callVi (cM_signX hap σ hP p h2 rd (gN σ 34 + r.length) wt ops.length (t :: ts).length td 42 (by decide)) (lw_V q2237 q2239 qs63 q136 q2240) iX8_isSign rfl KX8 MH_m rfl rfl (by decide) (by decide) (Nat.le_of_ble_eq_true rfl) dX8_expression_250 ?_
                by_cases h250 : isS (tq σ p) 42
                · rw [if_pos h250]
                  have hnx := hnx (by omega)
                  refine vn_if_ne (tgt := 265) dX8_expression_253 rfl (by decide) (fun c253 => ?_) (fun c253 => ?_)
                  · refine v_aload_n (i := 0) dX8_expression_265 rfl rfl ?_
                    refine v_bipush (v := nI 6) dX8_expression_266 k_bipush_6 ?_
                    refine v_callVW (kc' := 0) (ks' := 0) (cM_drops hap σ p (gN σ 34) 6 (by decide) wt (t :: ts).length td rd ops r (by omega) (by omega) ho2 hw hpr) (lw_V q2301 q2303 qs79 q136 q2304) iX8_drops rfl KX8 MH_m rfl rfl (by decide) (by decide) (Nat.le_of_ble_eq_true rfl) (by decide) (by decide) dX8_expression_268 (fun η' h => ?_)
                    obtain ⟨rd2, rfl, hpr2, hlow2⟩ := h
                    have dle := drL_le 6 ops r
                    have dl := dl 6
                    obtain ⟨dk1, dk2, dk3⟩ := dk 6
                    have hK : opK (tq σ p) t = 10 := by unfold opK; rw [if_neg n1, if_neg n2, if_neg n3, if_neg n4, if_neg n5, if_neg n6, if_pos h250]
                    have hM := (opr_op (T := tq σ) (lt := gA σ 40) (nT := gN σ 30) (n := n) (ops := ops) (fs := fs) (ts := t :: ts) hK (by decide)).symm.trans he
                    have hdin : ∀ x ∈ (drL 6 ops r).1, x ∈ ops := by rw [dk2]; exact drF_in 6 ops fs
                    have hwn : pN wt 0 (drL 6 ops r).1 := drL_pN hw
                    refine v_aload_n (i := 0) dX8_expression_271 rfl rfl ?_
                    refine v_aload_n (i := 0) dX8_expression_272 rfl rfl ?_
                    refine v_bipush (v := nI 42) dX8_expression_273 k_bipush_42 ?_
                    refine v_callVi (cM_signY hap σ hP p h2 rd2 (gN σ 34 + (drL 6 ops r).2.length) wt (drL 6 ops r).1.length (t :: ts).length td 42 (by decide) h250) (lw_V q2237 q2239 qs63 q136 q2240) iX8_isSign rfl KX8 MH_m rfl rfl (by decide) (by decide) (Nat.le_of_ble_eq_true rfl) dX8_expression_275 ?_
                    refine vn_if_eq (tgt := 286) dX8_expression_278 rfl (by decide) (fun c278 => ?_) (fun c278 => ?_)
                    · exact absurd c278 (by decide)
                    · refine v_bipush (v := nI 10) dX8_expression_281 k_bipush_10 ?_
                      refine v_goto (tgt := 288) dX8_expression_283 rfl ?_
                      refine v_callVv (cM_waitX hap σ p rd2 (gN σ 34 + (drL 6 ops r).2.length) wt (drL 6 ops r).1.length (t :: ts).length td 10 (by omega)) (lw_V q2289 q2291 qs76 q136 q2292) iX8_waitsFor rfl KX8 MH_m rfl rfl (by decide) (by decide) (Nat.le_of_ble_eq_true rfl) dX8_expression_288 ?_
                      refine v_aload_n (i := 0) dX8_expression_291 rfl rfl ?_
                      refine v_callVv (cM_goesX hap σ hP p h2 rd2 (gN σ 34 + (drL 6 ops r).2.length) (va_up wt (drL 6 ops r).1.length 10) ((drL 6 ops r).1.length + 1) (t :: ts).length (td)) (lw_V q2201 q2203 qs57 q136 q2204) iX8_goes rfl KX8 MH_m rfl rfl (by decide) (by decide) (Nat.le_of_ble_eq_true rfl) dX8_expression_292 ?_
                      refine v_aload_n (i := 0) dX8_expression_295 rfl rfl ?_
                      refine v_iconst (v := nI 0) dX8_expression_296 k_iconst_0 ?_
                      refine v_callVW (kc' := 0) (ks' := 0) (cM_operand hap σ hP (nx σ p) b22 hg rd2 (gN σ 34 + (drL 6 ops r).2.length) (va_up wt (drL 6 ops r).1.length 10) (10 :: (drL 6 ops r).1) (t :: ts) (td) hT hl (by have := pN_push (v := 10) hwn; rwa [Nat.zero_add] at this) htd (by first | omega | (simp; omega)) (by first | omega | (simp; omega)) (by first | omega | (simp; omega)) (fun x hx => by rcases List.mem_cons.mp hx with rfl | hx; exact (by decide); exact ho2 x (hdin x hx)) 0 (by decide)) (lw_V q2285 q2287 qs75 q136 q2288) iX8_operand rfl KX8 MH_m rfl rfl (by decide) (by decide) (Nat.le_of_ble_eq_true rfl) (by decide) (by decide) dX8_expression_297 (fun η' h => ?_)
                      obtain ⟨hy, hn⟩ := h
                      by_cases h297 : ∃ z, opd (tq σ) (gA σ 40) (gN σ 30) 701 0 0 (nx σ p) (10 :: (drL 6 ops r).1) (t :: ts) = .ok z
                      · obtain ⟨⟨p3, ops3, ts3, c3⟩, hz⟩ := h297
                        obtain ⟨wt3, td3, hw3, htd3, rfl⟩ := hy p3 ops3 ts3 c3 hz
                        obtain ⟨a1, a2, a3, a4, a5, a6, a7, a8, a9, a10⟩ := opd_inv hTK hT h26 701 0 0 (nx σ p) _ _ p3 ops3 ts3 c3 b22 hz
                        rw [dk2] at hz
                        have hM2 : _ = R := (andT_ok hz).symm.trans hM
                        have n12d : n12 (drL 6 ops r).1 = n12 ops := by rw [dk2]; exact drF_n12 6 ops fs
                        have hSm3 := Sm_C dk1 a10
                        have hpr3 := pN_push (v := c3.2) (pN_push (v := c3.1) hpr2)
                        have hin3 : ∀ x ∈ (10 :: (drL 6 ops r).1), 3 ≤ x ∧ x < 13 := fun x hx => by rcases List.mem_cons.mp hx with rfl | hx; exact ⟨by decide, by decide⟩; exact ho x (hdin x hx)
                        have hlow3 : ∀ i, i < gN σ 34 → va_up (va_up rd2 (gN σ 34 + (drL 6 ops r).2.length) c3.1) (gN σ 34 + (drL 6 ops r).2.length + 1) c3.2 i = gA σ 46 i := fun i hi => by rw [va_up_n (by omega), va_up_n (by omega), hlow2 i hi]; exact hlow i hi
                        have e12 : n12 (10 :: (drL 6 ops r).1) = n12 (drL 6 ops r).1 := n12_n _ (by decide)
                        have enb : nb (10 :: (drL 6 ops r).1) = nb (drL 6 ops r).1 + 1 := nb_a _ (by decide) (by decide)
                        simp only [List.length_cons] at a4 a5 a6 a7
                        rcases ts3 with _ | ⟨t3, ts3⟩
                        · exact absurd a6 (by simp)
                        refine v_goto (tgt := 354) dX8_expression_300 rfl ?_
                        refine v_goto (tgt := 35) dX8_expression_354 rfl ?_
                        exact ih p3 _ (c3.2 :: c3.1 :: (drL 6 ops r).2) wt3 ops3 (fC c3 :: (drF 6 ops fs).2) t3 ts3 td3 _ hM2 (by omega) a2 hSm3 (by rw [List.length_cons, dk3, a3, enb, dk2]) (a8 hin3) (by first | omega | (simp at a4; omega)) hpr3 hw3 htd3 (by first | omega | (simp at a7; omega)) (by first | omega | (simp; omega)) (by first | omega | (simp; omega)) hlow3 (a9 (fun x hx => hx2 x hx))
                      · obtain ⟨ke, qe, hz⟩ := er_of h297
                        have hxe := hn ke qe hz
                        rw [dk2] at hz
                        have hM2 : _ = R := (andT_er hz).symm.trans hM
                        refine v_goto (tgt := 354) dX8_expression_300 rfl ?_
                        refine v_goto (tgt := 35) dX8_expression_354 rfl ?_
                        exact LE ke qe _ _ hM2.symm hxe
                  · exact absurd c253 (by decide)
                · rw [if_neg h250]
                  refine vn_if_ne (tgt := 265) dX8_expression_253 rfl (by decide) (fun c253 => ?_) (fun c253 => ?_)
                  · exact absurd rfl c253
                  · refine v_aload_n (i := 0) dX8_expression_256 rfl rfl ?_
                    refine v_bipush (v := nI 47) dX8_expression_257 k_bipush_47 ?_
                    refine v_callVi (cM_signX hap σ hP p h2 rd (gN σ 34 + r.length) wt ops.length (t :: ts).length td 47 (by decide)) (lw_V q2237 q2239 qs63 q136 q2240) iX8_isSign rfl KX8 MH_m rfl rfl (by decide) (by decide) (Nat.le_of_ble_eq_true rfl) dX8_expression_259 ?_
                    by_cases h259 : isS (tq σ p) 47
                    · rw [if_pos h259]
                      have hnx := hnx (by omega)
                      refine vn_if_eq (tgt := 303) dX8_expression_262 rfl (by decide) (fun c262 => ?_) (fun c262 => ?_)
                      · exact absurd c262 (by decide)
                      · refine v_aload_n (i := 0) dX8_expression_265 rfl rfl ?_
                        refine v_bipush (v := nI 6) dX8_expression_266 k_bipush_6 ?_
                        refine v_callVW (kc' := 0) (ks' := 0) (cM_drops hap σ p (gN σ 34) 6 (by decide) wt (t :: ts).length td rd ops r (by omega) (by omega) ho2 hw hpr) (lw_V q2301 q2303 qs79 q136 q2304) iX8_drops rfl KX8 MH_m rfl rfl (by decide) (by decide) (Nat.le_of_ble_eq_true rfl) (by decide) (by decide) dX8_expression_268 (fun η' h => ?_)
                        obtain ⟨rd2, rfl, hpr2, hlow2⟩ := h
                        have dle := drL_le 6 ops r
                        have dl := dl 6
                        obtain ⟨dk1, dk2, dk3⟩ := dk 6
                        have hK : opK (tq σ p) t = 11 := by unfold opK; rw [if_neg n1, if_neg n2, if_neg n3, if_neg n4, if_neg n5, if_neg n6, if_neg h250, if_pos h259]
                        have hM := (opr_op (T := tq σ) (lt := gA σ 40) (nT := gN σ 30) (n := n) (ops := ops) (fs := fs) (ts := t :: ts) hK (by decide)).symm.trans he
                        have hdin : ∀ x ∈ (drL 6 ops r).1, x ∈ ops := by rw [dk2]; exact drF_in 6 ops fs
                        have hwn : pN wt 0 (drL 6 ops r).1 := drL_pN hw
                        refine v_aload_n (i := 0) dX8_expression_271 rfl rfl ?_
                        refine v_aload_n (i := 0) dX8_expression_272 rfl rfl ?_
                        refine v_bipush (v := nI 42) dX8_expression_273 k_bipush_42 ?_
                        refine v_callVi (cM_signN hap σ hP p h2 rd2 (gN σ 34 + (drL 6 ops r).2.length) wt (drL 6 ops r).1.length (t :: ts).length td 42 (by decide) h250) (lw_V q2237 q2239 qs63 q136 q2240) iX8_isSign rfl KX8 MH_m rfl rfl (by decide) (by decide) (Nat.le_of_ble_eq_true rfl) dX8_expression_275 ?_
                        refine vn_if_eq (tgt := 286) dX8_expression_278 rfl (by decide) (fun c278 => ?_) (fun c278 => ?_)
                        · refine v_bipush (v := nI 11) dX8_expression_286 k_bipush_11 ?_
                          refine v_callVv (cM_waitX hap σ p rd2 (gN σ 34 + (drL 6 ops r).2.length) wt (drL 6 ops r).1.length (t :: ts).length td 11 (by omega)) (lw_V q2289 q2291 qs76 q136 q2292) iX8_waitsFor rfl KX8 MH_m rfl rfl (by decide) (by decide) (Nat.le_of_ble_eq_true rfl) dX8_expression_288 ?_
                          refine v_aload_n (i := 0) dX8_expression_291 rfl rfl ?_
                          refine v_callVv (cM_goesX hap σ hP p h2 rd2 (gN σ 34 + (drL 6 ops r).2.length) (va_up wt (drL 6 ops r).1.length 11) ((drL 6 ops r).1.length + 1) (t :: ts).length (td)) (lw_V q2201 q2203 qs57 q136 q2204) iX8_goes rfl KX8 MH_m rfl rfl (by decide) (by decide) (Nat.le_of_ble_eq_true rfl) dX8_expression_292 ?_
                          refine v_aload_n (i := 0) dX8_expression_295 rfl rfl ?_
                          refine v_iconst (v := nI 0) dX8_expression_296 k_iconst_0 ?_
                          refine v_callVW (kc' := 0) (ks' := 0) (cM_operand hap σ hP (nx σ p) b22 hg rd2 (gN σ 34 + (drL 6 ops r).2.length) (va_up wt (drL 6 ops r).1.length 11) (11 :: (drL 6 ops r).1) (t :: ts) (td) hT hl (by have := pN_push (v := 11) hwn; rwa [Nat.zero_add] at this) htd (by first | omega | (simp; omega)) (by first | omega | (simp; omega)) (by first | omega | (simp; omega)) (fun x hx => by rcases List.mem_cons.mp hx with rfl | hx; exact (by decide); exact ho2 x (hdin x hx)) 0 (by decide)) (lw_V q2285 q2287 qs75 q136 q2288) iX8_operand rfl KX8 MH_m rfl rfl (by decide) (by decide) (Nat.le_of_ble_eq_true rfl) (by decide) (by decide) dX8_expression_297 (fun η' h => ?_)
                          obtain ⟨hy, hn⟩ := h
                          by_cases h297 : ∃ z, opd (tq σ) (gA σ 40) (gN σ 30) 701 0 0 (nx σ p) (11 :: (drL 6 ops r).1) (t :: ts) = .ok z
                          · obtain ⟨⟨p3, ops3, ts3, c3⟩, hz⟩ := h297
                            obtain ⟨wt3, td3, hw3, htd3, rfl⟩ := hy p3 ops3 ts3 c3 hz
                            obtain ⟨a1, a2, a3, a4, a5, a6, a7, a8, a9, a10⟩ := opd_inv hTK hT h26 701 0 0 (nx σ p) _ _ p3 ops3 ts3 c3 b22 hz
                            rw [dk2] at hz
                            have hM2 : _ = R := (andT_ok hz).symm.trans hM
                            have n12d : n12 (drL 6 ops r).1 = n12 ops := by rw [dk2]; exact drF_n12 6 ops fs
                            have hSm3 := Sm_C dk1 a10
                            have hpr3 := pN_push (v := c3.2) (pN_push (v := c3.1) hpr2)
                            have hin3 : ∀ x ∈ (11 :: (drL 6 ops r).1), 3 ≤ x ∧ x < 13 := fun x hx => by rcases List.mem_cons.mp hx with rfl | hx; exact ⟨by decide, by decide⟩; exact ho x (hdin x hx)
                            have hlow3 : ∀ i, i < gN σ 34 → va_up (va_up rd2 (gN σ 34 + (drL 6 ops r).2.length) c3.1) (gN σ 34 + (drL 6 ops r).2.length + 1) c3.2 i = gA σ 46 i := fun i hi => by rw [va_up_n (by omega), va_up_n (by omega), hlow2 i hi]; exact hlow i hi
                            have e12 : n12 (11 :: (drL 6 ops r).1) = n12 (drL 6 ops r).1 := n12_n _ (by decide)
                            have enb : nb (11 :: (drL 6 ops r).1) = nb (drL 6 ops r).1 + 1 := nb_a _ (by decide) (by decide)
                            simp only [List.length_cons] at a4 a5 a6 a7
                            rcases ts3 with _ | ⟨t3, ts3⟩
                            · exact absurd a6 (by simp)
                            refine v_goto (tgt := 354) dX8_expression_300 rfl ?_
                            refine v_goto (tgt := 35) dX8_expression_354 rfl ?_
                            exact ih p3 _ (c3.2 :: c3.1 :: (drL 6 ops r).2) wt3 ops3 (fC c3 :: (drF 6 ops fs).2) t3 ts3 td3 _ hM2 (by omega) a2 hSm3 (by rw [List.length_cons, dk3, a3, enb, dk2]) (a8 hin3) (by first | omega | (simp at a4; omega)) hpr3 hw3 htd3 (by first | omega | (simp at a7; omega)) (by first | omega | (simp; omega)) (by first | omega | (simp; omega)) hlow3 (a9 (fun x hx => hx2 x hx))
                          · obtain ⟨ke, qe, hz⟩ := er_of h297
                            have hxe := hn ke qe hz
                            rw [dk2] at hz
                            have hM2 : _ = R := (andT_er hz).symm.trans hM
                            refine v_goto (tgt := 354) dX8_expression_300 rfl ?_
                            refine v_goto (tgt := 35) dX8_expression_354 rfl ?_
                            exact LE ke qe _ _ hM2.symm hxe
                        · exact absurd rfl c278
                    · rw [if_neg h259]
                      refine vn_if_eq (tgt := 303) dX8_expression_262 rfl (by decide) (fun c262 => ?_) (fun c262 => ?_)
                      · have hK0 : opK (tq σ p) t = 0 := by unfold opK; rw [if_neg n1, if_neg n2, if_neg n3, if_neg n4, if_neg n5, if_neg n6, if_neg h250, if_neg h259]
                        refine v_aload_n (i := 0) dX8_expression_303 rfl rfl ?_
                        refine v_bipush (v := nI 41) dX8_expression_304 k_bipush_41 ?_
                        refine v_callVi (cM_signX hap σ hP p h2 rd (gN σ 34 + r.length) wt ops.length (t :: ts).length td 41 (by decide)) (lw_V q2237 q2239 qs63 q136 q2240) iX8_isSign rfl KX8 MH_m rfl rfl (by decide) (by decide) (Nat.le_of_ble_eq_true rfl) dX8_expression_306 ?_
                        by_cases h306 : isS (tq σ p) 41
                        · rw [if_pos h306]
                          have hnx := hnx (by omega)
                          refine vn_if_eq (tgt := 352) dX8_expression_309 rfl (by decide) (fun c309 => ?_) (fun c309 => ?_)
                          · exact absurd c309 (by decide)
                          · refine v_aload_n (i := 0) dX8_expression_312 rfl rfl ?_
                            refine mg_depth rfl dX8_expression_313 ?_
                            refine v_iconst (v := nI 1) dX8_expression_316 k_iconst_1 ?_
                            refine vn_icmp_le (tgt := 352) dX8_expression_317 rfl (show (t :: ts).length < _ by omega) (by decide) (fun c317 => ?_) (fun c317 => ?_)
                            · have c317 : ts.length + 1 ≤ 1 := c317
                              refine v_iconst (v := nI 0) dX8_expression_352 k_iconst_0 ?_
                              refine v_istore_n (i := 2) dX8_expression_353 rfl (by decide) rfl ?_
                              refine v_goto (tgt := 35) dX8_expression_354 rfl ?_
                              refine v_iload_n (i := 2) dX8_expression_35 rfl rfl ?_
                              refine vn_if_eq (tgt := 357) dX8_expression_36 rfl (by decide) (fun c36 => ?_) (fun c36 => ?_)
                              · refine v_aload_n (i := 0) dX8_expression_357 rfl rfl ?_
                                refine v_callVi (cM_goodG hap (XS σ p rd (gN σ 34 + r.length) wt (ops.length) ((t :: ts).length) td) hg) (lw_V q2229 q2231 qs61 q136 q2232) iX8_isGood rfl KX8 MH_m rfl rfl (by decide) (by decide) (Nat.le_of_ble_eq_true rfl) dX8_expression_358 ?_
                                refine vn_if_eq (tgt := 377) dX8_expression_361 rfl (by decide) (fun c361 => ?_) (fun c361 => ?_)
                                · exact absurd c361 (by decide)
                                · refine v_aload_n (i := 0) dX8_expression_364 rfl rfl ?_
                                  refine mg_depth rfl dX8_expression_365 ?_
                                  refine v_iconst (v := nI 1) dX8_expression_368 k_iconst_1 ?_
                                  refine vn_icmp_le (tgt := 377) dX8_expression_369 rfl (show (t :: ts).length < _ by omega) (by decide) (fun c369 => ?_) (fun c369 => ?_)
                                  · have c369 : ts.length + 1 ≤ 1 := c369
                                    refine v_aload_n (i := 0) dX8_expression_377 rfl rfl ?_
                                    refine v_iconst (v := nI 0) dX8_expression_378 k_iconst_0 ?_
                                    refine v_callVW (kc' := 0) (ks' := 0) (cM_drops hap σ p (gN σ 34) 0 (by decide) wt (t :: ts).length td rd ops r (by omega) (by omega) ho2 hw hpr) (lw_V q2301 q2303 qs79 q136 q2304) iX8_drops rfl KX8 MH_m rfl rfl (by decide) (by decide) (Nat.le_of_ble_eq_true rfl) (by decide) (by decide) dX8_expression_379 (fun η' h => ?_)
                                    obtain ⟨rd2, rfl, hpr2, hlow2⟩ := h
                                    have dl := dl 0
                                    obtain ⟨dk1, dk2, dk3⟩ := dk 0
                                    refine v_aload_n (i := 0) dX8_expression_382 rfl rfl ?_
                                    refine v_iconst (v := nI 0) dX8_expression_383 k_iconst_0 ?_
                                    refine v_callVv (cM_putsX hap σ p rd2 (gN σ 34 + (drL 0 ops r).2.length) wt (drL 0 ops r).1.length (t :: ts).length td 0 (by omega)) (lw_V q2297 q2299 qs78 q136 q2300) iX8_puts rfl KX8 MH_m rfl rfl (by decide) (by decide) (Nat.le_of_ble_eq_true rfl) dX8_expression_384 ?_
                                    refine v_iload_n (i := 1) dX8_expression_387 rfl rfl ?_
                                    exact v_iret rfl dX8_expression_388 (by
                                                have hM := (opr_en (T := tq σ) (lt := gA σ 40) (nT := gN σ 30) (n := n) (ops := ops) (fs := fs) (ts := t :: ts) hK0 (show ¬ 1 < ts.length + 1 by omega)).symm.trans he
                                                have d00 := drF_00 ops fs (by omega)
                                                rw [d00] at dk2 dk3
                                                have dl2 : (drL 0 ops r).1.length = 0 := by rw [dk2]; rfl
                                                refine ⟨_, rfl, rfl, fun p2 f e => ?_, fun k q e => (by rw [← hM] at e; cases e)⟩
                                                rw [← hM] at e
                                                cases e
                                                refine ⟨h2, _, (drL 0 ops r).2, _, _, _, _, rfl, pN_push hpr2, ?_, fun i hi => ?_, by omega⟩
                                                · cases hfs : (drF 0 ops fs).2 with
                                                  | nil => rw [hfs] at dk3; cases dk3
                                                  | cons f fs' =>
                                                    rw [hfs] at dk1 dk3
                                                    cases fs' with
                                                    | nil => exact dk1
                                                    | cons g fs' => simp [nb] at dk3
                                                · rw [va_up_n (by omega), hlow2 i hi]
                                                  exact hlow i hi)
                                  · have c369 : 1 < ts.length + 1 := c369
                                    refine v_aload_n (i := 0) dX8_expression_372 rfl rfl ?_
                                    refine v_iconst (v := nI 1) dX8_expression_373 k_iconst_1 ?_
                                    refine v_callVv (cM_wrongX hap σ p hg rd (gN σ 34 + r.length) wt ops.length (t :: ts).length td 1) (lw_V q2233 q2235 qs62 q136 q2236) iX8_wrong rfl KX8 MH_m rfl rfl (by decide) (by decide) (Nat.le_of_ble_eq_true rfl) dX8_expression_374 ?_
                                    refine v_aload_n (i := 0) dX8_expression_377 rfl rfl ?_
                                    refine v_iconst (v := nI 0) dX8_expression_378 k_iconst_0 ?_
                                    refine v_callVW (kc' := 0) (ks' := 0) (cM_drops hap (flt σ 1 (tq σ p 24)) p (gN σ 34) 0 (by decide) wt (t :: ts).length td rd ops r (by omega) (by omega) ho2 hw hpr) (lw_V q2301 q2303 qs79 q136 q2304) iX8_drops rfl KX8 MH_m rfl rfl (by decide) (by decide) (Nat.le_of_ble_eq_true rfl) (by decide) (by decide) dX8_expression_379 (fun η' h => ?_)
                                    obtain ⟨rd2, rfl, hpr2, hlow2⟩ := h
                                    have dl := dl 0
                                    obtain ⟨dk1, dk2, dk3⟩ := dk 0
                                    refine v_aload_n (i := 0) dX8_expression_382 rfl rfl ?_
                                    refine v_iconst (v := nI 0) dX8_expression_383 k_iconst_0 ?_
                                    refine v_callVv (cM_putsX hap (flt σ 1 (tq σ p 24)) p rd2 (gN σ 34 + (drL 0 ops r).2.length) wt (drL 0 ops r).1.length (t :: ts).length td 0 (by omega)) (lw_V q2297 q2299 qs78 q136 q2300) iX8_puts rfl KX8 MH_m rfl rfl (by decide) (by decide) (Nat.le_of_ble_eq_true rfl) dX8_expression_384 ?_
                                    refine v_iload_n (i := 1) dX8_expression_387 rfl rfl ?_
                                    exact v_iret rfl dX8_expression_388 (by
                                                have hM := (opr_er (T := tq σ) (lt := gA σ 40) (nT := gN σ 30) (n := n) (ops := ops) (fs := fs) (ts := t :: ts) hK0 (fun _ => by omega) c369).symm.trans he
                                                exact ⟨_, rfl, rfl, fun _ _ e => (by rw [← hM] at e; cases e), fun k q e => (by rw [← hM] at e; cases e; exact ⟨by decide, by decide, h2, _, _, _, _, _, _, rfl⟩)⟩)
                              · exact absurd rfl c36
                            · have c317 : 1 < ts.length + 1 := c317
                              refine v_aload_n (i := 0) dX8_expression_320 rfl rfl ?_
                              refine v_iconst (v := nI 0) dX8_expression_321 k_iconst_0 ?_
                              refine v_callVW (kc' := 0) (ks' := 0) (cM_drops hap σ p (gN σ 34) 0 (by decide) wt (t :: ts).length td rd ops r (by omega) (by omega) ho2 hw hpr) (lw_V q2301 q2303 qs79 q136 q2304) iX8_drops rfl KX8 MH_m rfl rfl (by decide) (by decide) (Nat.le_of_ble_eq_true rfl) (by decide) (by decide) dX8_expression_322 (fun η' h => ?_)
                              obtain ⟨rd2, rfl, hpr2, hlow2⟩ := h
                              have dle := drL_le 0 ops r
                              have dl := dl 0
                              obtain ⟨dk1, dk2, dk3⟩ := dk 0
                              have hM := (opr_cl (T := tq σ) (lt := gA σ 40) (nT := gN σ 30) (n := n) (ops := ops) (fs := fs) (ts := t :: ts) hK0 ⟨h306, c317⟩).symm.trans he
                              have hdin : ∀ x ∈ (drL 0 ops r).1, x ∈ ops := by rw [dk2]; exact drF_in 0 ops fs
                              obtain ⟨rest, drest⟩ := drF_0 ops fs (by omega)
                              have hwn : pN wt 0 (drL 0 ops r).1 := drL_pN hw
                              have hd1 : (drL 0 ops r).1 = 12 :: rest := dk2.trans drest
                              have e12 : n12 (drF 0 ops fs).1 = n12 ops := drF_n12 0 ops fs
                              rw [hd1] at hwn dl dle
                              rw [drest, n12_y] at e12
                              rw [hd1]
                              simp only [List.length_cons] at dl dle
                              rcases ts with _ | ⟨t2, ts2⟩
                              · exact absurd c317 (by simp)
                              refine v_aload_n (i := 0) dX8_expression_325 rfl rfl ?_
                              refine v_dup dX8_expression_326 rfl ?_
                              refine mg_waiting rfl dX8_expression_327 ?_
                              refine v_iconst (v := nI 1) dX8_expression_330 k_iconst_1 ?_
                              refine vn_isub (show 1 ≤ rest.length + 1 by omega) dX8_expression_331 ?_
                              refine mp_waiting rfl dX8_expression_332 ?_
                              refine v_eq (congrArg (fun τ => MH m ad τ η0) (show _ = XS σ p rd2 (gN σ 34 + (drL 0 ops r).2.length) wt rest.length (t :: t2 :: ts2).length td from XS_wn σ p rd2 (gN σ 34 + (drL 0 ops r).2.length) wt (12 :: rest).length (t :: t2 :: ts2).length td rest.length)) ?_
                              refine v_aload_n (i := 0) dX8_expression_335 rfl rfl ?_
                              refine v_dup dX8_expression_336 rfl ?_
                              refine mg_depth rfl dX8_expression_337 ?_
                              refine v_iconst (v := nI 1) dX8_expression_340 k_iconst_1 ?_
                              refine vn_isub (show 1 ≤ ts2.length + 1 + 1 by omega) dX8_expression_341 ?_
                              refine mp_depth rfl dX8_expression_342 ?_
                              refine v_eq (congrArg (fun τ => MH m ad τ η0) (show _ = XS σ p rd2 (gN σ 34 + (drL 0 ops r).2.length) wt rest.length (t2 :: ts2).length td from XS_dp σ p rd2 (gN σ 34 + (drL 0 ops r).2.length) wt rest.length (t :: t2 :: ts2).length td (t2 :: ts2).length)) ?_
                              refine v_aload_n (i := 0) dX8_expression_345 rfl rfl ?_
                              refine v_callVv (cM_goesX hap σ hP p h2 rd2 (gN σ 34 + (drL 0 ops r).2.length) wt rest.length (t2 :: ts2).length td) (lw_V q2201 q2203 qs57 q136 q2204) iX8_goes rfl KX8 MH_m rfl rfl (by decide) (by decide) (Nat.le_of_ble_eq_true rfl) dX8_expression_346 ?_
                              refine v_goto (tgt := 354) dX8_expression_349 rfl ?_
                              refine v_goto (tgt := 35) dX8_expression_354 rfl ?_
                              exact ih (nx σ p) rd2 (drL 0 ops r).2 wt rest (drF 0 ops fs).2 t2 ts2 td _ (by rw [drest] at hM; exact hM) (by omega) b22 dk1 (by rw [dk3, drest, nb_12]) (fun x hx => ho x (hdin x (by rw [dk2, drest]; exact List.mem_cons_of_mem _ hx))) (by first | omega | (simp at h12; omega)) hpr2 hwn.2 htd.2 (by first | omega | (simp at h5; omega)) (by omega) (by omega) (fun i hi => by rw [hlow2 i hi]; exact hlow i hi) (fun x hx => hx2 x (List.mem_cons_of_mem _ hx))
                        · rw [if_neg h306]
                          refine vn_if_eq (tgt := 352) dX8_expression_309 rfl (by decide) (fun c309 => ?_) (fun c309 => ?_)
                          · refine v_iconst (v := nI 0) dX8_expression_352 k_iconst_0 ?_
                            refine v_istore_n (i := 2) dX8_expression_353 rfl (by decide) rfl ?_
                            refine v_goto (tgt := 35) dX8_expression_354 rfl ?_
                            refine v_iload_n (i := 2) dX8_expression_35 rfl rfl ?_
                            refine vn_if_eq (tgt := 357) dX8_expression_36 rfl (by decide) (fun c36 => ?_) (fun c36 => ?_)
                            · refine v_aload_n (i := 0) dX8_expression_357 rfl rfl ?_
                              refine v_callVi (cM_goodG hap (XS σ p rd (gN σ 34 + r.length) wt (ops.length) ((t :: ts).length) td) hg) (lw_V q2229 q2231 qs61 q136 q2232) iX8_isGood rfl KX8 MH_m rfl rfl (by decide) (by decide) (Nat.le_of_ble_eq_true rfl) dX8_expression_358 ?_
                              refine vn_if_eq (tgt := 377) dX8_expression_361 rfl (by decide) (fun c361 => ?_) (fun c361 => ?_)
                              · exact absurd c361 (by decide)
                              · refine v_aload_n (i := 0) dX8_expression_364 rfl rfl ?_
                                refine mg_depth rfl dX8_expression_365 ?_
                                refine v_iconst (v := nI 1) dX8_expression_368 k_iconst_1 ?_
                                refine vn_icmp_le (tgt := 377) dX8_expression_369 rfl (show (t :: ts).length < _ by omega) (by decide) (fun c369 => ?_) (fun c369 => ?_)
                                · have c369 : ts.length + 1 ≤ 1 := c369
                                  refine v_aload_n (i := 0) dX8_expression_377 rfl rfl ?_
                                  refine v_iconst (v := nI 0) dX8_expression_378 k_iconst_0 ?_
                                  refine v_callVW (kc' := 0) (ks' := 0) (cM_drops hap σ p (gN σ 34) 0 (by decide) wt (t :: ts).length td rd ops r (by omega) (by omega) ho2 hw hpr) (lw_V q2301 q2303 qs79 q136 q2304) iX8_drops rfl KX8 MH_m rfl rfl (by decide) (by decide) (Nat.le_of_ble_eq_true rfl) (by decide) (by decide) dX8_expression_379 (fun η' h => ?_)
                                  obtain ⟨rd2, rfl, hpr2, hlow2⟩ := h
                                  have dl := dl 0
                                  obtain ⟨dk1, dk2, dk3⟩ := dk 0
                                  refine v_aload_n (i := 0) dX8_expression_382 rfl rfl ?_
                                  refine v_iconst (v := nI 0) dX8_expression_383 k_iconst_0 ?_
                                  refine v_callVv (cM_putsX hap σ p rd2 (gN σ 34 + (drL 0 ops r).2.length) wt (drL 0 ops r).1.length (t :: ts).length td 0 (by omega)) (lw_V q2297 q2299 qs78 q136 q2300) iX8_puts rfl KX8 MH_m rfl rfl (by decide) (by decide) (Nat.le_of_ble_eq_true rfl) dX8_expression_384 ?_
                                  refine v_iload_n (i := 1) dX8_expression_387 rfl rfl ?_
                                  exact v_iret rfl dX8_expression_388 (by
                                              have hM := (opr_en (T := tq σ) (lt := gA σ 40) (nT := gN σ 30) (n := n) (ops := ops) (fs := fs) (ts := t :: ts) hK0 (show ¬ 1 < ts.length + 1 by omega)).symm.trans he
                                              have d00 := drF_00 ops fs (by omega)
                                              rw [d00] at dk2 dk3
                                              have dl2 : (drL 0 ops r).1.length = 0 := by rw [dk2]; rfl
                                              refine ⟨_, rfl, rfl, fun p2 f e => ?_, fun k q e => (by rw [← hM] at e; cases e)⟩
                                              rw [← hM] at e
                                              cases e
                                              refine ⟨h2, _, (drL 0 ops r).2, _, _, _, _, rfl, pN_push hpr2, ?_, fun i hi => ?_, by omega⟩
                                              · cases hfs : (drF 0 ops fs).2 with
                                                | nil => rw [hfs] at dk3; cases dk3
                                                | cons f fs' =>
                                                  rw [hfs] at dk1 dk3
                                                  cases fs' with
                                                  | nil => exact dk1
                                                  | cons g fs' => simp [nb] at dk3
                                              · rw [va_up_n (by omega), hlow2 i hi]
                                                exact hlow i hi)
                                · have c369 : 1 < ts.length + 1 := c369
                                  refine v_aload_n (i := 0) dX8_expression_372 rfl rfl ?_
                                  refine v_iconst (v := nI 1) dX8_expression_373 k_iconst_1 ?_
                                  refine v_callVv (cM_wrongX hap σ p hg rd (gN σ 34 + r.length) wt ops.length (t :: ts).length td 1) (lw_V q2233 q2235 qs62 q136 q2236) iX8_wrong rfl KX8 MH_m rfl rfl (by decide) (by decide) (Nat.le_of_ble_eq_true rfl) dX8_expression_374 ?_
                                  refine v_aload_n (i := 0) dX8_expression_377 rfl rfl ?_
                                  refine v_iconst (v := nI 0) dX8_expression_378 k_iconst_0 ?_
                                  refine v_callVW (kc' := 0) (ks' := 0) (cM_drops hap (flt σ 1 (tq σ p 24)) p (gN σ 34) 0 (by decide) wt (t :: ts).length td rd ops r (by omega) (by omega) ho2 hw hpr) (lw_V q2301 q2303 qs79 q136 q2304) iX8_drops rfl KX8 MH_m rfl rfl (by decide) (by decide) (Nat.le_of_ble_eq_true rfl) (by decide) (by decide) dX8_expression_379 (fun η' h => ?_)
                                  obtain ⟨rd2, rfl, hpr2, hlow2⟩ := h
                                  have dl := dl 0
                                  obtain ⟨dk1, dk2, dk3⟩ := dk 0
                                  refine v_aload_n (i := 0) dX8_expression_382 rfl rfl ?_
                                  refine v_iconst (v := nI 0) dX8_expression_383 k_iconst_0 ?_
                                  refine v_callVv (cM_putsX hap (flt σ 1 (tq σ p 24)) p rd2 (gN σ 34 + (drL 0 ops r).2.length) wt (drL 0 ops r).1.length (t :: ts).length td 0 (by omega)) (lw_V q2297 q2299 qs78 q136 q2300) iX8_puts rfl KX8 MH_m rfl rfl (by decide) (by decide) (Nat.le_of_ble_eq_true rfl) dX8_expression_384 ?_
                                  refine v_iload_n (i := 1) dX8_expression_387 rfl rfl ?_
                                  exact v_iret rfl dX8_expression_388 (by
                                              have hM := (opr_er (T := tq σ) (lt := gA σ 40) (nT := gN σ 30) (n := n) (ops := ops) (fs := fs) (ts := t :: ts) hK0 h306 c369).symm.trans he
                                              exact ⟨_, rfl, rfl, fun _ _ e => (by rw [← hM] at e; cases e), fun k q e => (by rw [← hM] at e; cases e; exact ⟨by decide, by decide, h2, _, _, _, _, _, _, rfl⟩)⟩)
                            · exact absurd rfl c36
                          · exact absurd rfl c309
                      · exact absurd rfl c262
              · exact absurd rfl c207
      refine v_iload_n (i := 2) dX8_expression_35 rfl rfl ?_
      refine vn_if_eq (tgt := 357) dX8_expression_36 rfl (by decide) (fun c36 => ?_) (fun c36 => ?_)
      · exact absurd c36 (by decide)
      · refine v_aload_n (i := 0) dX8_expression_39 rfl rfl ?_
        refine v_callVi (cM_goodG hap (XS σ p rd (gN σ 34 + r.length) wt (ops.length) ((t :: ts).length) td) hg) (lw_V q2229 q2231 qs61 q136 q2232) iX8_isGood rfl KX8 MH_m rfl rfl (by decide) (by decide) (Nat.le_of_ble_eq_true rfl) dX8_expression_40 ?_
        refine vn_if_eq (tgt := 357) dX8_expression_43 rfl (by decide) (fun c43 => ?_) (fun c43 => ?_)
        · exact absurd c43 (by decide)
        · refine v_aload_n (i := 0) dX8_expression_46 rfl rfl ?_
          refine v_callVi (cM_kwX hap σ hP p h2 rd (gN σ 34 + r.length) wt ops.length (t :: ts).length td) (lw_V q2215 q2217 qs59 q136 q2218) iX8_knownWord rfl KX8 MH_m rfl rfl (by decide) (by decide) (Nat.le_of_ble_eq_true rfl) dX8_expression_47 ?_
          refine v_istore_n (i := 3) dX8_expression_50 rfl (by decide) rfl ?_
          refine v_iload_n (i := 3) dX8_expression_51 rfl rfl ?_
          refine v_bipush (v := nI 14) dX8_expression_52 k_bipush_14 ?_
          refine von_icmp_eq (tgt := 63) dX8_expression_54 rfl (by omega) (by decide) (fun c54 => ?_) (fun c54 => ?_)
          · have hs1 : tq σ p 23 = 1 := kwT_1 (by omega)
            have hnx := hnx (by omega)
            refine v_aload_n (i := 0) dX8_expression_63 rfl rfl ?_
            refine v_iload_n (i := 3) dX8_expression_64 rfl rfl ?_
            refine v_bipush (v := nI 14) dX8_expression_65 k_bipush_14 ?_
            refine von_icmp_ne (tgt := 74) dX8_expression_67 rfl (by omega) (by decide) (fun c67 => ?_) (fun c67 => ?_)
            · exact absurd c54 c67
            · refine v_iconst (v := nI 2) dX8_expression_70 k_iconst_2 ?_
              refine v_goto (tgt := 75) dX8_expression_71 rfl ?_
              refine v_callVW (kc' := 0) (ks' := 0) (cM_drops hap σ p (gN σ 34) 2 (by decide) wt (t :: ts).length td rd ops r (by omega) (by omega) ho2 hw hpr) (lw_V q2301 q2303 qs79 q136 q2304) iX8_drops rfl KX8 MH_m rfl rfl (by decide) (by decide) (Nat.le_of_ble_eq_true rfl) (by decide) (by decide) dX8_expression_75 (fun η' h => ?_)
              obtain ⟨rd2, rfl, hpr2, hlow2⟩ := h
              have dle := drL_le 2 ops r
              have dl := dl 2
              obtain ⟨dk1, dk2, dk3⟩ := dk 2
              have hK : opK (tq σ p) t = 4 := by unfold opK; rw [if_pos c54]
              have hM := (opr_op (T := tq σ) (lt := gA σ 40) (nT := gN σ 30) (n := n) (ops := ops) (fs := fs) (ts := t :: ts) hK (by decide)).symm.trans he
              have hdin : ∀ x ∈ (drL 2 ops r).1, x ∈ ops := by rw [dk2]; exact drF_in 2 ops fs
              have hwn : pN wt 0 (drL 2 ops r).1 := drL_pN hw
              refine v_aload_n (i := 0) dX8_expression_78 rfl rfl ?_
              refine v_iload_n (i := 3) dX8_expression_79 rfl rfl ?_
              refine v_bipush (v := nI 14) dX8_expression_80 k_bipush_14 ?_
              refine von_icmp_ne (tgt := 89) dX8_expression_82 rfl (by omega) (by decide) (fun c82 => ?_) (fun c82 => ?_)
              · exact absurd c54 c82
              · refine v_iconst (v := nI 4) dX8_expression_85 k_iconst_4 ?_
                refine v_goto (tgt := 90) dX8_expression_86 rfl ?_
                refine v_callVv (cM_waitX hap σ p rd2 (gN σ 34 + (drL 2 ops r).2.length) wt (drL 2 ops r).1.length (t :: ts).length td 4 (by omega)) (lw_V q2289 q2291 qs76 q136 q2292) iX8_waitsFor rfl KX8 MH_m rfl rfl (by decide) (by decide) (Nat.le_of_ble_eq_true rfl) dX8_expression_90 ?_
                refine v_aload_n (i := 0) dX8_expression_93 rfl rfl ?_
                refine mg_tested rfl dX8_expression_94 ?_
                refine v_aload_n (i := 0) dX8_expression_97 rfl rfl ?_
                refine mg_depth rfl dX8_expression_98 ?_
                refine v_iconst (v := nI 0) dX8_expression_101 k_iconst_0 ?_
                refine ms_tested hap (show (t :: ts).length < 9 by omega) (by decide) dX8_expression_102 ?_
                refine v_eq (congrArg (fun τ => MH m ad τ η0) (show _ = XS σ p rd2 (gN σ 34 + (drL 2 ops r).2.length) (va_up wt (drL 2 ops r).1.length 4) ((drL 2 ops r).1.length + 1) ((t :: ts).length) (va_up td (t :: ts).length 0) from XS_td σ p rd2 (gN σ 34 + (drL 2 ops r).2.length) (va_up wt (drL 2 ops r).1.length 4) ((drL 2 ops r).1.length + 1) (t :: ts).length td (t :: ts).length 0)) ?_
                refine v_aload_n (i := 0) dX8_expression_103 rfl rfl ?_
                refine v_callVv (cM_goesX hap σ hP p h2 rd2 (gN σ 34 + (drL 2 ops r).2.length) (va_up wt (drL 2 ops r).1.length 4) ((drL 2 ops r).1.length + 1) (t :: ts).length (va_up td (t :: ts).length 0)) (lw_V q2201 q2203 qs57 q136 q2204) iX8_goes rfl KX8 MH_m rfl rfl (by decide) (by decide) (Nat.le_of_ble_eq_true rfl) dX8_expression_104 ?_
                refine v_aload_n (i := 0) dX8_expression_107 rfl rfl ?_
                refine v_iconst (v := nI 1) dX8_expression_108 k_iconst_1 ?_
                refine v_callVW (kc' := 0) (ks' := 0) (cM_operand hap σ hP (nx σ p) b22 hg rd2 (gN σ 34 + (drL 2 ops r).2.length) (va_up wt (drL 2 ops r).1.length 4) (4 :: (drL 2 ops r).1) (0 :: ts) (va_up td (t :: ts).length 0) hT hl (by have := pN_push (v := 4) hwn; rwa [Nat.zero_add] at this) ⟨by show va_up td (ts.length + 1) 0 (1 + ts.length) = 0; rw [Nat.add_comm 1]; exact va_up_e, pN_up (by first | omega | (simp; omega)) htd.2⟩ (by first | omega | (simp; omega)) (by first | omega | (simp; omega)) (by first | omega | (simp; omega)) (fun x hx => by rcases List.mem_cons.mp hx with rfl | hx; exact (by decide); exact ho2 x (hdin x hx)) 1 (by decide)) (lw_V q2285 q2287 qs75 q136 q2288) iX8_operand rfl KX8 MH_m rfl rfl (by decide) (by decide) (Nat.le_of_ble_eq_true rfl) (by decide) (by decide) dX8_expression_109 (fun η' h => ?_)
                obtain ⟨hy, hn⟩ := h
                by_cases h109 : ∃ z, opd (tq σ) (gA σ 40) (gN σ 30) 701 1 0 (nx σ p) (4 :: (drL 2 ops r).1) (0 :: ts) = .ok z
                · obtain ⟨⟨p3, ops3, ts3, c3⟩, hz⟩ := h109
                  obtain ⟨wt3, td3, hw3, htd3, rfl⟩ := hy p3 ops3 ts3 c3 hz
                  obtain ⟨a1, a2, a3, a4, a5, a6, a7, a8, a9, a10⟩ := opd_inv hTK hT h26 701 1 0 (nx σ p) _ _ p3 ops3 ts3 c3 b22 hz
                  rw [dk2] at hz
                  have hM2 : _ = R := (andT_ok hz).symm.trans hM
                  have n12d : n12 (drL 2 ops r).1 = n12 ops := by rw [dk2]; exact drF_n12 2 ops fs
                  have hSm3 := Sm_C dk1 a10
                  have hpr3 := pN_push (v := c3.2) (pN_push (v := c3.1) hpr2)
                  have hin3 : ∀ x ∈ (4 :: (drL 2 ops r).1), 3 ≤ x ∧ x < 13 := fun x hx => by rcases List.mem_cons.mp hx with rfl | hx; exact ⟨by decide, by decide⟩; exact ho x (hdin x hx)
                  have hlow3 : ∀ i, i < gN σ 34 → va_up (va_up rd2 (gN σ 34 + (drL 2 ops r).2.length) c3.1) (gN σ 34 + (drL 2 ops r).2.length + 1) c3.2 i = gA σ 46 i := fun i hi => by rw [va_up_n (by omega), va_up_n (by omega), hlow2 i hi]; exact hlow i hi
                  have e12 : n12 (4 :: (drL 2 ops r).1) = n12 (drL 2 ops r).1 := n12_n _ (by decide)
                  have enb : nb (4 :: (drL 2 ops r).1) = nb (drL 2 ops r).1 + 1 := nb_a _ (by decide) (by decide)
                  simp only [List.length_cons] at a4 a5 a6 a7
                  rcases ts3 with _ | ⟨t3, ts3⟩
                  · exact absurd a6 (by simp)
                  refine v_goto (tgt := 354) dX8_expression_112 rfl ?_
                  refine v_goto (tgt := 35) dX8_expression_354 rfl ?_
                  exact ih p3 _ (c3.2 :: c3.1 :: (drL 2 ops r).2) wt3 ops3 (fC c3 :: (drF 2 ops fs).2) t3 ts3 td3 _ hM2 (by omega) a2 hSm3 (by rw [List.length_cons, dk3, a3, enb, dk2]) (a8 hin3) (by first | omega | (simp at a4; omega)) hpr3 hw3 htd3 (by first | omega | (simp at a7; omega)) (by first | omega | (simp; omega)) (by first | omega | (simp; omega)) hlow3 (a9 (fun x hx => by rcases List.mem_cons.mp hx with rfl | hx; exact (by decide); exact hx2 x (List.mem_cons_of_mem _ hx)))
                · obtain ⟨ke, qe, hz⟩ := er_of h109
                  have hxe := hn ke qe hz
                  rw [dk2] at hz
                  have hM2 : _ = R := (andT_er hz).symm.trans hM
                  refine v_goto (tgt := 354) dX8_expression_112 rfl ?_
                  refine v_goto (tgt := 35) dX8_expression_354 rfl ?_
                  exact LE ke qe _ _ hM2.symm hxe
          · refine v_iload_n (i := 3) dX8_expression_57 rfl rfl ?_
            refine v_bipush (v := nI 15) dX8_expression_58 k_bipush_15 ?_
            refine von_icmp_ne (tgt := 115) dX8_expression_60 rfl (by omega) (by decide) (fun c60 => ?_) (fun c60 => ?_)
            · refine v_aload_n (i := 0) dX8_expression_115 rfl rfl ?_
              refine v_bipush (v := nI 60) dX8_expression_116 k_bipush_60 ?_
              refine v_callVi (cM_signX hap σ hP p h2 rd (gN σ 34 + r.length) wt ops.length (t :: ts).length td 60 (by decide)) (lw_V q2237 q2239 qs63 q136 q2240) iX8_isSign rfl KX8 MH_m rfl rfl (by decide) (by decide) (Nat.le_of_ble_eq_true rfl) dX8_expression_118 ?_
              by_cases h118 : isS (tq σ p) 60
              · rw [if_pos h118]
                have hnx := hnx (by omega)
                refine vn_if_ne (tgt := 133) dX8_expression_121 rfl (by decide) (fun c121 => ?_) (fun c121 => ?_)
                · refine v_aload_n (i := 0) dX8_expression_133 rfl rfl ?_
                  refine mg_tested rfl dX8_expression_134 ?_
                  refine v_aload_n (i := 0) dX8_expression_137 rfl rfl ?_
                  refine mg_depth rfl dX8_expression_138 ?_
                  refine ml_tested hap (show (t :: ts).length < 9 by omega) dX8_expression_141 ?_
                  refine v_top (show _ = nI t from congrArg nI htt) ?_
                  refine vn_if_ne (tgt := 192) dX8_expression_142 rfl (by omega) (fun c142 => ?_) (fun c142 => ?_)
                  · exact L192 (by omega) (by omega) (fun q => c142 q.2) (fun q => by omega) _
                  · refine v_aload_n (i := 0) dX8_expression_145 rfl rfl ?_
                    refine v_iconst (v := nI 4) dX8_expression_146 k_iconst_4 ?_
                    refine v_callVW (kc' := 0) (ks' := 0) (cM_drops hap σ p (gN σ 34) 4 (by decide) wt (t :: ts).length td rd ops r (by omega) (by omega) ho2 hw hpr) (lw_V q2301 q2303 qs79 q136 q2304) iX8_drops rfl KX8 MH_m rfl rfl (by decide) (by decide) (Nat.le_of_ble_eq_true rfl) (by decide) (by decide) dX8_expression_147 (fun η' h => ?_)
                    obtain ⟨rd2, rfl, hpr2, hlow2⟩ := h
                    have dle := drL_le 4 ops r
                    have dl := dl 4
                    obtain ⟨dk1, dk2, dk3⟩ := dk 4
                    have hK : opK (tq σ p) t = 6 := by unfold opK; rw [if_neg (by omega), if_neg (by omega), if_pos ⟨h118, c142⟩]
                    have hM := (opr_op (T := tq σ) (lt := gA σ 40) (nT := gN σ 30) (n := n) (ops := ops) (fs := fs) (ts := t :: ts) hK (by decide)).symm.trans he
                    have hdin : ∀ x ∈ (drL 4 ops r).1, x ∈ ops := by rw [dk2]; exact drF_in 4 ops fs
                    have hwn : pN wt 0 (drL 4 ops r).1 := drL_pN hw
                    refine v_aload_n (i := 0) dX8_expression_150 rfl rfl ?_
                    refine v_aload_n (i := 0) dX8_expression_151 rfl rfl ?_
                    refine v_bipush (v := nI 60) dX8_expression_152 k_bipush_60 ?_
                    refine v_callVi (cM_signY hap σ hP p h2 rd2 (gN σ 34 + (drL 4 ops r).2.length) wt (drL 4 ops r).1.length (t :: ts).length td 60 (by decide) h118) (lw_V q2237 q2239 qs63 q136 q2240) iX8_isSign rfl KX8 MH_m rfl rfl (by decide) (by decide) (Nat.le_of_ble_eq_true rfl) dX8_expression_154 ?_
                    refine vn_if_eq (tgt := 165) dX8_expression_157 rfl (by decide) (fun c157 => ?_) (fun c157 => ?_)
                    · exact absurd c157 (by decide)
                    · refine v_bipush (v := nI 6) dX8_expression_160 k_bipush_6 ?_
                      refine v_goto (tgt := 167) dX8_expression_162 rfl ?_
                      refine v_callVv (cM_waitX hap σ p rd2 (gN σ 34 + (drL 4 ops r).2.length) wt (drL 4 ops r).1.length (t :: ts).length td 6 (by omega)) (lw_V q2289 q2291 qs76 q136 q2292) iX8_waitsFor rfl KX8 MH_m rfl rfl (by decide) (by decide) (Nat.le_of_ble_eq_true rfl) dX8_expression_167 ?_
                      refine v_aload_n (i := 0) dX8_expression_170 rfl rfl ?_
                      refine mg_tested rfl dX8_expression_171 ?_
                      refine v_aload_n (i := 0) dX8_expression_174 rfl rfl ?_
                      refine mg_depth rfl dX8_expression_175 ?_
                      refine v_iconst (v := nI 1) dX8_expression_178 k_iconst_1 ?_
                      refine ms_tested hap (show (t :: ts).length < 9 by omega) (by decide) dX8_expression_179 ?_
                      refine v_eq (congrArg (fun τ => MH m ad τ η0) (show _ = XS σ p rd2 (gN σ 34 + (drL 4 ops r).2.length) (va_up wt (drL 4 ops r).1.length 6) ((drL 4 ops r).1.length + 1) ((t :: ts).length) (va_up td (t :: ts).length 1) from XS_td σ p rd2 (gN σ 34 + (drL 4 ops r).2.length) (va_up wt (drL 4 ops r).1.length 6) ((drL 4 ops r).1.length + 1) (t :: ts).length td (t :: ts).length 1)) ?_
                      refine v_aload_n (i := 0) dX8_expression_180 rfl rfl ?_
                      refine v_callVv (cM_goesX hap σ hP p h2 rd2 (gN σ 34 + (drL 4 ops r).2.length) (va_up wt (drL 4 ops r).1.length 6) ((drL 4 ops r).1.length + 1) (t :: ts).length (va_up td (t :: ts).length 1)) (lw_V q2201 q2203 qs57 q136 q2204) iX8_goes rfl KX8 MH_m rfl rfl (by decide) (by decide) (Nat.le_of_ble_eq_true rfl) dX8_expression_181 ?_
                      refine v_aload_n (i := 0) dX8_expression_184 rfl rfl ?_
                      refine v_iconst (v := nI 0) dX8_expression_185 k_iconst_0 ?_
                      refine v_callVW (kc' := 0) (ks' := 0) (cM_operand hap σ hP (nx σ p) b22 hg rd2 (gN σ 34 + (drL 4 ops r).2.length) (va_up wt (drL 4 ops r).1.length 6) (6 :: (drL 4 ops r).1) (1 :: ts) (va_up td (t :: ts).length 1) hT hl (by have := pN_push (v := 6) hwn; rwa [Nat.zero_add] at this) ⟨by show va_up td (ts.length + 1) 1 (1 + ts.length) = 1; rw [Nat.add_comm 1]; exact va_up_e, pN_up (by first | omega | (simp; omega)) htd.2⟩ (by first | omega | (simp; omega)) (by first | omega | (simp; omega)) (by first | omega | (simp; omega)) (fun x hx => by rcases List.mem_cons.mp hx with rfl | hx; exact (by decide); exact ho2 x (hdin x hx)) 0 (by decide)) (lw_V q2285 q2287 qs75 q136 q2288) iX8_operand rfl KX8 MH_m rfl rfl (by decide) (by decide) (Nat.le_of_ble_eq_true rfl) (by decide) (by decide) dX8_expression_186 (fun η' h => ?_)
                      obtain ⟨hy, hn⟩ := h
                      by_cases h186 : ∃ z, opd (tq σ) (gA σ 40) (gN σ 30) 701 0 0 (nx σ p) (6 :: (drL 4 ops r).1) (1 :: ts) = .ok z
                      · obtain ⟨⟨p3, ops3, ts3, c3⟩, hz⟩ := h186
                        obtain ⟨wt3, td3, hw3, htd3, rfl⟩ := hy p3 ops3 ts3 c3 hz
                        obtain ⟨a1, a2, a3, a4, a5, a6, a7, a8, a9, a10⟩ := opd_inv hTK hT h26 701 0 0 (nx σ p) _ _ p3 ops3 ts3 c3 b22 hz
                        rw [dk2] at hz
                        have hM2 : _ = R := (andT_ok hz).symm.trans hM
                        have n12d : n12 (drL 4 ops r).1 = n12 ops := by rw [dk2]; exact drF_n12 4 ops fs
                        have hSm3 := Sm_C dk1 a10
                        have hpr3 := pN_push (v := c3.2) (pN_push (v := c3.1) hpr2)
                        have hin3 : ∀ x ∈ (6 :: (drL 4 ops r).1), 3 ≤ x ∧ x < 13 := fun x hx => by rcases List.mem_cons.mp hx with rfl | hx; exact ⟨by decide, by decide⟩; exact ho x (hdin x hx)
                        have hlow3 : ∀ i, i < gN σ 34 → va_up (va_up rd2 (gN σ 34 + (drL 4 ops r).2.length) c3.1) (gN σ 34 + (drL 4 ops r).2.length + 1) c3.2 i = gA σ 46 i := fun i hi => by rw [va_up_n (by omega), va_up_n (by omega), hlow2 i hi]; exact hlow i hi
                        have e12 : n12 (6 :: (drL 4 ops r).1) = n12 (drL 4 ops r).1 := n12_n _ (by decide)
                        have enb : nb (6 :: (drL 4 ops r).1) = nb (drL 4 ops r).1 + 1 := nb_a _ (by decide) (by decide)
                        simp only [List.length_cons] at a4 a5 a6 a7
                        rcases ts3 with _ | ⟨t3, ts3⟩
                        · exact absurd a6 (by simp)
                        refine v_goto (tgt := 354) dX8_expression_189 rfl ?_
                        refine v_goto (tgt := 35) dX8_expression_354 rfl ?_
                        exact ih p3 _ (c3.2 :: c3.1 :: (drL 4 ops r).2) wt3 ops3 (fC c3 :: (drF 4 ops fs).2) t3 ts3 td3 _ hM2 (by omega) a2 hSm3 (by rw [List.length_cons, dk3, a3, enb, dk2]) (a8 hin3) (by first | omega | (simp at a4; omega)) hpr3 hw3 htd3 (by first | omega | (simp at a7; omega)) (by first | omega | (simp; omega)) (by first | omega | (simp; omega)) hlow3 (a9 (fun x hx => by rcases List.mem_cons.mp hx with rfl | hx; exact (by decide); exact hx2 x (List.mem_cons_of_mem _ hx)))
                      · obtain ⟨ke, qe, hz⟩ := er_of h186
                        have hxe := hn ke qe hz
                        rw [dk2] at hz
                        have hM2 : _ = R := (andT_er hz).symm.trans hM
                        refine v_goto (tgt := 354) dX8_expression_189 rfl ?_
                        refine v_goto (tgt := 35) dX8_expression_354 rfl ?_
                        exact LE ke qe _ _ hM2.symm hxe
                · exact absurd c121 (by decide)
              · rw [if_neg h118]
                refine vn_if_ne (tgt := 133) dX8_expression_121 rfl (by decide) (fun c121 => ?_) (fun c121 => ?_)
                · exact absurd rfl c121
                · refine v_aload_n (i := 0) dX8_expression_124 rfl rfl ?_
                  refine v_bipush (v := nI 61) dX8_expression_125 k_bipush_61 ?_
                  refine v_callVi (cM_signX hap σ hP p h2 rd (gN σ 34 + r.length) wt ops.length (t :: ts).length td 61 (by decide)) (lw_V q2237 q2239 qs63 q136 q2240) iX8_isSign rfl KX8 MH_m rfl rfl (by decide) (by decide) (Nat.le_of_ble_eq_true rfl) dX8_expression_127 ?_
                  by_cases h127 : isS (tq σ p) 61
                  · rw [if_pos h127]
                    have hnx := hnx (by omega)
                    refine vn_if_eq (tgt := 192) dX8_expression_130 rfl (by decide) (fun c130 => ?_) (fun c130 => ?_)
                    · exact absurd c130 (by decide)
                    · refine v_aload_n (i := 0) dX8_expression_133 rfl rfl ?_
                      refine mg_tested rfl dX8_expression_134 ?_
                      refine v_aload_n (i := 0) dX8_expression_137 rfl rfl ?_
                      refine mg_depth rfl dX8_expression_138 ?_
                      refine ml_tested hap (show (t :: ts).length < 9 by omega) dX8_expression_141 ?_
                      refine v_top (show _ = nI t from congrArg nI htt) ?_
                      refine vn_if_ne (tgt := 192) dX8_expression_142 rfl (by omega) (fun c142 => ?_) (fun c142 => ?_)
                      · exact L192 (by omega) (by omega) (fun q => by omega) (fun q => c142 q.2) _
                      · refine v_aload_n (i := 0) dX8_expression_145 rfl rfl ?_
                        refine v_iconst (v := nI 4) dX8_expression_146 k_iconst_4 ?_
                        refine v_callVW (kc' := 0) (ks' := 0) (cM_drops hap σ p (gN σ 34) 4 (by decide) wt (t :: ts).length td rd ops r (by omega) (by omega) ho2 hw hpr) (lw_V q2301 q2303 qs79 q136 q2304) iX8_drops rfl KX8 MH_m rfl rfl (by decide) (by decide) (Nat.le_of_ble_eq_true rfl) (by decide) (by decide) dX8_expression_147 (fun η' h => ?_)
                        obtain ⟨rd2, rfl, hpr2, hlow2⟩ := h
                        have dle := drL_le 4 ops r
                        have dl := dl 4
                        obtain ⟨dk1, dk2, dk3⟩ := dk 4
                        have hK : opK (tq σ p) t = 7 := by unfold opK; rw [if_neg (by omega), if_neg (by omega), if_neg (fun q => h118 q.1), if_pos ⟨h127, c142⟩]
                        have hM := (opr_op (T := tq σ) (lt := gA σ 40) (nT := gN σ 30) (n := n) (ops := ops) (fs := fs) (ts := t :: ts) hK (by decide)).symm.trans he
                        have hdin : ∀ x ∈ (drL 4 ops r).1, x ∈ ops := by rw [dk2]; exact drF_in 4 ops fs
                        have hwn : pN wt 0 (drL 4 ops r).1 := drL_pN hw
                        refine v_aload_n (i := 0) dX8_expression_150 rfl rfl ?_
                        refine v_aload_n (i := 0) dX8_expression_151 rfl rfl ?_
                        refine v_bipush (v := nI 60) dX8_expression_152 k_bipush_60 ?_
                        refine v_callVi (cM_signN hap σ hP p h2 rd2 (gN σ 34 + (drL 4 ops r).2.length) wt (drL 4 ops r).1.length (t :: ts).length td 60 (by decide) h118) (lw_V q2237 q2239 qs63 q136 q2240) iX8_isSign rfl KX8 MH_m rfl rfl (by decide) (by decide) (Nat.le_of_ble_eq_true rfl) dX8_expression_154 ?_
                        refine vn_if_eq (tgt := 165) dX8_expression_157 rfl (by decide) (fun c157 => ?_) (fun c157 => ?_)
                        · refine v_bipush (v := nI 7) dX8_expression_165 k_bipush_7 ?_
                          refine v_callVv (cM_waitX hap σ p rd2 (gN σ 34 + (drL 4 ops r).2.length) wt (drL 4 ops r).1.length (t :: ts).length td 7 (by omega)) (lw_V q2289 q2291 qs76 q136 q2292) iX8_waitsFor rfl KX8 MH_m rfl rfl (by decide) (by decide) (Nat.le_of_ble_eq_true rfl) dX8_expression_167 ?_
                          refine v_aload_n (i := 0) dX8_expression_170 rfl rfl ?_
                          refine mg_tested rfl dX8_expression_171 ?_
                          refine v_aload_n (i := 0) dX8_expression_174 rfl rfl ?_
                          refine mg_depth rfl dX8_expression_175 ?_
                          refine v_iconst (v := nI 1) dX8_expression_178 k_iconst_1 ?_
                          refine ms_tested hap (show (t :: ts).length < 9 by omega) (by decide) dX8_expression_179 ?_
                          refine v_eq (congrArg (fun τ => MH m ad τ η0) (show _ = XS σ p rd2 (gN σ 34 + (drL 4 ops r).2.length) (va_up wt (drL 4 ops r).1.length 7) ((drL 4 ops r).1.length + 1) ((t :: ts).length) (va_up td (t :: ts).length 1) from XS_td σ p rd2 (gN σ 34 + (drL 4 ops r).2.length) (va_up wt (drL 4 ops r).1.length 7) ((drL 4 ops r).1.length + 1) (t :: ts).length td (t :: ts).length 1)) ?_
                          refine v_aload_n (i := 0) dX8_expression_180 rfl rfl ?_
                          refine v_callVv (cM_goesX hap σ hP p h2 rd2 (gN σ 34 + (drL 4 ops r).2.length) (va_up wt (drL 4 ops r).1.length 7) ((drL 4 ops r).1.length + 1) (t :: ts).length (va_up td (t :: ts).length 1)) (lw_V q2201 q2203 qs57 q136 q2204) iX8_goes rfl KX8 MH_m rfl rfl (by decide) (by decide) (Nat.le_of_ble_eq_true rfl) dX8_expression_181 ?_
                          refine v_aload_n (i := 0) dX8_expression_184 rfl rfl ?_
                          refine v_iconst (v := nI 0) dX8_expression_185 k_iconst_0 ?_
                          refine v_callVW (kc' := 0) (ks' := 0) (cM_operand hap σ hP (nx σ p) b22 hg rd2 (gN σ 34 + (drL 4 ops r).2.length) (va_up wt (drL 4 ops r).1.length 7) (7 :: (drL 4 ops r).1) (1 :: ts) (va_up td (t :: ts).length 1) hT hl (by have := pN_push (v := 7) hwn; rwa [Nat.zero_add] at this) ⟨by show va_up td (ts.length + 1) 1 (1 + ts.length) = 1; rw [Nat.add_comm 1]; exact va_up_e, pN_up (by first | omega | (simp; omega)) htd.2⟩ (by first | omega | (simp; omega)) (by first | omega | (simp; omega)) (by first | omega | (simp; omega)) (fun x hx => by rcases List.mem_cons.mp hx with rfl | hx; exact (by decide); exact ho2 x (hdin x hx)) 0 (by decide)) (lw_V q2285 q2287 qs75 q136 q2288) iX8_operand rfl KX8 MH_m rfl rfl (by decide) (by decide) (Nat.le_of_ble_eq_true rfl) (by decide) (by decide) dX8_expression_186 (fun η' h => ?_)
                          obtain ⟨hy, hn⟩ := h
                          by_cases h186 : ∃ z, opd (tq σ) (gA σ 40) (gN σ 30) 701 0 0 (nx σ p) (7 :: (drL 4 ops r).1) (1 :: ts) = .ok z
                          · obtain ⟨⟨p3, ops3, ts3, c3⟩, hz⟩ := h186
                            obtain ⟨wt3, td3, hw3, htd3, rfl⟩ := hy p3 ops3 ts3 c3 hz
                            obtain ⟨a1, a2, a3, a4, a5, a6, a7, a8, a9, a10⟩ := opd_inv hTK hT h26 701 0 0 (nx σ p) _ _ p3 ops3 ts3 c3 b22 hz
                            rw [dk2] at hz
                            have hM2 : _ = R := (andT_ok hz).symm.trans hM
                            have n12d : n12 (drL 4 ops r).1 = n12 ops := by rw [dk2]; exact drF_n12 4 ops fs
                            have hSm3 := Sm_C dk1 a10
                            have hpr3 := pN_push (v := c3.2) (pN_push (v := c3.1) hpr2)
                            have hin3 : ∀ x ∈ (7 :: (drL 4 ops r).1), 3 ≤ x ∧ x < 13 := fun x hx => by rcases List.mem_cons.mp hx with rfl | hx; exact ⟨by decide, by decide⟩; exact ho x (hdin x hx)
                            have hlow3 : ∀ i, i < gN σ 34 → va_up (va_up rd2 (gN σ 34 + (drL 4 ops r).2.length) c3.1) (gN σ 34 + (drL 4 ops r).2.length + 1) c3.2 i = gA σ 46 i := fun i hi => by rw [va_up_n (by omega), va_up_n (by omega), hlow2 i hi]; exact hlow i hi
                            have e12 : n12 (7 :: (drL 4 ops r).1) = n12 (drL 4 ops r).1 := n12_n _ (by decide)
                            have enb : nb (7 :: (drL 4 ops r).1) = nb (drL 4 ops r).1 + 1 := nb_a _ (by decide) (by decide)
                            simp only [List.length_cons] at a4 a5 a6 a7
                            rcases ts3 with _ | ⟨t3, ts3⟩
                            · exact absurd a6 (by simp)
                            refine v_goto (tgt := 354) dX8_expression_189 rfl ?_
                            refine v_goto (tgt := 35) dX8_expression_354 rfl ?_
                            exact ih p3 _ (c3.2 :: c3.1 :: (drL 4 ops r).2) wt3 ops3 (fC c3 :: (drF 4 ops fs).2) t3 ts3 td3 _ hM2 (by omega) a2 hSm3 (by rw [List.length_cons, dk3, a3, enb, dk2]) (a8 hin3) (by first | omega | (simp at a4; omega)) hpr3 hw3 htd3 (by first | omega | (simp at a7; omega)) (by first | omega | (simp; omega)) (by first | omega | (simp; omega)) hlow3 (a9 (fun x hx => by rcases List.mem_cons.mp hx with rfl | hx; exact (by decide); exact hx2 x (List.mem_cons_of_mem _ hx)))
                          · obtain ⟨ke, qe, hz⟩ := er_of h186
                            have hxe := hn ke qe hz
                            rw [dk2] at hz
                            have hM2 : _ = R := (andT_er hz).symm.trans hM
                            refine v_goto (tgt := 354) dX8_expression_189 rfl ?_
                            refine v_goto (tgt := 35) dX8_expression_354 rfl ?_
                            exact LE ke qe _ _ hM2.symm hxe
                        · exact absurd rfl c157
                  · rw [if_neg h127]
                    refine vn_if_eq (tgt := 192) dX8_expression_130 rfl (by decide) (fun c130 => ?_) (fun c130 => ?_)
                    · exact L192 (by omega) (by omega) (fun q => h118 q.1) (fun q => h127 q.1) _
                    · exact absurd rfl c130
            · have hs1 : tq σ p 23 = 1 := kwT_1 (by omega)
              have hnx := hnx (by omega)
              refine v_aload_n (i := 0) dX8_expression_63 rfl rfl ?_
              refine v_iload_n (i := 3) dX8_expression_64 rfl rfl ?_
              refine v_bipush (v := nI 14) dX8_expression_65 k_bipush_14 ?_
              refine von_icmp_ne (tgt := 74) dX8_expression_67 rfl (by omega) (by decide) (fun c67 => ?_) (fun c67 => ?_)
              · refine v_iconst (v := nI 1) dX8_expression_74 k_iconst_1 ?_
                refine v_callVW (kc' := 0) (ks' := 0) (cM_drops hap σ p (gN σ 34) 1 (by decide) wt (t :: ts).length td rd ops r (by omega) (by omega) ho2 hw hpr) (lw_V q2301 q2303 qs79 q136 q2304) iX8_drops rfl KX8 MH_m rfl rfl (by decide) (by decide) (Nat.le_of_ble_eq_true rfl) (by decide) (by decide) dX8_expression_75 (fun η' h => ?_)
                obtain ⟨rd2, rfl, hpr2, hlow2⟩ := h
                have dle := drL_le 1 ops r
                have dl := dl 1
                obtain ⟨dk1, dk2, dk3⟩ := dk 1
                have hK : opK (tq σ p) t = 5 := by unfold opK; rw [if_neg c54, if_pos c60]
                have hM := (opr_op (T := tq σ) (lt := gA σ 40) (nT := gN σ 30) (n := n) (ops := ops) (fs := fs) (ts := t :: ts) hK (by decide)).symm.trans he
                have hdin : ∀ x ∈ (drL 1 ops r).1, x ∈ ops := by rw [dk2]; exact drF_in 1 ops fs
                have hwn : pN wt 0 (drL 1 ops r).1 := drL_pN hw
                refine v_aload_n (i := 0) dX8_expression_78 rfl rfl ?_
                refine v_iload_n (i := 3) dX8_expression_79 rfl rfl ?_
                refine v_bipush (v := nI 14) dX8_expression_80 k_bipush_14 ?_
                refine von_icmp_ne (tgt := 89) dX8_expression_82 rfl (by omega) (by decide) (fun c82 => ?_) (fun c82 => ?_)
                · refine v_iconst (v := nI 5) dX8_expression_89 k_iconst_5 ?_
                  refine v_callVv (cM_waitX hap σ p rd2 (gN σ 34 + (drL 1 ops r).2.length) wt (drL 1 ops r).1.length (t :: ts).length td 5 (by omega)) (lw_V q2289 q2291 qs76 q136 q2292) iX8_waitsFor rfl KX8 MH_m rfl rfl (by decide) (by decide) (Nat.le_of_ble_eq_true rfl) dX8_expression_90 ?_
                  refine v_aload_n (i := 0) dX8_expression_93 rfl rfl ?_
                  refine mg_tested rfl dX8_expression_94 ?_
                  refine v_aload_n (i := 0) dX8_expression_97 rfl rfl ?_
                  refine mg_depth rfl dX8_expression_98 ?_
                  refine v_iconst (v := nI 0) dX8_expression_101 k_iconst_0 ?_
                  refine ms_tested hap (show (t :: ts).length < 9 by omega) (by decide) dX8_expression_102 ?_
                  refine v_eq (congrArg (fun τ => MH m ad τ η0) (show _ = XS σ p rd2 (gN σ 34 + (drL 1 ops r).2.length) (va_up wt (drL 1 ops r).1.length 5) ((drL 1 ops r).1.length + 1) ((t :: ts).length) (va_up td (t :: ts).length 0) from XS_td σ p rd2 (gN σ 34 + (drL 1 ops r).2.length) (va_up wt (drL 1 ops r).1.length 5) ((drL 1 ops r).1.length + 1) (t :: ts).length td (t :: ts).length 0)) ?_
                  refine v_aload_n (i := 0) dX8_expression_103 rfl rfl ?_
                  refine v_callVv (cM_goesX hap σ hP p h2 rd2 (gN σ 34 + (drL 1 ops r).2.length) (va_up wt (drL 1 ops r).1.length 5) ((drL 1 ops r).1.length + 1) (t :: ts).length (va_up td (t :: ts).length 0)) (lw_V q2201 q2203 qs57 q136 q2204) iX8_goes rfl KX8 MH_m rfl rfl (by decide) (by decide) (Nat.le_of_ble_eq_true rfl) dX8_expression_104 ?_
                  refine v_aload_n (i := 0) dX8_expression_107 rfl rfl ?_
                  refine v_iconst (v := nI 1) dX8_expression_108 k_iconst_1 ?_
                  refine v_callVW (kc' := 0) (ks' := 0) (cM_operand hap σ hP (nx σ p) b22 hg rd2 (gN σ 34 + (drL 1 ops r).2.length) (va_up wt (drL 1 ops r).1.length 5) (5 :: (drL 1 ops r).1) (0 :: ts) (va_up td (t :: ts).length 0) hT hl (by have := pN_push (v := 5) hwn; rwa [Nat.zero_add] at this) ⟨by show va_up td (ts.length + 1) 0 (1 + ts.length) = 0; rw [Nat.add_comm 1]; exact va_up_e, pN_up (by first | omega | (simp; omega)) htd.2⟩ (by first | omega | (simp; omega)) (by first | omega | (simp; omega)) (by first | omega | (simp; omega)) (fun x hx => by rcases List.mem_cons.mp hx with rfl | hx; exact (by decide); exact ho2 x (hdin x hx)) 1 (by decide)) (lw_V q2285 q2287 qs75 q136 q2288) iX8_operand rfl KX8 MH_m rfl rfl (by decide) (by decide) (Nat.le_of_ble_eq_true rfl) (by decide) (by decide) dX8_expression_109 (fun η' h => ?_)
                  obtain ⟨hy, hn⟩ := h
                  by_cases h109 : ∃ z, opd (tq σ) (gA σ 40) (gN σ 30) 701 1 0 (nx σ p) (5 :: (drL 1 ops r).1) (0 :: ts) = .ok z
                  · obtain ⟨⟨p3, ops3, ts3, c3⟩, hz⟩ := h109
                    obtain ⟨wt3, td3, hw3, htd3, rfl⟩ := hy p3 ops3 ts3 c3 hz
                    obtain ⟨a1, a2, a3, a4, a5, a6, a7, a8, a9, a10⟩ := opd_inv hTK hT h26 701 1 0 (nx σ p) _ _ p3 ops3 ts3 c3 b22 hz
                    rw [dk2] at hz
                    have hM2 : _ = R := (andT_ok hz).symm.trans hM
                    have n12d : n12 (drL 1 ops r).1 = n12 ops := by rw [dk2]; exact drF_n12 1 ops fs
                    have hSm3 := Sm_C dk1 a10
                    have hpr3 := pN_push (v := c3.2) (pN_push (v := c3.1) hpr2)
                    have hin3 : ∀ x ∈ (5 :: (drL 1 ops r).1), 3 ≤ x ∧ x < 13 := fun x hx => by rcases List.mem_cons.mp hx with rfl | hx; exact ⟨by decide, by decide⟩; exact ho x (hdin x hx)
                    have hlow3 : ∀ i, i < gN σ 34 → va_up (va_up rd2 (gN σ 34 + (drL 1 ops r).2.length) c3.1) (gN σ 34 + (drL 1 ops r).2.length + 1) c3.2 i = gA σ 46 i := fun i hi => by rw [va_up_n (by omega), va_up_n (by omega), hlow2 i hi]; exact hlow i hi
                    have e12 : n12 (5 :: (drL 1 ops r).1) = n12 (drL 1 ops r).1 := n12_n _ (by decide)
                    have enb : nb (5 :: (drL 1 ops r).1) = nb (drL 1 ops r).1 + 1 := nb_a _ (by decide) (by decide)
                    simp only [List.length_cons] at a4 a5 a6 a7
                    rcases ts3 with _ | ⟨t3, ts3⟩
                    · exact absurd a6 (by simp)
                    refine v_goto (tgt := 354) dX8_expression_112 rfl ?_
                    refine v_goto (tgt := 35) dX8_expression_354 rfl ?_
                    exact ih p3 _ (c3.2 :: c3.1 :: (drL 1 ops r).2) wt3 ops3 (fC c3 :: (drF 1 ops fs).2) t3 ts3 td3 _ hM2 (by omega) a2 hSm3 (by rw [List.length_cons, dk3, a3, enb, dk2]) (a8 hin3) (by first | omega | (simp at a4; omega)) hpr3 hw3 htd3 (by first | omega | (simp at a7; omega)) (by first | omega | (simp; omega)) (by first | omega | (simp; omega)) hlow3 (a9 (fun x hx => by rcases List.mem_cons.mp hx with rfl | hx; exact (by decide); exact hx2 x (List.mem_cons_of_mem _ hx)))
                  · obtain ⟨ke, qe, hz⟩ := er_of h109
                    have hxe := hn ke qe hz
                    rw [dk2] at hz
                    have hM2 : _ = R := (andT_er hz).symm.trans hM
                    refine v_goto (tgt := 354) dX8_expression_112 rfl ?_
                    refine v_goto (tgt := 35) dX8_expression_354 rfl ?_
                    exact LE ke qe _ _ hM2.symm hxe
                · exact absurd c82 c54
              · exact absurd c67 c54
  rw [show MH m ad (TS σ p) η0 = MH m ad (XS σ p (gA σ 46) (gN σ 34) (gA σ 47) (gN σ 35) (gN σ 36) (gA σ 49)) η0 from congrArg (fun τ => MH m ad τ η0) (XS_self σ p)]
  refine v_aload_n (i := 0) dX8_expression_0 rfl rfl ?_
  refine mg_top rfl dX8_expression_1 ?_
  refine v_istore_n (i := 1) dX8_expression_4 rfl (by decide) rfl ?_
  refine v_aload_n (i := 0) dX8_expression_5 rfl rfl ?_
  refine v_callVi (cM_goodG hap (XS σ p (gA σ 46) (gN σ 34) (gA σ 47) (gN σ 35) (gN σ 36) (gA σ 49)) hg) (lw_V q2229 q2231 qs61 q136 q2232) iX8_isGood rfl KX8 MH_m rfl rfl (by decide) (by decide) (Nat.le_of_ble_eq_true rfl) dX8_expression_6 ?_
  refine vn_if_ne (tgt := 14) dX8_expression_9 rfl (by decide) (fun c9 => ?_) (fun c9 => ?_)
  · refine v_aload_n (i := 0) dX8_expression_14 rfl rfl ?_
    refine v_iconst (v := nI 0) dX8_expression_15 k_iconst_0 ?_
    refine mp_waiting rfl dX8_expression_16 ?_
    refine v_eq (congrArg (fun τ => MH m ad τ η0) (show _ = XS σ p (gA σ 46) (gN σ 34) (gA σ 47) 0 (gN σ 36) (gA σ 49) from XS_wn σ p (gA σ 46) (gN σ 34) (gA σ 47) (gN σ 35) (gN σ 36) (gA σ 49) 0)) ?_
    refine v_aload_n (i := 0) dX8_expression_19 rfl rfl ?_
    refine v_iconst (v := nI 0) dX8_expression_20 k_iconst_0 ?_
    refine mp_depth rfl dX8_expression_21 ?_
    refine v_eq (congrArg (fun τ => MH m ad τ η0) (show _ = XS σ p (gA σ 46) (gN σ 34) (gA σ 47) 0 0 (gA σ 49) from XS_dp σ p (gA σ 46) (gN σ 34) (gA σ 47) 0 (gN σ 36) (gA σ 49) 0)) ?_
    refine v_aload_n (i := 0) dX8_expression_24 rfl rfl ?_
    refine v_callVv (cM_deeperY hap σ p (gA σ 46) (gN σ 34) (gA σ 47) 0 0 (gA σ 49) (by decide)) (lw_V q2281 q2283 qs74 q136 q2284) iX8_deeper rfl KX8 MH_m rfl rfl (by decide) (by decide) (Nat.le_of_ble_eq_true rfl) dX8_expression_25 ?_
    refine v_aload_n (i := 0) dX8_expression_28 rfl rfl ?_
    refine v_iconst (v := nI 1) dX8_expression_29 k_iconst_1 ?_
    refine v_callVW (kc' := 0) (ks' := 0) (cM_operand hap σ hP p hp hg (gA σ 46) (gN σ 34) (gA σ 47) [] [0] (va_up (gA σ 49) (1 + 0) 0) hT hl trivial ⟨va_up_e, trivial⟩ (by simp) (by simp) (by first | omega | (simp; omega)) (fun _ h => by cases h) 1 (by decide)) (lw_V q2285 q2287 qs75 q136 q2288) iX8_operand rfl KX8 MH_m rfl rfl (by decide) (by decide) (Nat.le_of_ble_eq_true rfl) (by decide) (by decide) dX8_expression_30 (fun η' h => ?_)
    obtain ⟨hy, hn⟩ := h
    by_cases h30 : ∃ z, opd (tq σ) (gA σ 40) (gN σ 30) 701 1 0 p [] [0] = .ok z
    · obtain ⟨⟨p3, ops3, ts3, c3⟩, hz⟩ := h30
      obtain ⟨wt3, td3, hw3, htd3, rfl⟩ := hy p3 ops3 ts3 c3 hz
      obtain ⟨a1, a2, a3, a4, a5, a6, a7, a8, a9, a10⟩ := opd_inv hTK hT h26 701 1 0 p _ _ p3 ops3 ts3 c3 hp hz
      have hM2 : _ = R := (andT_ok hz).symm.trans hR
      have hSm3 := Sm_C Sm_0 a10
      have hpr3 : pN (va_up (va_up (gA σ 46) (gN σ 34) c3.1) (gN σ 34 + 1) c3.2) (gN σ 34) [c3.2, c3.1] := ⟨va_up_e, by show va_up _ _ _ (gN σ 34) = _; rw [va_up_n (by omega)]; exact va_up_e, trivial⟩
      simp only [List.length_cons, List.length_nil] at a4 a5 a6 a7
      rcases ts3 with _ | ⟨t3, ts3⟩
      · exact absurd a6 (by simp)
      refine v_iconst (v := nI 1) dX8_expression_33 k_iconst_1 ?_
      refine v_istore_n (i := 2) dX8_expression_34 rfl (by decide) rfl ?_
      exact L 701 p3 _ [c3.2, c3.1] wt3 ops3 [fC c3] t3 ts3 td3 _ hM2 (by omega) a2 hSm3 (by rw [a3]; rfl) (a8 (fun _ h => by cases h)) (by have : n12 [] = 0 := rfl; simp at a4; omega) hpr3 hw3 htd3 (by first | omega | (simp at a7; omega)) (by omega) (by first | omega | (simp; omega)) (fun i hi => by rw [va_up_n (by omega), va_up_n (by omega)]) (a9 (fun x hx => by simp at hx; omega))
    · obtain ⟨ke, qe, hz⟩ := er_of h30
      have hxe := hn ke qe hz
      have hM2 : _ = R := (andT_er hz).symm.trans hR
      refine v_iconst (v := nI 1) dX8_expression_33 k_iconst_1 ?_
      refine v_istore_n (i := 2) dX8_expression_34 rfl (by decide) rfl ?_
      exact LE ke qe _ _ hM2.symm hxe
  · exact absurd c9 (by decide)
