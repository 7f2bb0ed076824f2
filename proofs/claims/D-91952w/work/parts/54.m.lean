theorem cM_goesBy {G : Gl} {m : Nat} {ad : Nat → Nat} {η0 : AH} (hap : Mp m ad) (σ : MS) (τ : Td) (hd ld : Nat → Nat) (w : Nat) (hW : WX σ τ hd ld w) (X : XT) (hX : XM σ X) (k b to : Nat) (hk : k < xn X) (hb : b < tN τ 31) (hto : to < tN τ 29) (h66 : gN σ 66 = 0) (hml : gA σ 68 b = (mayL τ hd ld b).length ∧ holdsL (gA σ 69) (256 * b) (mayL τ hd ld b)) : Ct G yX8_goesBy cX8_goesBy 12 none 6 0 0 [.ref m, .int (nI k), .int (nI b), .int (nI to)] (MH m ad σ η0) (rv fun η => ∃ σ2, η = MH m ad σ2 η0 ∧ EF σ σ2 ∧ Cch (bfT τ) (gA σ2 50) ∧ (gA σ2 57 = gA σ 57 ∧ gA σ2 68 = gA σ 68 ∧ gA σ2 69 = gA σ 69 ∧ gN σ2 67 = gN σ 67) ∧ ((if canG τ (xst X k) b to then xSets (τ, hd, ld, w) k (xst X k) b to X else some X) = none → gN σ2 66 = 1 ∧ gN σ2 54 ≤ 2000) ∧ ∀ X2, (if canG τ (xst X k) b to then xSets (τ, hd, ld, w) k (xst X k) b to X else some X) = some X2 → gN σ2 66 = 0 ∧ XM σ2 X2 ∧ xn X ≤ xn X2 ∧ xst X2 k = xst X k ∧ xfs X2 = xfs X) := by
  refine Ct.start rfl rfl (Nat.le_of_ble_eq_true rfl) (fun Γ => ?_)
  generalize hR : (if canG τ (xst X k) b to then xSets (τ, hd, ld, w) k (xst X k) b to X else some X) = R
  have hTB := hW.1
  have hb2 : b < 2 := by have := hTB.1; omega
  have hto4 : to < 4 := by have := hTB.1; omega
  have hn2 := hX.2.2.1.1
  obtain ⟨x1, x2, x3, x4⟩ := hX.2.2.2.2.1 k hk
  generalize hx : xst X k = x at *
  have hl4 : gN σ 5 ≤ 4 := hW.b.2.2.2.1
  have hbo := bo_lt x b
  have hla := la_lt x
  have hfl := flT_lt hTB hbo hto4
  have hs8 := setN_256 x (bo x b) hTB.1.2.2.1
  have hmn := mayL_len hTB hd ld b
  have e5 : gN σ 5 = tN τ 33 := hW.2.1.2.2.2.2.1
  have L : ∀ (l : List Nat) (i : Nat) (σ2 : MS) (X2 : XT) (z8 z9 z10 z11 : Option Value), holdsL (gA σ 69) (256 * b + i) l → i + l.length = (mayL τ hd ld b).length → (∀ s ∈ l, s < 256) → xF (ok_B τ w x b to) (fun s X => xStep X k b to s (bhT τ x b to s)) l X2 = R → EF σ σ2 → Cch (bfT τ) (gA σ2 50) → (gA σ2 57 = gA σ 57 ∧ gA σ2 68 = gA σ 68 ∧ gA σ2 69 = gA σ 69 ∧ gN σ2 67 = gN σ 67) → gN σ2 66 = 0 → XM σ2 X2 → xn X ≤ xn X2 → xst X2 k = x → xfs X2 = xfs X → V G Γ yX8_goesBy cX8_goesBy 12 none [] 6 (rv fun η => ∃ σ2, η = MH m ad σ2 η0 ∧ EF σ σ2 ∧ Cch (bfT τ) (gA σ2 50) ∧ (gA σ2 57 = gA σ 57 ∧ gA σ2 68 = gA σ 68 ∧ gA σ2 69 = gA σ 69 ∧ gN σ2 67 = gN σ 67) ∧ (R = none → gN σ2 66 = 1 ∧ gN σ2 54 ≤ 2000) ∧ ∀ X2, R = some X2 → gN σ2 66 = 0 ∧ XM σ2 X2 ∧ xn X ≤ xn X2 ∧ xst X2 k = x ∧ xfs X2 = xfs X) 0 0 (MH m ad σ2 η0) 60 [some (.ref m), some (.int (nI k)), some (.int (nI b)), some (.int (nI to)), some (.int (nI x)), some (.int (nI (bo x b))), some (.int (nI (setN x (bo x b) (tN τ 30)))), some (.int (nI i)), z8, z9, z10, z11] [] := by
    intro l
    induction l with
    | nil =>
      intro i σ2 X2 z8 z9 z10 z11 hl hi hls hq hE hC h3 h6 hX2 hnn hxk hfs
      have hi : i = (mayL τ hd ld b).length := hi
      refine v_iload (i := 7) dX8_goesBy_60 rfl ?_
      refine v_aload_n (i := 0) dX8_goesBy_62 rfl rfl ?_
      refine mg_mayMany rfl dX8_goesBy_63 ?_
      refine v_iload_n (i := 2) dX8_goesBy_66 rfl rfl ?_
      refine ml_mayMany hap hb2 dX8_goesBy_67 ?_
      refine v_top (show _ = nI (mayL τ hd ld b).length from congrArg nI (by rw [h3.2.1]; exact hml.1)) ?_
      refine vn_icmp_ge (tgt := 284) dX8_goesBy_68 rfl (by omega) (by omega) (fun c68 => ?_) (fun c68 => ?_)
      · exact v_vret rfl dX8_goesBy_284 ⟨rfl, σ2, rfl, hE, hC, h3, fun q => (by rw [← hq] at q; cases q), fun X3 q => (by rw [← hq] at q; cases q; exact ⟨h6, hX2, hnn, hxk, hfs⟩)⟩
      · omega
    | cons s l ih =>
      intro i σ2 X2 z8 z9 z10 z11 hl hi hls hq hE hC h3 h6 hX2 hnn hxk hfs
      simp only [List.length_cons] at hi
      have hs := hls s List.mem_cons_self
      have hls2 : ∀ s ∈ l, s < 256 := fun s h => hls s (List.mem_cons_of_mem _ h)
      have hW2 := hE.wx hW hC
      have hy := bhT_lt hTB (s := s) x3 hb2 hto4
      have hab := abT_lt hTB w s
      have hbs1 := bsT_lt hTB w x s (1 * 2 ^ b) 1
      have hbs2 := bsT_lt hTB w (bhT τ x b to s) 0 0 0
      have hgb : 1 * 2 ^ b < 2147483648 := by have : 2 ^ b ≤ 2 ^ 1 := p2_le (by omega); omega
      have hk2 : k < xn X2 := by omega
      have hn3 := hX2.2.2.1.1
      have hfk := hX2.2.2.2.2.1 k hk2
      refine v_iload (i := 7) dX8_goesBy_60 rfl ?_
      refine v_aload_n (i := 0) dX8_goesBy_62 rfl rfl ?_
      refine mg_mayMany rfl dX8_goesBy_63 ?_
      refine v_iload_n (i := 2) dX8_goesBy_66 rfl rfl ?_
      refine ml_mayMany hap hb2 dX8_goesBy_67 ?_
      refine v_top (show _ = nI (mayL τ hd ld b).length from congrArg nI (by rw [h3.2.1]; exact hml.1)) ?_
      refine vn_icmp_ge (tgt := 284) dX8_goesBy_68 rfl (by omega) (by omega) (fun c68 => ?_) (fun c68 => ?_)
      · omega
      · refine v_aload_n (i := 0) dX8_goesBy_71 rfl rfl ?_
        refine mg_isSpent rfl dX8_goesBy_72 ?_
        refine vn_if_ne (tgt := 284) dX8_goesBy_75 rfl (show gN σ2 66 < _ by omega) (fun c75 => ?_) (fun c75 => ?_)
        · exact absurd h6 c75
        · refine v_aload_n (i := 0) dX8_goesBy_78 rfl rfl ?_
          refine mg_may rfl dX8_goesBy_79 ?_
          refine v_sipush (v := nI 256) dX8_goesBy_82 k_sipush_256 ?_
          refine v_iload_n (i := 2) dX8_goesBy_85 rfl rfl ?_
          refine vn_imul dX8_goesBy_86 ?_
          refine v_iload (i := 7) dX8_goesBy_87 rfl ?_
          refine vn_iadd dX8_goesBy_89 ?_
          refine ml_may hap (by omega) dX8_goesBy_90 ?_
          refine v_top (show _ = nI s from congrArg nI (by rw [h3.2.2.1]; exact hl.1)) ?_
          refine v_istore (i := 8) dX8_goesBy_91 (by decide) rfl ?_
          refine v_iload (i := 8) dX8_goesBy_93 rfl ?_
          refine v_iload (i := 6) dX8_goesBy_95 rfl ?_
          refine v_iconst (v := -1) dX8_goesBy_97 k_iconst_m1 ?_
          refine v_ixor dX8_goesBy_98 ?_
          refine vn_andc dX8_goesBy_99 ?_
          refine vn_if_ne (tgt := 278) dX8_goesBy_100 rfl (by have := ndf_le s (setN x (bo x b) (tN τ 30)); omega) (fun c100 => ?_) (fun c100 => ?_)
          · refine vn_iinc 1 dX8_goesBy_278 rfl k_iconst_1 (by decide) rfl ?_
            refine v_goto (tgt := 60) dX8_goesBy_281 rfl ?_
            have hok : ¬ ok_B τ w x b to s = true := by unfold ok_B; rw [decide_eq_true_eq]; exact fun q => c100 q.1
            rw [xF_n hok] at hq
            exact ih (i + 1) σ2 X2 _ _ _ _ hl.2 (by omega) hls2 hq (hE) hC h3 h6 hX2 hnn hxk hfs
          · refine v_aload_n (i := 0) dX8_goesBy_103 rfl rfl ?_
            refine v_iload (i := 8) dX8_goesBy_104 rfl ?_
            refine v_callVI (kc' := 0) (ks' := 0) (cX_aboard hap σ2 τ hd ld w hW2 s hs) (lw_V q2425 q2427 qs98 q136 q2428) iX8_aboard rfl KX8 MH_m rfl rfl (by decide) (by decide) (Nat.le_of_ble_eq_true rfl) (by decide) (by decide) dX8_goesBy_106 (fun x_ η' h => ?_)
            obtain ⟨rfl, c1, p1, hc1, rfl⟩ := h
            refine vn_if_ne (tgt := 278) dX8_goesBy_109 rfl (by omega) (fun c109 => ?_) (fun c109 => ?_)
            · refine vn_iinc 1 dX8_goesBy_278 rfl k_iconst_1 (by decide) rfl ?_
              refine v_goto (tgt := 60) dX8_goesBy_281 rfl ?_
              have hok : ¬ ok_B τ w x b to s = true := by unfold ok_B; rw [decide_eq_true_eq]; exact fun q => c109 q.2.1
              rw [xF_n hok] at hq
              exact ih (i + 1) (sCP σ2 c1 p1) X2 _ _ _ _ hl.2 (by omega) hls2 hq (hE.cp) hc1 h3 h6 hX2 hnn hxk hfs
            · refine v_aload_n (i := 0) dX8_goesBy_112 rfl rfl ?_
              refine v_iload (i := 4) dX8_goesBy_113 rfl ?_
              refine v_iload (i := 8) dX8_goesBy_115 rfl ?_
              refine v_iconst (v := nI 1) dX8_goesBy_117 k_iconst_1 ?_
              refine v_iload_n (i := 2) dX8_goesBy_118 rfl rfl ?_
              refine vn_ishl (by omega) dX8_goesBy_119 ?_
              refine v_iconst (v := nI 1) dX8_goesBy_120 k_iconst_1 ?_
              refine v_callVI (kc' := 0) (ks' := 0) (cX_barsShores hap (sCP σ2 c1 p1) τ hd ld w (hW2.cp hc1) x s (1 * 2 ^ b) 1 (by omega) hgb (by decide)) (lw_V q2406 q2408 qs94 q136 q2409) iX8_barsShores rfl KX8 MH_m rfl rfl (by decide) (by decide) (Nat.le_of_ble_eq_true rfl) (by decide) (by decide) dX8_goesBy_121 (fun x_ η' h => ?_)
              obtain ⟨rfl, c2, p2, hc2, rfl⟩ := h
              rw [sCP_sCP]
              refine vn_if_eq (tgt := 130) dX8_goesBy_124 rfl (by omega) (fun c124 => ?_) (fun c124 => ?_)
              · refine v_aload_n (i := 0) dX8_goesBy_130 rfl rfl ?_
                refine v_iload (i := 4) dX8_goesBy_131 rfl ?_
                refine v_iload_n (i := 2) dX8_goesBy_133 rfl rfl ?_
                refine v_iload_n (i := 3) dX8_goesBy_134 rfl rfl ?_
                refine v_iload (i := 8) dX8_goesBy_135 rfl ?_
                refine v_callVi (cX_behind hap (sCP σ2 c2 p2) τ hd ld w (hW2.cp hc2) x b to s hb2 (by omega)) (lw_V q2429 q2431 qs99 q136 q2432) iX8_behind rfl KX8 MH_m rfl rfl (by decide) (by decide) (Nat.le_of_ble_eq_true rfl) dX8_goesBy_137 ?_
                refine v_istore (i := 9) dX8_goesBy_140 (by decide) rfl ?_
                refine v_aload_n (i := 0) dX8_goesBy_142 rfl rfl ?_
                refine v_iload (i := 9) dX8_goesBy_143 rfl ?_
                refine v_iconst (v := nI 0) dX8_goesBy_145 k_iconst_0 ?_
                refine v_iconst (v := nI 0) dX8_goesBy_146 k_iconst_0 ?_
                refine v_iconst (v := nI 0) dX8_goesBy_147 k_iconst_0 ?_
                refine v_callVI (kc' := 0) (ks' := 0) (cX_barsShores hap (sCP σ2 c2 p2) τ hd ld w (hW2.cp hc2) (bhT τ x b to s) 0 0 0 (by omega) (by decide) (by decide)) (lw_V q2406 q2408 qs94 q136 q2409) iX8_barsShores rfl KX8 MH_m rfl rfl (by decide) (by decide) (Nat.le_of_ble_eq_true rfl) (by decide) (by decide) dX8_goesBy_148 (fun x_ η' h => ?_)
                obtain ⟨rfl, c3, p3, hc3, rfl⟩ := h
                rw [sCP_sCP]
                refine vn_if_eq (tgt := 157) dX8_goesBy_151 rfl (by omega) (fun c151 => ?_) (fun c151 => ?_)
                · refine v_aload_n (i := 0) dX8_goesBy_157 rfl rfl ?_
                  refine mg_states rfl dX8_goesBy_158 ?_
                  refine v_istore (i := 10) dX8_goesBy_161 (by decide) rfl ?_
                  refine v_aload_n (i := 0) dX8_goesBy_163 rfl rfl ?_
                  refine v_iload (i := 9) dX8_goesBy_164 rfl ?_
                  refine v_callVI (kc' := 0) (ks' := 0) (cM_numberOf hap (sCP σ2 c3 p3) (bhT τ x b to s) hy (by show SLt hsM (gA σ2 60) (gA σ2 56) (gN σ2 54); rw [hX2.1]; exact hX2.2.2.1) (fun j hj => by have hj : j < gN σ2 54 := hj; rw [hX2.1] at hj; show gA σ2 56 j < _; rw [(hX2.2.2.2.2.1 j hj).1]; have := (hX2.2.2.2.2.1 j hj).2.2.1; omega)) (lw_V q2402 q2404 qs93 q136 q2405) iX8_numberOf rfl KX8 MH_m rfl rfl (by decide) (by decide) (Nat.le_of_ble_eq_true rfl) (by decide) (by decide) dX8_goesBy_166 (fun x_ η' h => ?_)
                  have hix : ixN (gA (sCP σ2 c3 p3) 56) (bhT τ x b to s) (gN (sCP σ2 c3 p3) 54) = ixN (xst X2) (bhT τ x b to s) (xn X2) := hX2.ix _
                  have h54 : gN (sCP σ2 c3 p3) 54 = xn X2 := hX2.1
                  rw [hix, h54] at h
                  have hixl := ixN_le (xst X2) (bhT τ x b to s) (xn X2)
                  have hok : ok_B τ w x b to s = true := by unfold ok_B; rw [decide_eq_true_eq]; exact ⟨c100, c109, c124, c151⟩
                  rw [xF_y hok] at hq
                  rcases (show ixN (xst X2) (bhT τ x b to s) (xn X2) < xn X2 ∨ (ixN (xst X2) (bhT τ x b to s) (xn X2) = xn X2 ∧ xn X2 = 2000) ∨ (ixN (xst X2) (bhT τ x b to s) (xn X2) = xn X2 ∧ xn X2 < 2000) by omega) with hc | hc | hc
                  · obtain ⟨rfl, rfl⟩ := h.1 hc
                    refine v_istore (i := 11) dX8_goesBy_169 (by decide) rfl ?_
                    refine v_aload_n (i := 0) dX8_goesBy_171 rfl rfl ?_
                    refine v_iload (i := 11) dX8_goesBy_172 rfl ?_
                    refine v_iconst (v := -1) dX8_goesBy_174 k_iconst_m1 ?_
                    refine v_icmp_eq (tgt := 188) dX8_goesBy_175 rfl (fun c175 => ?_) (fun c175 => ?_)
                    · exact absurd c175 (nI_m1 (by omega))
                    · refine v_aload_n (i := 0) dX8_goesBy_178 rfl rfl ?_
                      refine mg_crossings rfl dX8_goesBy_179 ?_
                      refine v_ldcw (v := nI 40000) q2434 dX8_goesBy_182 ?_
                      refine vn_icmp_ne (tgt := 192) dX8_goesBy_185 rfl (show gN σ2 55 < _ by rw [hX2.2.1]; have := hX2.2.2.2.1; omega) (by decide) (fun c185 => ?_) (fun c185 => ?_)
                      · have c185 : ¬ xe X2 = 40000 := by rw [← hX2.2.1]; exact c185
                        refine v_iconst (v := nI 0) dX8_goesBy_192 k_iconst_0 ?_
                        refine mp_isSpent rfl (by decide) dX8_goesBy_193 ?_
                        refine v_aload_n (i := 0) dX8_goesBy_196 rfl rfl ?_
                        refine mg_isSpent rfl dX8_goesBy_197 ?_
                        refine vn_if_eq (tgt := 204) dX8_goesBy_200 rfl (show (0 : Nat) < _ by decide) (fun c200 => ?_) (fun c200 => ?_)
                        · refine v_iload (i := 11) dX8_goesBy_204 rfl ?_
                          refine v_iload (i := 10) dX8_goesBy_206 rfl ?_
                          refine vn_icmp_ne (tgt := 226) dX8_goesBy_208 rfl (by omega) (show gN σ2 54 < _ by rw [hX2.1]; omega) (fun c208 => ?_) (fun c208 => ?_)
                          · refine v_aload_n (i := 0) dX8_goesBy_226 rfl rfl ?_
                            refine mg_edgeBoat rfl dX8_goesBy_227 ?_
                            refine v_aload_n (i := 0) dX8_goesBy_230 rfl rfl ?_
                            refine mg_crossings rfl dX8_goesBy_231 ?_
                            refine v_iload_n (i := 2) dX8_goesBy_234 rfl rfl ?_
                            refine ms_edgeBoat hap (show gN σ2 55 < 40001 by rw [hX2.2.1]; have := hX2.2.2.2.1; omega) dX8_goesBy_235 ?_
                            refine v_aload_n (i := 0) dX8_goesBy_236 rfl rfl ?_
                            refine mg_edgeTo rfl dX8_goesBy_237 ?_
                            refine v_aload_n (i := 0) dX8_goesBy_240 rfl rfl ?_
                            refine mg_crossings rfl dX8_goesBy_241 ?_
                            refine v_iload_n (i := 3) dX8_goesBy_244 rfl rfl ?_
                            refine ms_edgeTo hap (show gN σ2 55 < 40001 by rw [hX2.2.1]; have := hX2.2.2.2.1; omega) dX8_goesBy_245 ?_
                            refine v_aload_n (i := 0) dX8_goesBy_246 rfl rfl ?_
                            refine mg_edgeSet rfl dX8_goesBy_247 ?_
                            refine v_aload_n (i := 0) dX8_goesBy_250 rfl rfl ?_
                            refine mg_crossings rfl dX8_goesBy_251 ?_
                            refine v_iload (i := 8) dX8_goesBy_254 rfl ?_
                            refine ms_edgeSet hap (show gN σ2 55 < 40001 by rw [hX2.2.1]; have := hX2.2.2.2.1; omega) dX8_goesBy_256 ?_
                            refine v_aload_n (i := 0) dX8_goesBy_257 rfl rfl ?_
                            refine mg_edgeState rfl dX8_goesBy_258 ?_
                            refine v_aload_n (i := 0) dX8_goesBy_261 rfl rfl ?_
                            refine mg_crossings rfl dX8_goesBy_262 ?_
                            refine v_iload (i := 11) dX8_goesBy_265 rfl ?_
                            refine ms_edgeState hap (show gN σ2 55 < 40001 by rw [hX2.2.1]; have := hX2.2.2.2.1; omega) dX8_goesBy_267 ?_
                            refine v_aload_n (i := 0) dX8_goesBy_268 rfl rfl ?_
                            refine v_dup dX8_goesBy_269 rfl ?_
                            refine mg_crossings rfl dX8_goesBy_270 ?_
                            refine v_iconst (v := nI 1) dX8_goesBy_273 k_iconst_1 ?_
                            refine vn_iadd dX8_goesBy_274 ?_
                            refine mp_crossings rfl dX8_goesBy_275 ?_
                            refine vn_iinc 1 dX8_goesBy_278 rfl k_iconst_1 (by decide) rfl ?_
                            refine v_goto (tgt := 60) dX8_goesBy_281 rfl ?_
                            rw [show xStep X2 k b to s (bhT τ x b to s) = _ from xStep_old hc c185] at hq
                            exact ih (i + 1) _ (xEdge X2 b to s (ixN (xst X2) (bhT τ x b to s) (xn X2))) _ _ _ _ hl.2 (by omega) hls2 hq (((((hE.cp.n (by decide)).a (by decide)).a (by decide)).a (by decide)).a (by decide) |>.n (by decide)) hc3 h3 rfl (XM.edge (σ := sN (sCP σ2 c3 p3) 66 0) hX2 (by have := hX2.2.2.2.1; omega) hc hb2 hto4 hs) hnn hxk hfs
                          · exact absurd (show ixN (xst X2) (bhT τ x b to s) (xn X2) = gN σ2 54 from c208) (by rw [hX2.1]; omega)
                        · exact absurd (show (0 : Nat) = 0 from rfl) c200
                      · have c185 : xe X2 = 40000 := by rw [← hX2.2.1]; exact c185
                        refine v_iconst (v := nI 1) dX8_goesBy_188 k_iconst_1 ?_
                        refine v_goto (tgt := 193) dX8_goesBy_189 rfl ?_
                        refine mp_isSpent rfl (by decide) dX8_goesBy_193 ?_
                        refine v_aload_n (i := 0) dX8_goesBy_196 rfl rfl ?_
                        refine mg_isSpent rfl dX8_goesBy_197 ?_
                        refine vn_if_eq (tgt := 204) dX8_goesBy_200 rfl (show (1 : Nat) < _ by decide) (fun c200 => ?_) (fun c200 => ?_)
                        · exact absurd c200 (by show ¬ (1 : Nat) = 0; decide)
                        · exact v_vret rfl dX8_goesBy_203 (by
                                        have E : R = none := by rw [← hq, xStep_none2 c185]; rfl
                                        exact ⟨rfl, _, rfl, hE.cp.n (by decide), hc3, h3, fun _ => ⟨rfl, by show gN σ2 54 ≤ 2000; rw [hX2.1]; exact hn3⟩, fun X3 q => (by rw [E] at q; cases q)⟩)
                  · obtain ⟨rfl, rfl⟩ := h.2.1 hc.1 hc.2
                    refine v_istore (i := 11) dX8_goesBy_169 (by decide) rfl ?_
                    refine v_aload_n (i := 0) dX8_goesBy_171 rfl rfl ?_
                    refine v_iload (i := 11) dX8_goesBy_172 rfl ?_
                    refine v_iconst (v := -1) dX8_goesBy_174 k_iconst_m1 ?_
                    refine v_icmp_eq (tgt := 188) dX8_goesBy_175 rfl (fun c175 => ?_) (fun c175 => ?_)
                    · refine v_iconst (v := nI 1) dX8_goesBy_188 k_iconst_1 ?_
                      refine v_goto (tgt := 193) dX8_goesBy_189 rfl ?_
                      refine mp_isSpent rfl (by decide) dX8_goesBy_193 ?_
                      refine v_aload_n (i := 0) dX8_goesBy_196 rfl rfl ?_
                      refine mg_isSpent rfl dX8_goesBy_197 ?_
                      refine vn_if_eq (tgt := 204) dX8_goesBy_200 rfl (show (1 : Nat) < _ by decide) (fun c200 => ?_) (fun c200 => ?_)
                      · exact absurd c200 (by show ¬ (1 : Nat) = 0; decide)
                      · exact v_vret rfl dX8_goesBy_203 (by
                                      have E : R = none := by rw [← hq, xStep_none1 hc.1 hc.2]; rfl
                                      exact ⟨rfl, _, rfl, hE.cp.n (by decide), hc3, h3, fun _ => ⟨rfl, by show gN σ2 54 ≤ 2000; rw [hX2.1]; exact hn3⟩, fun X3 q => (by rw [E] at q; cases q)⟩)
                    · exact absurd rfl c175
                  · obtain ⟨rfl, q, hq8, hSL, rfl⟩ := h.2.2 hc.1 hc.2
                    refine v_istore (i := 11) dX8_goesBy_169 (by decide) rfl ?_
                    refine v_aload_n (i := 0) dX8_goesBy_171 rfl rfl ?_
                    refine v_iload (i := 11) dX8_goesBy_172 rfl ?_
                    refine v_iconst (v := -1) dX8_goesBy_174 k_iconst_m1 ?_
                    refine v_icmp_eq (tgt := 188) dX8_goesBy_175 rfl (fun c175 => ?_) (fun c175 => ?_)
                    · exact absurd c175 (nI_m1 (by omega))
                    · refine v_aload_n (i := 0) dX8_goesBy_178 rfl rfl ?_
                      refine mg_crossings rfl dX8_goesBy_179 ?_
                      refine v_ldcw (v := nI 40000) q2434 dX8_goesBy_182 ?_
                      refine vn_icmp_ne (tgt := 192) dX8_goesBy_185 rfl (show gN σ2 55 < _ by rw [hX2.2.1]; have := hX2.2.2.2.1; omega) (by decide) (fun c185 => ?_) (fun c185 => ?_)
                      · have c185 : ¬ xe X2 = 40000 := by rw [← hX2.2.1]; exact c185
                        refine v_iconst (v := nI 0) dX8_goesBy_192 k_iconst_0 ?_
                        refine mp_isSpent rfl (by decide) dX8_goesBy_193 ?_
                        refine v_aload_n (i := 0) dX8_goesBy_196 rfl rfl ?_
                        refine mg_isSpent rfl dX8_goesBy_197 ?_
                        refine vn_if_eq (tgt := 204) dX8_goesBy_200 rfl (show (0 : Nat) < _ by decide) (fun c200 => ?_) (fun c200 => ?_)
                        · refine v_iload (i := 11) dX8_goesBy_204 rfl ?_
                          refine v_iload (i := 10) dX8_goesBy_206 rfl ?_
                          refine vn_icmp_ne (tgt := 226) dX8_goesBy_208 rfl (by omega) (show gN σ2 54 < _ by rw [hX2.1]; omega) (fun c208 => ?_) (fun c208 => ?_)
                          · exact absurd (show xn X2 = gN σ2 54 from hX2.1.symm) c208
                          · refine v_aload_n (i := 0) dX8_goesBy_211 rfl rfl ?_
                            refine mg_far rfl dX8_goesBy_212 ?_
                            refine v_iload (i := 11) dX8_goesBy_215 rfl ?_
                            refine v_aload_n (i := 0) dX8_goesBy_217 rfl rfl ?_
                            refine mg_far rfl dX8_goesBy_218 ?_
                            refine v_iload_n (i := 1) dX8_goesBy_221 rfl rfl ?_
                            refine ml_far hap (by omega) dX8_goesBy_222 ?_
                            refine v_top (show _ = nI (xfar X2 k) from congrArg nI hfk.2.1) ?_
                            refine v_iconst (v := nI 1) dX8_goesBy_223 k_iconst_1 ?_
                            refine vn_iadd dX8_goesBy_224 ?_
                            refine ms_far hap (by omega) dX8_goesBy_225 ?_
                            refine v_aload_n (i := 0) dX8_goesBy_226 rfl rfl ?_
                            refine mg_edgeBoat rfl dX8_goesBy_227 ?_
                            refine v_aload_n (i := 0) dX8_goesBy_230 rfl rfl ?_
                            refine mg_crossings rfl dX8_goesBy_231 ?_
                            refine v_iload_n (i := 2) dX8_goesBy_234 rfl rfl ?_
                            refine ms_edgeBoat hap (show gN σ2 55 < 40001 by rw [hX2.2.1]; have := hX2.2.2.2.1; omega) dX8_goesBy_235 ?_
                            refine v_aload_n (i := 0) dX8_goesBy_236 rfl rfl ?_
                            refine mg_edgeTo rfl dX8_goesBy_237 ?_
                            refine v_aload_n (i := 0) dX8_goesBy_240 rfl rfl ?_
                            refine mg_crossings rfl dX8_goesBy_241 ?_
                            refine v_iload_n (i := 3) dX8_goesBy_244 rfl rfl ?_
                            refine ms_edgeTo hap (show gN σ2 55 < 40001 by rw [hX2.2.1]; have := hX2.2.2.2.1; omega) dX8_goesBy_245 ?_
                            refine v_aload_n (i := 0) dX8_goesBy_246 rfl rfl ?_
                            refine mg_edgeSet rfl dX8_goesBy_247 ?_
                            refine v_aload_n (i := 0) dX8_goesBy_250 rfl rfl ?_
                            refine mg_crossings rfl dX8_goesBy_251 ?_
                            refine v_iload (i := 8) dX8_goesBy_254 rfl ?_
                            refine ms_edgeSet hap (show gN σ2 55 < 40001 by rw [hX2.2.1]; have := hX2.2.2.2.1; omega) dX8_goesBy_256 ?_
                            refine v_aload_n (i := 0) dX8_goesBy_257 rfl rfl ?_
                            refine mg_edgeState rfl dX8_goesBy_258 ?_
                            refine v_aload_n (i := 0) dX8_goesBy_261 rfl rfl ?_
                            refine mg_crossings rfl dX8_goesBy_262 ?_
                            refine v_iload (i := 11) dX8_goesBy_265 rfl ?_
                            refine ms_edgeState hap (show gN σ2 55 < 40001 by rw [hX2.2.1]; have := hX2.2.2.2.1; omega) dX8_goesBy_267 ?_
                            refine v_aload_n (i := 0) dX8_goesBy_268 rfl rfl ?_
                            refine v_dup dX8_goesBy_269 rfl ?_
                            refine mg_crossings rfl dX8_goesBy_270 ?_
                            refine v_iconst (v := nI 1) dX8_goesBy_273 k_iconst_1 ?_
                            refine vn_iadd dX8_goesBy_274 ?_
                            refine mp_crossings rfl dX8_goesBy_275 ?_
                            refine vn_iinc 1 dX8_goesBy_278 rfl k_iconst_1 (by decide) rfl ?_
                            refine v_goto (tgt := 60) dX8_goesBy_281 rfl ?_
                            rw [show xStep X2 k b to s (bhT τ x b to s) = _ from xStep_new hc.1 c185 (by omega)] at hq
                            have hXa := XM.add (σ := sCP σ2 c3 p3) hX2 (f := xfar X2 k + 1) (q := q) hy (by omega) (by rw [h54]; exact hSL)
                            rw [h54] at hXa
                            exact ih (i + 1) _ (xEdge (xAdd X2 (xfar X2 k + 1) (bhT τ x b to s)) b to s (xn X2)) _ _ _ _ hl.2 (by omega) hls2 hq (((((((((hE.cp.a (by decide)).a (by decide)).n (by decide)).n (by decide)).a (by decide)).a (by decide)).a (by decide)).a (by decide)).a (by decide) |>.n (by decide)) hc3 h3 rfl (XM.edge (σ := sN (sA (sN (sA (sA (sCP σ2 c3 p3) 56 (xn X2) (bhT τ x b to s)) 60 q (xn X2 + 1)) 54 (xn X2 + 1)) 58 (xn X2) (xfar X2 k + 1)) 66 0) hXa (by show xe X2 < 40000; have := hX2.2.2.2.1; omega) (by show xn X2 < xn X2 + 1; omega) hb2 hto4 hs) (by show xn X ≤ xn X2 + 1; omega) (by show va_up (xst X2) (xn X2) _ k = x; rw [va_up_n (by omega)]; exact hxk) hfs
                        · exact absurd (show (0 : Nat) = 0 from rfl) c200
                      · have c185 : xe X2 = 40000 := by rw [← hX2.2.1]; exact c185
                        refine v_iconst (v := nI 1) dX8_goesBy_188 k_iconst_1 ?_
                        refine v_goto (tgt := 193) dX8_goesBy_189 rfl ?_
                        refine mp_isSpent rfl (by decide) dX8_goesBy_193 ?_
                        refine v_aload_n (i := 0) dX8_goesBy_196 rfl rfl ?_
                        refine mg_isSpent rfl dX8_goesBy_197 ?_
                        refine vn_if_eq (tgt := 204) dX8_goesBy_200 rfl (show (1 : Nat) < _ by decide) (fun c200 => ?_) (fun c200 => ?_)
                        · exact absurd c200 (by show ¬ (1 : Nat) = 0; decide)
                        · exact v_vret rfl dX8_goesBy_203 (by
                                        have E : R = none := by rw [← hq, xStep_none2 c185]; rfl
                                        exact ⟨rfl, _, rfl, (((hE.cp.a (by decide)).a (by decide)).n (by decide)).n (by decide), hc3, h3, fun _ => ⟨rfl, by show xn X2 + 1 ≤ 2000; omega⟩, fun X3 q => (by rw [E] at q; cases q)⟩)
                · refine v_goto (tgt := 278) dX8_goesBy_154 rfl ?_
                  refine vn_iinc 1 dX8_goesBy_278 rfl k_iconst_1 (by decide) rfl ?_
                  refine v_goto (tgt := 60) dX8_goesBy_281 rfl ?_
                  have hok : ¬ ok_B τ w x b to s = true := by unfold ok_B; rw [decide_eq_true_eq]; exact fun q => c151 q.2.2.2
                  rw [xF_n hok] at hq
                  exact ih (i + 1) (sCP σ2 c3 p3) X2 _ _ _ _ hl.2 (by omega) hls2 hq (hE.cp) hc3 h3 h6 hX2 hnn hxk hfs
              · refine v_goto (tgt := 278) dX8_goesBy_127 rfl ?_
                refine vn_iinc 1 dX8_goesBy_278 rfl k_iconst_1 (by decide) rfl ?_
                refine v_goto (tgt := 60) dX8_goesBy_281 rfl ?_
                have hok : ¬ ok_B τ w x b to s = true := by unfold ok_B; rw [decide_eq_true_eq]; exact fun q => c124 q.2.2.1
                rw [xF_n hok] at hq
                exact ih (i + 1) (sCP σ2 c2 p2) X2 _ _ _ _ hl.2 (by omega) hls2 hq (hE.cp) hc2 h3 h6 hX2 hnn hxk hfs
  refine v_aload_n (i := 0) dX8_goesBy_0 rfl rfl ?_
  refine mg_stateOf rfl dX8_goesBy_1 ?_
  refine v_iload_n (i := 1) dX8_goesBy_4 rfl rfl ?_
  refine ml_stateOf hap (show k < 2001 by omega) dX8_goesBy_5 ?_
  refine v_top (show _ = nI x from congrArg nI x1) ?_
  refine v_istore (i := 4) dX8_goesBy_6 (by decide) rfl ?_
  refine v_iload (i := 4) dX8_goesBy_8 rfl ?_
  refine v_iload_n (i := 2) dX8_goesBy_10 rfl rfl ?_
  refine v_callSi (cM_boatIn x b (by omega) hb2) (lw_S q2410 q2411 q136 q2412) iX8_boatIn rfl rfl (by decide) (by decide) (Nat.le_of_ble_eq_true rfl) dX8_goesBy_11 ?_
  refine v_istore (i := 5) dX8_goesBy_14 (by decide) rfl ?_
  refine v_aload_n (i := 0) dX8_goesBy_16 rfl rfl ?_
  refine v_iload (i := 5) dX8_goesBy_17 rfl ?_
  refine v_iload_n (i := 3) dX8_goesBy_19 rfl rfl ?_
  refine v_callVi (cX_isWater hap σ τ hd ld w hW (bo x b) to hbo hto4) (lw_V q2382 q2384 qs89 q136 q2385) iX8_isWater rfl KX8 MH_m rfl rfl (by decide) (by decide) (Nat.le_of_ble_eq_true rfl) dX8_goesBy_20 ?_
  refine vn_if_eq (tgt := 46) dX8_goesBy_23 rfl (by omega) (fun c23 => ?_) (fun c23 => ?_)
  · exact v_vret rfl dX8_goesBy_46 (by
        have E : R = some X := by rw [← hR, if_neg (fun q => q.1 c23)]
        exact ⟨rfl, σ, rfl, EF.rf σ, hW.2.2.2.2.2.2.1, ⟨rfl, rfl, rfl, rfl⟩, fun q => (by rw [E] at q; cases q), fun X3 q => (by rw [E] at q; cases q; exact ⟨h66, hX, Nat.le_refl _, hx, rfl⟩)⟩)
  · refine v_aload_n (i := 0) dX8_goesBy_26 rfl rfl ?_
    refine mg_lampAt rfl dX8_goesBy_27 ?_
    refine v_iconst (v := -1) dX8_goesBy_30 k_iconst_m1 ?_
    refine vo_icmp_eq (tgt := 47) dX8_goesBy_31 rfl (show gN σ 5 < _ by omega) (fun c31 => ?_) (fun c31 => ?_)
    · have c31 : tN τ 33 = 0 := by rw [← e5]; exact c31
      refine v_aload_n (i := 0) dX8_goesBy_47 rfl rfl ?_
      refine v_iload (i := 4) dX8_goesBy_48 rfl ?_
      refine v_iload (i := 5) dX8_goesBy_50 rfl ?_
      refine v_callVi (cX_setAt hap σ τ hd ld w hW x (bo x b) (by omega) (by omega)) (lw_V q2413 q2415 qs95 q136 q2416) iX8_setAt rfl KX8 MH_m rfl rfl (by decide) (by decide) (Nat.le_of_ble_eq_true rfl) dX8_goesBy_52 ?_
      refine v_istore (i := 6) dX8_goesBy_55 (by decide) rfl ?_
      refine v_iconst (v := nI 0) dX8_goesBy_57 k_iconst_0 ?_
      refine v_istore (i := 7) dX8_goesBy_58 (by decide) rfl ?_
      have hcan : canG τ x b to := ⟨c23, Or.inl c31⟩
      rw [if_pos hcan] at hR
      exact L (mayL τ hd ld b) 0 σ X _ _ _ _ hml.2 (by omega) (fun s hs => mayL_lt hTB hs) hR (EF.rf σ) hW.2.2.2.2.2.2.1 ⟨rfl, rfl, rfl, rfl⟩ h66 hX (Nat.le_refl _) hx rfl
    · have c31 : ¬ tN τ 33 = 0 := by rw [← e5]; exact c31
      refine v_iload (i := 4) dX8_goesBy_34 rfl ?_
      refine v_bipush (v := nI 20) dX8_goesBy_36 k_bipush_20 ?_
      refine vn_ishr (by omega) (by decide) dX8_goesBy_38 ?_
      refine v_iconst (v := nI 3) dX8_goesBy_39 k_iconst_3 ?_
      refine vn_and3 dX8_goesBy_40 ?_
      refine v_top (show _ = nI (la x) from rfl) ?_
      refine v_iload (i := 5) dX8_goesBy_41 rfl ?_
      refine vn_icmp_eq (tgt := 47) dX8_goesBy_43 rfl (by omega) (by omega) (fun c43 => ?_) (fun c43 => ?_)
      · refine v_aload_n (i := 0) dX8_goesBy_47 rfl rfl ?_
        refine v_iload (i := 4) dX8_goesBy_48 rfl ?_
        refine v_iload (i := 5) dX8_goesBy_50 rfl ?_
        refine v_callVi (cX_setAt hap σ τ hd ld w hW x (bo x b) (by omega) (by omega)) (lw_V q2413 q2415 qs95 q136 q2416) iX8_setAt rfl KX8 MH_m rfl rfl (by decide) (by decide) (Nat.le_of_ble_eq_true rfl) dX8_goesBy_52 ?_
        refine v_istore (i := 6) dX8_goesBy_55 (by decide) rfl ?_
        refine v_iconst (v := nI 0) dX8_goesBy_57 k_iconst_0 ?_
        refine v_istore (i := 7) dX8_goesBy_58 (by decide) rfl ?_
        have hcan : canG τ x b to := ⟨c23, Or.inr c43⟩
        rw [if_pos hcan] at hR
        exact L (mayL τ hd ld b) 0 σ X _ _ _ _ hml.2 (by omega) (fun s hs => mayL_lt hTB hs) hR (EF.rf σ) hW.2.2.2.2.2.2.1 ⟨rfl, rfl, rfl, rfl⟩ h66 hX (Nat.le_refl _) hx rfl
      · exact v_vret rfl dX8_goesBy_46 (by
            have E : R = some X := by rw [← hR, if_neg (fun q => q.2.elim c31 c43)]
            exact ⟨rfl, σ, rfl, EF.rf σ, hW.2.2.2.2.2.2.1, ⟨rfl, rfl, rfl, rfl⟩, fun q => (by rw [E] at q; cases q), fun X3 q => (by rw [E] at q; cases q; exact ⟨h66, hX, Nat.le_refl _, hx, rfl⟩)⟩)
