theorem cM_barsOf {G : Gl} {m : Nat} {ad : Nat → Nat} {η0 : AH} (hap : Mp m ad) (σ : MS) (bf : Nat → Nat → Nat → Nat → Nat) (hB : BarO σ bf) (hC : Cch bf (gA σ 50)) (s sh b l : Nat) (hs : s < 256) (hsh : sh ≤ 4) (hb : b ≤ 2) (hl : l ≤ 1) : Ct G yX8_barsOf cX8_barsOf 10 (some .int) 4 0 0 [.ref m, .int (nI s), .int (nI sh), .int (nI b), .int (nI l)] (MH m ad σ η0) (ri fun r η => r = nI (bf sh b l s) ∧ ∃ c p, Cch bf c ∧ η = MH m ad (sCP σ c p) η0) := by
  refine Ct.start rfl rfl (Nat.le_of_ble_eq_true rfl) (fun Γ => ?_)
  have hb4 := hB.lt sh b l s
  obtain ⟨hS, hT, hL, hm, sc, f, h1, h2, h3⟩ := id hB
  have hbf := h3 sh b l s
  have hcc := hC s sh b l hs hsh hb hl
  have L : ∀ (n k v : Nat) (p : Nat → Int32) (z1 z2 : Option Value), gN σ 4 - k = n → k ≤ gN σ 4 → s ≠ 0 → v = maskN sc (fun k => f k s sh b l) sh (gN σ 1) k → V G Γ yX8_barsOf cX8_barsOf 10 (some .int) [] 4 (ri fun r η => r = nI (bf sh b l s) ∧ ∃ c p, Cch bf c ∧ η = MH m ad (sCP σ c p) η0) 0 0 (MH m ad (stB σ 51 p) η0) 48 [some (.ref m), some (.int (nI s)), some (.int (nI sh)), some (.int (nI b)), some (.int (nI l)), some (.int (nI (((s * 5 + sh) * 3 + b) * 2 + l))), some (.int (nI v)), some (.int (nI k)), z1, z2] [] := by
    intro n
    induction n using Nat.strongRecOn with
    | _ n ih =>
      intro k v p z1 z2 hn hk hs0 hv0
      refine v_iload (i := 7) dX8_barsOf_48 rfl ?_
      refine v_aload_n (i := 0) dX8_barsOf_50 rfl rfl ?_
      refine mg_laws rfl dX8_barsOf_51 ?_
      refine vn_icmp_ge (tgt := 162) dX8_barsOf_54 rfl (by omega) (show gN σ 4 < _ by omega) (fun c54 => ?_) (fun c54 => ?_)
      · have e : k = gN σ 4 := by have : gN σ 4 ≤ k := c54; omega
        subst e
        rw [if_neg hs0, ← hv0] at hbf
        have hbf2 : v + 1 = bf sh b l s + 1 := by rw [hbf]
        refine v_aload_n (i := 0) dX8_barsOf_162 rfl rfl ?_
        refine mg_barred rfl dX8_barsOf_163 ?_
        refine v_iload (i := 5) dX8_barsOf_166 rfl ?_
        refine v_iload (i := 6) dX8_barsOf_168 rfl ?_
        refine v_iconst (v := nI 1) dX8_barsOf_170 k_iconst_1 ?_
        refine vn_iadd dX8_barsOf_171 ?_
        refine ms_barred hap (by omega) dX8_barsOf_172 ?_
        rw [show sA (stB σ 51 p) 50 (((s * 5 + sh) * 3 + b) * 2 + l) (v + 1) = sCP σ (va_up (gA σ 50) (((s * 5 + sh) * 3 + b) * 2 + l) (bf sh b l s + 1)) p by rw [← hbf2]; rfl]
        refine v_iload (i := 6) dX8_barsOf_173 rfl ?_
        exact v_iret rfl dX8_barsOf_175 ⟨_, rfl, by rw [hbf], _, _, hC.put hsh hb hl, rfl⟩
      · have c54 : k < gN σ 4 := c54
        obtain ⟨hk1, hk2, hk3⟩ := h1 k c54
        obtain ⟨m1, m2, m3, m4⟩ := scI_m1 (sc k) hk2
        have m4 := m4 sh (by omega)
        refine v_aload_n (i := 0) dX8_barsOf_57 rfl rfl ?_
        refine mg_scope rfl dX8_barsOf_58 ?_
        refine v_iload (i := 7) dX8_barsOf_61 rfl ?_
        refine ml_scope hap (by omega) dX8_barsOf_63 ?_
        refine v_top (show _ = scI (sc k) from hk1) ?_
        refine v_istore (i := 8) dX8_barsOf_64 (by decide) rfl ?_
        refine v_iload (i := 8) dX8_barsOf_66 rfl ?_
        refine v_iconst (v := -1) dX8_barsOf_68 k_iconst_m1 ?_
        refine v_icmp_eq (tgt := 116) dX8_barsOf_69 rfl (fun c69 => ?_) (fun c69 => ?_)
        · refine v_iconst (v := nI 1) dX8_barsOf_116 k_iconst_1 ?_
          refine v_goto (tgt := 121) dX8_barsOf_117 rfl ?_
          refine v_istore (i := 9) dX8_barsOf_121 (by decide) rfl ?_
          refine v_iload (i := 9) dX8_barsOf_123 rfl ?_
          refine vn_if_eq (tgt := 156) dX8_barsOf_125 rfl (by decide) (fun c125 => ?_) (fun c125 => ?_)
          · exact absurd c125 (by decide)
          · have g : goes (sc k) sh (gN σ 1) := by
              first | exact Or.inl (m1.mp c69) | exact Or.inr (Or.inl ⟨m2.mp c76, c84⟩) | exact Or.inr (Or.inr (Or.inl ⟨m3.mp c91, c99⟩)) | exact Or.inr (Or.inr (Or.inr ⟨m4.mp c105, c113⟩))
            obtain ⟨n9, hn9⟩ := h2 k c54 s sh b l hs
            refine v_aload_n (i := 0) dX8_barsOf_128 rfl rfl ?_
            refine v_aload_n (i := 0) dX8_barsOf_129 rfl rfl ?_
            refine mg_lawAt rfl dX8_barsOf_130 ?_
            refine v_iload (i := 7) dX8_barsOf_133 rfl ?_
            refine ml_lawAt hap (by omega) dX8_barsOf_135 ?_
            refine v_iload_n (i := 1) dX8_barsOf_136 rfl rfl ?_
            refine v_iload_n (i := 2) dX8_barsOf_137 rfl rfl ?_
            refine v_iload_n (i := 3) dX8_barsOf_138 rfl rfl ?_
            refine v_iload (i := 4) dX8_barsOf_139 rfl ?_
            refine v_callVI (kc' := 0) (ks' := 0) (cM_worth hap (stB σ 51 p) n9 (gA σ 15 k) s sh b l (f k s sh b l) hs hT hm hn9) (lw_V q2332 q2334 qs84 q136 q2335) iX8_worth rfl KX8 MH_m rfl rfl (by decide) (by decide) (Nat.le_of_ble_eq_true rfl) (by decide) (by decide) dX8_barsOf_141 (fun x_ η' h => ?_)
            obtain ⟨rfl, p', rfl⟩ := h
            rw [stB_stB]
            refine v_if_eq (tgt := 156) dX8_barsOf_144 rfl (fun c144 => ?_) (fun c144 => ?_)
            · refine vn_iinc 1 dX8_barsOf_156 rfl k_iconst_1 (by decide) rfl ?_
              refine v_goto (tgt := 48) dX8_barsOf_159 rfl ?_
              exact ih _ (by omega) (k + 1) _ p' _ _ rfl (by omega) hs0 (by simp only [maskN]; rw [if_neg (fun q => q.2 c144), hv0])
            · refine v_iload (i := 6) dX8_barsOf_147 rfl ?_
              refine v_iconst (v := nI 1) dX8_barsOf_149 k_iconst_1 ?_
              refine v_iload (i := 7) dX8_barsOf_150 rfl ?_
              refine vn_ishl (by omega) dX8_barsOf_152 ?_
              refine vn_ior dX8_barsOf_153 ?_
              refine v_istore (i := 6) dX8_barsOf_154 (by decide) rfl ?_
              refine vn_iinc 1 dX8_barsOf_156 rfl k_iconst_1 (by decide) rfl ?_
              refine v_goto (tgt := 48) dX8_barsOf_159 rfl ?_
              exact ih _ (by omega) (k + 1) _ p' _ _ rfl (by omega) hs0 (by simp only [maskN]; rw [if_pos ⟨g, c144⟩, hv0])
        · refine v_iload (i := 8) dX8_barsOf_72 rfl ?_
          refine v_bipush (v := -2) dX8_barsOf_74 k_bipush_m2 ?_
          refine v_icmp_ne (tgt := 87) dX8_barsOf_76 rfl (fun c76 => ?_) (fun c76 => ?_)
          · refine v_iload (i := 8) dX8_barsOf_87 rfl ?_
            refine v_bipush (v := -3) dX8_barsOf_89 k_bipush_m3 ?_
            refine v_icmp_ne (tgt := 102) dX8_barsOf_91 rfl (fun c91 => ?_) (fun c91 => ?_)
            · refine v_iload (i := 8) dX8_barsOf_102 rfl ?_
              refine v_iload_n (i := 2) dX8_barsOf_104 rfl rfl ?_
              refine v_icmp_ne (tgt := 120) dX8_barsOf_105 rfl (fun c105 => ?_) (fun c105 => ?_)
              · refine v_iconst (v := nI 0) dX8_barsOf_120 k_iconst_0 ?_
                refine v_istore (i := 9) dX8_barsOf_121 (by decide) rfl ?_
                refine v_iload (i := 9) dX8_barsOf_123 rfl ?_
                refine vn_if_eq (tgt := 156) dX8_barsOf_125 rfl (by decide) (fun c125 => ?_) (fun c125 => ?_)
                · have g : ¬ goes (sc k) sh (gN σ 1) := by
                    unfold goes
                    rintro (g | ⟨g, g2⟩ | ⟨g, g2⟩ | ⟨g, g2⟩)
                    · exact c69 (m1.mpr g)
                    · first | exact absurd (m2.mpr g) c76 | (have : gN σ 1 ≤ sh := c84; omega)
                    · first | exact absurd (m3.mpr g) c91 | exact c99 g2
                    · first | exact absurd (m4.mpr g) c105 | (have : gN σ 1 ≤ sh := c113; omega)
                  refine vn_iinc 1 dX8_barsOf_156 rfl k_iconst_1 (by decide) rfl ?_
                  refine v_goto (tgt := 48) dX8_barsOf_159 rfl ?_
                  exact ih _ (by omega) (k + 1) _ p _ _ rfl (by omega) hs0 (by simp only [maskN]; rw [if_neg (fun q => g q.1), hv0])
                · exact absurd rfl c125
              · refine v_iload_n (i := 2) dX8_barsOf_108 rfl rfl ?_
                refine v_aload_n (i := 0) dX8_barsOf_109 rfl rfl ?_
                refine mg_shores rfl dX8_barsOf_110 ?_
                refine vn_icmp_ge (tgt := 120) dX8_barsOf_113 rfl (by omega) (show gN σ 1 < _ by omega) (fun c113 => ?_) (fun c113 => ?_)
                · refine v_iconst (v := nI 0) dX8_barsOf_120 k_iconst_0 ?_
                  refine v_istore (i := 9) dX8_barsOf_121 (by decide) rfl ?_
                  refine v_iload (i := 9) dX8_barsOf_123 rfl ?_
                  refine vn_if_eq (tgt := 156) dX8_barsOf_125 rfl (by decide) (fun c125 => ?_) (fun c125 => ?_)
                  · have g : ¬ goes (sc k) sh (gN σ 1) := by
                      unfold goes
                      rintro (g | ⟨g, g2⟩ | ⟨g, g2⟩ | ⟨g, g2⟩)
                      · exact c69 (m1.mpr g)
                      · first | exact absurd (m2.mpr g) c76 | (have : gN σ 1 ≤ sh := c84; omega)
                      · first | exact absurd (m3.mpr g) c91 | exact c99 g2
                      · first | exact absurd (m4.mpr g) c105 | (have : gN σ 1 ≤ sh := c113; omega)
                    refine vn_iinc 1 dX8_barsOf_156 rfl k_iconst_1 (by decide) rfl ?_
                    refine v_goto (tgt := 48) dX8_barsOf_159 rfl ?_
                    exact ih _ (by omega) (k + 1) _ p _ _ rfl (by omega) hs0 (by simp only [maskN]; rw [if_neg (fun q => g q.1), hv0])
                  · exact absurd rfl c125
                · refine v_iconst (v := nI 1) dX8_barsOf_116 k_iconst_1 ?_
                  refine v_goto (tgt := 121) dX8_barsOf_117 rfl ?_
                  refine v_istore (i := 9) dX8_barsOf_121 (by decide) rfl ?_
                  refine v_iload (i := 9) dX8_barsOf_123 rfl ?_
                  refine vn_if_eq (tgt := 156) dX8_barsOf_125 rfl (by decide) (fun c125 => ?_) (fun c125 => ?_)
                  · exact absurd c125 (by decide)
                  · have g : goes (sc k) sh (gN σ 1) := by
                      first | exact Or.inl (m1.mp c69) | exact Or.inr (Or.inl ⟨m2.mp c76, c84⟩) | exact Or.inr (Or.inr (Or.inl ⟨m3.mp c91, c99⟩)) | exact Or.inr (Or.inr (Or.inr ⟨m4.mp c105, c113⟩))
                    obtain ⟨n9, hn9⟩ := h2 k c54 s sh b l hs
                    refine v_aload_n (i := 0) dX8_barsOf_128 rfl rfl ?_
                    refine v_aload_n (i := 0) dX8_barsOf_129 rfl rfl ?_
                    refine mg_lawAt rfl dX8_barsOf_130 ?_
                    refine v_iload (i := 7) dX8_barsOf_133 rfl ?_
                    refine ml_lawAt hap (by omega) dX8_barsOf_135 ?_
                    refine v_iload_n (i := 1) dX8_barsOf_136 rfl rfl ?_
                    refine v_iload_n (i := 2) dX8_barsOf_137 rfl rfl ?_
                    refine v_iload_n (i := 3) dX8_barsOf_138 rfl rfl ?_
                    refine v_iload (i := 4) dX8_barsOf_139 rfl ?_
                    refine v_callVI (kc' := 0) (ks' := 0) (cM_worth hap (stB σ 51 p) n9 (gA σ 15 k) s sh b l (f k s sh b l) hs hT hm hn9) (lw_V q2332 q2334 qs84 q136 q2335) iX8_worth rfl KX8 MH_m rfl rfl (by decide) (by decide) (Nat.le_of_ble_eq_true rfl) (by decide) (by decide) dX8_barsOf_141 (fun x_ η' h => ?_)
                    obtain ⟨rfl, p', rfl⟩ := h
                    rw [stB_stB]
                    refine v_if_eq (tgt := 156) dX8_barsOf_144 rfl (fun c144 => ?_) (fun c144 => ?_)
                    · refine vn_iinc 1 dX8_barsOf_156 rfl k_iconst_1 (by decide) rfl ?_
                      refine v_goto (tgt := 48) dX8_barsOf_159 rfl ?_
                      exact ih _ (by omega) (k + 1) _ p' _ _ rfl (by omega) hs0 (by simp only [maskN]; rw [if_neg (fun q => q.2 c144), hv0])
                    · refine v_iload (i := 6) dX8_barsOf_147 rfl ?_
                      refine v_iconst (v := nI 1) dX8_barsOf_149 k_iconst_1 ?_
                      refine v_iload (i := 7) dX8_barsOf_150 rfl ?_
                      refine vn_ishl (by omega) dX8_barsOf_152 ?_
                      refine vn_ior dX8_barsOf_153 ?_
                      refine v_istore (i := 6) dX8_barsOf_154 (by decide) rfl ?_
                      refine vn_iinc 1 dX8_barsOf_156 rfl k_iconst_1 (by decide) rfl ?_
                      refine v_goto (tgt := 48) dX8_barsOf_159 rfl ?_
                      exact ih _ (by omega) (k + 1) _ p' _ _ rfl (by omega) hs0 (by simp only [maskN]; rw [if_pos ⟨g, c144⟩, hv0])
            · refine v_iload_n (i := 2) dX8_barsOf_94 rfl rfl ?_
              refine v_aload_n (i := 0) dX8_barsOf_95 rfl rfl ?_
              refine mg_shores rfl dX8_barsOf_96 ?_
              refine vn_icmp_eq (tgt := 116) dX8_barsOf_99 rfl (by omega) (show gN σ 1 < _ by omega) (fun c99 => ?_) (fun c99 => ?_)
              · refine v_iconst (v := nI 1) dX8_barsOf_116 k_iconst_1 ?_
                refine v_goto (tgt := 121) dX8_barsOf_117 rfl ?_
                refine v_istore (i := 9) dX8_barsOf_121 (by decide) rfl ?_
                refine v_iload (i := 9) dX8_barsOf_123 rfl ?_
                refine vn_if_eq (tgt := 156) dX8_barsOf_125 rfl (by decide) (fun c125 => ?_) (fun c125 => ?_)
                · exact absurd c125 (by decide)
                · have g : goes (sc k) sh (gN σ 1) := by
                    first | exact Or.inl (m1.mp c69) | exact Or.inr (Or.inl ⟨m2.mp c76, c84⟩) | exact Or.inr (Or.inr (Or.inl ⟨m3.mp c91, c99⟩)) | exact Or.inr (Or.inr (Or.inr ⟨m4.mp c105, c113⟩))
                  obtain ⟨n9, hn9⟩ := h2 k c54 s sh b l hs
                  refine v_aload_n (i := 0) dX8_barsOf_128 rfl rfl ?_
                  refine v_aload_n (i := 0) dX8_barsOf_129 rfl rfl ?_
                  refine mg_lawAt rfl dX8_barsOf_130 ?_
                  refine v_iload (i := 7) dX8_barsOf_133 rfl ?_
                  refine ml_lawAt hap (by omega) dX8_barsOf_135 ?_
                  refine v_iload_n (i := 1) dX8_barsOf_136 rfl rfl ?_
                  refine v_iload_n (i := 2) dX8_barsOf_137 rfl rfl ?_
                  refine v_iload_n (i := 3) dX8_barsOf_138 rfl rfl ?_
                  refine v_iload (i := 4) dX8_barsOf_139 rfl ?_
                  refine v_callVI (kc' := 0) (ks' := 0) (cM_worth hap (stB σ 51 p) n9 (gA σ 15 k) s sh b l (f k s sh b l) hs hT hm hn9) (lw_V q2332 q2334 qs84 q136 q2335) iX8_worth rfl KX8 MH_m rfl rfl (by decide) (by decide) (Nat.le_of_ble_eq_true rfl) (by decide) (by decide) dX8_barsOf_141 (fun x_ η' h => ?_)
                  obtain ⟨rfl, p', rfl⟩ := h
                  rw [stB_stB]
                  refine v_if_eq (tgt := 156) dX8_barsOf_144 rfl (fun c144 => ?_) (fun c144 => ?_)
                  · refine vn_iinc 1 dX8_barsOf_156 rfl k_iconst_1 (by decide) rfl ?_
                    refine v_goto (tgt := 48) dX8_barsOf_159 rfl ?_
                    exact ih _ (by omega) (k + 1) _ p' _ _ rfl (by omega) hs0 (by simp only [maskN]; rw [if_neg (fun q => q.2 c144), hv0])
                  · refine v_iload (i := 6) dX8_barsOf_147 rfl ?_
                    refine v_iconst (v := nI 1) dX8_barsOf_149 k_iconst_1 ?_
                    refine v_iload (i := 7) dX8_barsOf_150 rfl ?_
                    refine vn_ishl (by omega) dX8_barsOf_152 ?_
                    refine vn_ior dX8_barsOf_153 ?_
                    refine v_istore (i := 6) dX8_barsOf_154 (by decide) rfl ?_
                    refine vn_iinc 1 dX8_barsOf_156 rfl k_iconst_1 (by decide) rfl ?_
                    refine v_goto (tgt := 48) dX8_barsOf_159 rfl ?_
                    exact ih _ (by omega) (k + 1) _ p' _ _ rfl (by omega) hs0 (by simp only [maskN]; rw [if_pos ⟨g, c144⟩, hv0])
              · refine v_iload (i := 8) dX8_barsOf_102 rfl ?_
                refine v_iload_n (i := 2) dX8_barsOf_104 rfl rfl ?_
                refine v_icmp_ne (tgt := 120) dX8_barsOf_105 rfl (fun c105 => ?_) (fun c105 => ?_)
                · refine v_iconst (v := nI 0) dX8_barsOf_120 k_iconst_0 ?_
                  refine v_istore (i := 9) dX8_barsOf_121 (by decide) rfl ?_
                  refine v_iload (i := 9) dX8_barsOf_123 rfl ?_
                  refine vn_if_eq (tgt := 156) dX8_barsOf_125 rfl (by decide) (fun c125 => ?_) (fun c125 => ?_)
                  · have g : ¬ goes (sc k) sh (gN σ 1) := by
                      unfold goes
                      rintro (g | ⟨g, g2⟩ | ⟨g, g2⟩ | ⟨g, g2⟩)
                      · exact c69 (m1.mpr g)
                      · first | exact absurd (m2.mpr g) c76 | (have : gN σ 1 ≤ sh := c84; omega)
                      · first | exact absurd (m3.mpr g) c91 | exact c99 g2
                      · first | exact absurd (m4.mpr g) c105 | (have : gN σ 1 ≤ sh := c113; omega)
                    refine vn_iinc 1 dX8_barsOf_156 rfl k_iconst_1 (by decide) rfl ?_
                    refine v_goto (tgt := 48) dX8_barsOf_159 rfl ?_
                    exact ih _ (by omega) (k + 1) _ p _ _ rfl (by omega) hs0 (by simp only [maskN]; rw [if_neg (fun q => g q.1), hv0])
                  · exact absurd rfl c125
                · refine v_iload_n (i := 2) dX8_barsOf_108 rfl rfl ?_
                  refine v_aload_n (i := 0) dX8_barsOf_109 rfl rfl ?_
                  refine mg_shores rfl dX8_barsOf_110 ?_
                  refine vn_icmp_ge (tgt := 120) dX8_barsOf_113 rfl (by omega) (show gN σ 1 < _ by omega) (fun c113 => ?_) (fun c113 => ?_)
                  · refine v_iconst (v := nI 0) dX8_barsOf_120 k_iconst_0 ?_
                    refine v_istore (i := 9) dX8_barsOf_121 (by decide) rfl ?_
                    refine v_iload (i := 9) dX8_barsOf_123 rfl ?_
                    refine vn_if_eq (tgt := 156) dX8_barsOf_125 rfl (by decide) (fun c125 => ?_) (fun c125 => ?_)
                    · have g : ¬ goes (sc k) sh (gN σ 1) := by
                        unfold goes
                        rintro (g | ⟨g, g2⟩ | ⟨g, g2⟩ | ⟨g, g2⟩)
                        · exact c69 (m1.mpr g)
                        · first | exact absurd (m2.mpr g) c76 | (have : gN σ 1 ≤ sh := c84; omega)
                        · first | exact absurd (m3.mpr g) c91 | exact c99 g2
                        · first | exact absurd (m4.mpr g) c105 | (have : gN σ 1 ≤ sh := c113; omega)
                      refine vn_iinc 1 dX8_barsOf_156 rfl k_iconst_1 (by decide) rfl ?_
                      refine v_goto (tgt := 48) dX8_barsOf_159 rfl ?_
                      exact ih _ (by omega) (k + 1) _ p _ _ rfl (by omega) hs0 (by simp only [maskN]; rw [if_neg (fun q => g q.1), hv0])
                    · exact absurd rfl c125
                  · refine v_iconst (v := nI 1) dX8_barsOf_116 k_iconst_1 ?_
                    refine v_goto (tgt := 121) dX8_barsOf_117 rfl ?_
                    refine v_istore (i := 9) dX8_barsOf_121 (by decide) rfl ?_
                    refine v_iload (i := 9) dX8_barsOf_123 rfl ?_
                    refine vn_if_eq (tgt := 156) dX8_barsOf_125 rfl (by decide) (fun c125 => ?_) (fun c125 => ?_)
                    · exact absurd c125 (by decide)
                    · have g : goes (sc k) sh (gN σ 1) := by
                        first | exact Or.inl (m1.mp c69) | exact Or.inr (Or.inl ⟨m2.mp c76, c84⟩) | exact Or.inr (Or.inr (Or.inl ⟨m3.mp c91, c99⟩)) | exact Or.inr (Or.inr (Or.inr ⟨m4.mp c105, c113⟩))
                      obtain ⟨n9, hn9⟩ := h2 k c54 s sh b l hs
                      refine v_aload_n (i := 0) dX8_barsOf_128 rfl rfl ?_
                      refine v_aload_n (i := 0) dX8_barsOf_129 rfl rfl ?_
                      refine mg_lawAt rfl dX8_barsOf_130 ?_
                      refine v_iload (i := 7) dX8_barsOf_133 rfl ?_
                      refine ml_lawAt hap (by omega) dX8_barsOf_135 ?_
                      refine v_iload_n (i := 1) dX8_barsOf_136 rfl rfl ?_
                      refine v_iload_n (i := 2) dX8_barsOf_137 rfl rfl ?_
                      refine v_iload_n (i := 3) dX8_barsOf_138 rfl rfl ?_
                      refine v_iload (i := 4) dX8_barsOf_139 rfl ?_
                      refine v_callVI (kc' := 0) (ks' := 0) (cM_worth hap (stB σ 51 p) n9 (gA σ 15 k) s sh b l (f k s sh b l) hs hT hm hn9) (lw_V q2332 q2334 qs84 q136 q2335) iX8_worth rfl KX8 MH_m rfl rfl (by decide) (by decide) (Nat.le_of_ble_eq_true rfl) (by decide) (by decide) dX8_barsOf_141 (fun x_ η' h => ?_)
                      obtain ⟨rfl, p', rfl⟩ := h
                      rw [stB_stB]
                      refine v_if_eq (tgt := 156) dX8_barsOf_144 rfl (fun c144 => ?_) (fun c144 => ?_)
                      · refine vn_iinc 1 dX8_barsOf_156 rfl k_iconst_1 (by decide) rfl ?_
                        refine v_goto (tgt := 48) dX8_barsOf_159 rfl ?_
                        exact ih _ (by omega) (k + 1) _ p' _ _ rfl (by omega) hs0 (by simp only [maskN]; rw [if_neg (fun q => q.2 c144), hv0])
                      · refine v_iload (i := 6) dX8_barsOf_147 rfl ?_
                        refine v_iconst (v := nI 1) dX8_barsOf_149 k_iconst_1 ?_
                        refine v_iload (i := 7) dX8_barsOf_150 rfl ?_
                        refine vn_ishl (by omega) dX8_barsOf_152 ?_
                        refine vn_ior dX8_barsOf_153 ?_
                        refine v_istore (i := 6) dX8_barsOf_154 (by decide) rfl ?_
                        refine vn_iinc 1 dX8_barsOf_156 rfl k_iconst_1 (by decide) rfl ?_
                        refine v_goto (tgt := 48) dX8_barsOf_159 rfl ?_
                        exact ih _ (by omega) (k + 1) _ p' _ _ rfl (by omega) hs0 (by simp only [maskN]; rw [if_pos ⟨g, c144⟩, hv0])
          · refine v_iload_n (i := 2) dX8_barsOf_79 rfl rfl ?_
            refine v_aload_n (i := 0) dX8_barsOf_80 rfl rfl ?_
            refine mg_shores rfl dX8_barsOf_81 ?_
            refine vn_icmp_lt (tgt := 116) dX8_barsOf_84 rfl (by omega) (show gN σ 1 < _ by omega) (fun c84 => ?_) (fun c84 => ?_)
            · refine v_iconst (v := nI 1) dX8_barsOf_116 k_iconst_1 ?_
              refine v_goto (tgt := 121) dX8_barsOf_117 rfl ?_
              refine v_istore (i := 9) dX8_barsOf_121 (by decide) rfl ?_
              refine v_iload (i := 9) dX8_barsOf_123 rfl ?_
              refine vn_if_eq (tgt := 156) dX8_barsOf_125 rfl (by decide) (fun c125 => ?_) (fun c125 => ?_)
              · exact absurd c125 (by decide)
              · have g : goes (sc k) sh (gN σ 1) := by
                  first | exact Or.inl (m1.mp c69) | exact Or.inr (Or.inl ⟨m2.mp c76, c84⟩) | exact Or.inr (Or.inr (Or.inl ⟨m3.mp c91, c99⟩)) | exact Or.inr (Or.inr (Or.inr ⟨m4.mp c105, c113⟩))
                obtain ⟨n9, hn9⟩ := h2 k c54 s sh b l hs
                refine v_aload_n (i := 0) dX8_barsOf_128 rfl rfl ?_
                refine v_aload_n (i := 0) dX8_barsOf_129 rfl rfl ?_
                refine mg_lawAt rfl dX8_barsOf_130 ?_
                refine v_iload (i := 7) dX8_barsOf_133 rfl ?_
                refine ml_lawAt hap (by omega) dX8_barsOf_135 ?_
                refine v_iload_n (i := 1) dX8_barsOf_136 rfl rfl ?_
                refine v_iload_n (i := 2) dX8_barsOf_137 rfl rfl ?_
                refine v_iload_n (i := 3) dX8_barsOf_138 rfl rfl ?_
                refine v_iload (i := 4) dX8_barsOf_139 rfl ?_
                refine v_callVI (kc' := 0) (ks' := 0) (cM_worth hap (stB σ 51 p) n9 (gA σ 15 k) s sh b l (f k s sh b l) hs hT hm hn9) (lw_V q2332 q2334 qs84 q136 q2335) iX8_worth rfl KX8 MH_m rfl rfl (by decide) (by decide) (Nat.le_of_ble_eq_true rfl) (by decide) (by decide) dX8_barsOf_141 (fun x_ η' h => ?_)
                obtain ⟨rfl, p', rfl⟩ := h
                rw [stB_stB]
                refine v_if_eq (tgt := 156) dX8_barsOf_144 rfl (fun c144 => ?_) (fun c144 => ?_)
                · refine vn_iinc 1 dX8_barsOf_156 rfl k_iconst_1 (by decide) rfl ?_
                  refine v_goto (tgt := 48) dX8_barsOf_159 rfl ?_
                  exact ih _ (by omega) (k + 1) _ p' _ _ rfl (by omega) hs0 (by simp only [maskN]; rw [if_neg (fun q => q.2 c144), hv0])
                · refine v_iload (i := 6) dX8_barsOf_147 rfl ?_
                  refine v_iconst (v := nI 1) dX8_barsOf_149 k_iconst_1 ?_
                  refine v_iload (i := 7) dX8_barsOf_150 rfl ?_
                  refine vn_ishl (by omega) dX8_barsOf_152 ?_
                  refine vn_ior dX8_barsOf_153 ?_
                  refine v_istore (i := 6) dX8_barsOf_154 (by decide) rfl ?_
                  refine vn_iinc 1 dX8_barsOf_156 rfl k_iconst_1 (by decide) rfl ?_
                  refine v_goto (tgt := 48) dX8_barsOf_159 rfl ?_
                  exact ih _ (by omega) (k + 1) _ p' _ _ rfl (by omega) hs0 (by simp only [maskN]; rw [if_pos ⟨g, c144⟩, hv0])
            · refine v_iload (i := 8) dX8_barsOf_87 rfl ?_
              refine v_bipush (v := -3) dX8_barsOf_89 k_bipush_m3 ?_
              refine v_icmp_ne (tgt := 102) dX8_barsOf_91 rfl (fun c91 => ?_) (fun c91 => ?_)
              · refine v_iload (i := 8) dX8_barsOf_102 rfl ?_
                refine v_iload_n (i := 2) dX8_barsOf_104 rfl rfl ?_
                refine v_icmp_ne (tgt := 120) dX8_barsOf_105 rfl (fun c105 => ?_) (fun c105 => ?_)
                · refine v_iconst (v := nI 0) dX8_barsOf_120 k_iconst_0 ?_
                  refine v_istore (i := 9) dX8_barsOf_121 (by decide) rfl ?_
                  refine v_iload (i := 9) dX8_barsOf_123 rfl ?_
                  refine vn_if_eq (tgt := 156) dX8_barsOf_125 rfl (by decide) (fun c125 => ?_) (fun c125 => ?_)
                  · have g : ¬ goes (sc k) sh (gN σ 1) := by
                      unfold goes
                      rintro (g | ⟨g, g2⟩ | ⟨g, g2⟩ | ⟨g, g2⟩)
                      · exact c69 (m1.mpr g)
                      · first | exact absurd (m2.mpr g) c76 | (have : gN σ 1 ≤ sh := c84; omega)
                      · first | exact absurd (m3.mpr g) c91 | exact c99 g2
                      · first | exact absurd (m4.mpr g) c105 | (have : gN σ 1 ≤ sh := c113; omega)
                    refine vn_iinc 1 dX8_barsOf_156 rfl k_iconst_1 (by decide) rfl ?_
                    refine v_goto (tgt := 48) dX8_barsOf_159 rfl ?_
                    exact ih _ (by omega) (k + 1) _ p _ _ rfl (by omega) hs0 (by simp only [maskN]; rw [if_neg (fun q => g q.1), hv0])
                  · exact absurd rfl c125
                · refine v_iload_n (i := 2) dX8_barsOf_108 rfl rfl ?_
                  refine v_aload_n (i := 0) dX8_barsOf_109 rfl rfl ?_
                  refine mg_shores rfl dX8_barsOf_110 ?_
                  refine vn_icmp_ge (tgt := 120) dX8_barsOf_113 rfl (by omega) (show gN σ 1 < _ by omega) (fun c113 => ?_) (fun c113 => ?_)
                  · refine v_iconst (v := nI 0) dX8_barsOf_120 k_iconst_0 ?_
                    refine v_istore (i := 9) dX8_barsOf_121 (by decide) rfl ?_
                    refine v_iload (i := 9) dX8_barsOf_123 rfl ?_
                    refine vn_if_eq (tgt := 156) dX8_barsOf_125 rfl (by decide) (fun c125 => ?_) (fun c125 => ?_)
                    · have g : ¬ goes (sc k) sh (gN σ 1) := by
                        unfold goes
                        rintro (g | ⟨g, g2⟩ | ⟨g, g2⟩ | ⟨g, g2⟩)
                        · exact c69 (m1.mpr g)
                        · first | exact absurd (m2.mpr g) c76 | (have : gN σ 1 ≤ sh := c84; omega)
                        · first | exact absurd (m3.mpr g) c91 | exact c99 g2
                        · first | exact absurd (m4.mpr g) c105 | (have : gN σ 1 ≤ sh := c113; omega)
                      refine vn_iinc 1 dX8_barsOf_156 rfl k_iconst_1 (by decide) rfl ?_
                      refine v_goto (tgt := 48) dX8_barsOf_159 rfl ?_
                      exact ih _ (by omega) (k + 1) _ p _ _ rfl (by omega) hs0 (by simp only [maskN]; rw [if_neg (fun q => g q.1), hv0])
                    · exact absurd rfl c125
                  · refine v_iconst (v := nI 1) dX8_barsOf_116 k_iconst_1 ?_
                    refine v_goto (tgt := 121) dX8_barsOf_117 rfl ?_
                    refine v_istore (i := 9) dX8_barsOf_121 (by decide) rfl ?_
                    refine v_iload (i := 9) dX8_barsOf_123 rfl ?_
                    refine vn_if_eq (tgt := 156) dX8_barsOf_125 rfl (by decide) (fun c125 => ?_) (fun c125 => ?_)
                    · exact absurd c125 (by decide)
                    · have g : goes (sc k) sh (gN σ 1) := by
                        first | exact Or.inl (m1.mp c69) | exact Or.inr (Or.inl ⟨m2.mp c76, c84⟩) | exact Or.inr (Or.inr (Or.inl ⟨m3.mp c91, c99⟩)) | exact Or.inr (Or.inr (Or.inr ⟨m4.mp c105, c113⟩))
                      obtain ⟨n9, hn9⟩ := h2 k c54 s sh b l hs
                      refine v_aload_n (i := 0) dX8_barsOf_128 rfl rfl ?_
                      refine v_aload_n (i := 0) dX8_barsOf_129 rfl rfl ?_
                      refine mg_lawAt rfl dX8_barsOf_130 ?_
                      refine v_iload (i := 7) dX8_barsOf_133 rfl ?_
                      refine ml_lawAt hap (by omega) dX8_barsOf_135 ?_
                      refine v_iload_n (i := 1) dX8_barsOf_136 rfl rfl ?_
                      refine v_iload_n (i := 2) dX8_barsOf_137 rfl rfl ?_
                      refine v_iload_n (i := 3) dX8_barsOf_138 rfl rfl ?_
                      refine v_iload (i := 4) dX8_barsOf_139 rfl ?_
                      refine v_callVI (kc' := 0) (ks' := 0) (cM_worth hap (stB σ 51 p) n9 (gA σ 15 k) s sh b l (f k s sh b l) hs hT hm hn9) (lw_V q2332 q2334 qs84 q136 q2335) iX8_worth rfl KX8 MH_m rfl rfl (by decide) (by decide) (Nat.le_of_ble_eq_true rfl) (by decide) (by decide) dX8_barsOf_141 (fun x_ η' h => ?_)
                      obtain ⟨rfl, p', rfl⟩ := h
                      rw [stB_stB]
                      refine v_if_eq (tgt := 156) dX8_barsOf_144 rfl (fun c144 => ?_) (fun c144 => ?_)
                      · refine vn_iinc 1 dX8_barsOf_156 rfl k_iconst_1 (by decide) rfl ?_
                        refine v_goto (tgt := 48) dX8_barsOf_159 rfl ?_
                        exact ih _ (by omega) (k + 1) _ p' _ _ rfl (by omega) hs0 (by simp only [maskN]; rw [if_neg (fun q => q.2 c144), hv0])
                      · refine v_iload (i := 6) dX8_barsOf_147 rfl ?_
                        refine v_iconst (v := nI 1) dX8_barsOf_149 k_iconst_1 ?_
                        refine v_iload (i := 7) dX8_barsOf_150 rfl ?_
                        refine vn_ishl (by omega) dX8_barsOf_152 ?_
                        refine vn_ior dX8_barsOf_153 ?_
                        refine v_istore (i := 6) dX8_barsOf_154 (by decide) rfl ?_
                        refine vn_iinc 1 dX8_barsOf_156 rfl k_iconst_1 (by decide) rfl ?_
                        refine v_goto (tgt := 48) dX8_barsOf_159 rfl ?_
                        exact ih _ (by omega) (k + 1) _ p' _ _ rfl (by omega) hs0 (by simp only [maskN]; rw [if_pos ⟨g, c144⟩, hv0])
              · refine v_iload_n (i := 2) dX8_barsOf_94 rfl rfl ?_
                refine v_aload_n (i := 0) dX8_barsOf_95 rfl rfl ?_
                refine mg_shores rfl dX8_barsOf_96 ?_
                refine vn_icmp_eq (tgt := 116) dX8_barsOf_99 rfl (by omega) (show gN σ 1 < _ by omega) (fun c99 => ?_) (fun c99 => ?_)
                · refine v_iconst (v := nI 1) dX8_barsOf_116 k_iconst_1 ?_
                  refine v_goto (tgt := 121) dX8_barsOf_117 rfl ?_
                  refine v_istore (i := 9) dX8_barsOf_121 (by decide) rfl ?_
                  refine v_iload (i := 9) dX8_barsOf_123 rfl ?_
                  refine vn_if_eq (tgt := 156) dX8_barsOf_125 rfl (by decide) (fun c125 => ?_) (fun c125 => ?_)
                  · exact absurd c125 (by decide)
                  · have g : goes (sc k) sh (gN σ 1) := by
                      first | exact Or.inl (m1.mp c69) | exact Or.inr (Or.inl ⟨m2.mp c76, c84⟩) | exact Or.inr (Or.inr (Or.inl ⟨m3.mp c91, c99⟩)) | exact Or.inr (Or.inr (Or.inr ⟨m4.mp c105, c113⟩))
                    obtain ⟨n9, hn9⟩ := h2 k c54 s sh b l hs
                    refine v_aload_n (i := 0) dX8_barsOf_128 rfl rfl ?_
                    refine v_aload_n (i := 0) dX8_barsOf_129 rfl rfl ?_
                    refine mg_lawAt rfl dX8_barsOf_130 ?_
                    refine v_iload (i := 7) dX8_barsOf_133 rfl ?_
                    refine ml_lawAt hap (by omega) dX8_barsOf_135 ?_
                    refine v_iload_n (i := 1) dX8_barsOf_136 rfl rfl ?_
                    refine v_iload_n (i := 2) dX8_barsOf_137 rfl rfl ?_
                    refine v_iload_n (i := 3) dX8_barsOf_138 rfl rfl ?_
                    refine v_iload (i := 4) dX8_barsOf_139 rfl ?_
                    refine v_callVI (kc' := 0) (ks' := 0) (cM_worth hap (stB σ 51 p) n9 (gA σ 15 k) s sh b l (f k s sh b l) hs hT hm hn9) (lw_V q2332 q2334 qs84 q136 q2335) iX8_worth rfl KX8 MH_m rfl rfl (by decide) (by decide) (Nat.le_of_ble_eq_true rfl) (by decide) (by decide) dX8_barsOf_141 (fun x_ η' h => ?_)
                    obtain ⟨rfl, p', rfl⟩ := h
                    rw [stB_stB]
                    refine v_if_eq (tgt := 156) dX8_barsOf_144 rfl (fun c144 => ?_) (fun c144 => ?_)
                    · refine vn_iinc 1 dX8_barsOf_156 rfl k_iconst_1 (by decide) rfl ?_
                      refine v_goto (tgt := 48) dX8_barsOf_159 rfl ?_
                      exact ih _ (by omega) (k + 1) _ p' _ _ rfl (by omega) hs0 (by simp only [maskN]; rw [if_neg (fun q => q.2 c144), hv0])
                    · refine v_iload (i := 6) dX8_barsOf_147 rfl ?_
                      refine v_iconst (v := nI 1) dX8_barsOf_149 k_iconst_1 ?_
                      refine v_iload (i := 7) dX8_barsOf_150 rfl ?_
                      refine vn_ishl (by omega) dX8_barsOf_152 ?_
                      refine vn_ior dX8_barsOf_153 ?_
                      refine v_istore (i := 6) dX8_barsOf_154 (by decide) rfl ?_
                      refine vn_iinc 1 dX8_barsOf_156 rfl k_iconst_1 (by decide) rfl ?_
                      refine v_goto (tgt := 48) dX8_barsOf_159 rfl ?_
                      exact ih _ (by omega) (k + 1) _ p' _ _ rfl (by omega) hs0 (by simp only [maskN]; rw [if_pos ⟨g, c144⟩, hv0])
                · refine v_iload (i := 8) dX8_barsOf_102 rfl ?_
                  refine v_iload_n (i := 2) dX8_barsOf_104 rfl rfl ?_
                  refine v_icmp_ne (tgt := 120) dX8_barsOf_105 rfl (fun c105 => ?_) (fun c105 => ?_)
                  · refine v_iconst (v := nI 0) dX8_barsOf_120 k_iconst_0 ?_
                    refine v_istore (i := 9) dX8_barsOf_121 (by decide) rfl ?_
                    refine v_iload (i := 9) dX8_barsOf_123 rfl ?_
                    refine vn_if_eq (tgt := 156) dX8_barsOf_125 rfl (by decide) (fun c125 => ?_) (fun c125 => ?_)
                    · have g : ¬ goes (sc k) sh (gN σ 1) := by
                        unfold goes
                        rintro (g | ⟨g, g2⟩ | ⟨g, g2⟩ | ⟨g, g2⟩)
                        · exact c69 (m1.mpr g)
                        · first | exact absurd (m2.mpr g) c76 | (have : gN σ 1 ≤ sh := c84; omega)
                        · first | exact absurd (m3.mpr g) c91 | exact c99 g2
                        · first | exact absurd (m4.mpr g) c105 | (have : gN σ 1 ≤ sh := c113; omega)
                      refine vn_iinc 1 dX8_barsOf_156 rfl k_iconst_1 (by decide) rfl ?_
                      refine v_goto (tgt := 48) dX8_barsOf_159 rfl ?_
                      exact ih _ (by omega) (k + 1) _ p _ _ rfl (by omega) hs0 (by simp only [maskN]; rw [if_neg (fun q => g q.1), hv0])
                    · exact absurd rfl c125
                  · refine v_iload_n (i := 2) dX8_barsOf_108 rfl rfl ?_
                    refine v_aload_n (i := 0) dX8_barsOf_109 rfl rfl ?_
                    refine mg_shores rfl dX8_barsOf_110 ?_
                    refine vn_icmp_ge (tgt := 120) dX8_barsOf_113 rfl (by omega) (show gN σ 1 < _ by omega) (fun c113 => ?_) (fun c113 => ?_)
                    · refine v_iconst (v := nI 0) dX8_barsOf_120 k_iconst_0 ?_
                      refine v_istore (i := 9) dX8_barsOf_121 (by decide) rfl ?_
                      refine v_iload (i := 9) dX8_barsOf_123 rfl ?_
                      refine vn_if_eq (tgt := 156) dX8_barsOf_125 rfl (by decide) (fun c125 => ?_) (fun c125 => ?_)
                      · have g : ¬ goes (sc k) sh (gN σ 1) := by
                          unfold goes
                          rintro (g | ⟨g, g2⟩ | ⟨g, g2⟩ | ⟨g, g2⟩)
                          · exact c69 (m1.mpr g)
                          · first | exact absurd (m2.mpr g) c76 | (have : gN σ 1 ≤ sh := c84; omega)
                          · first | exact absurd (m3.mpr g) c91 | exact c99 g2
                          · first | exact absurd (m4.mpr g) c105 | (have : gN σ 1 ≤ sh := c113; omega)
                        refine vn_iinc 1 dX8_barsOf_156 rfl k_iconst_1 (by decide) rfl ?_
                        refine v_goto (tgt := 48) dX8_barsOf_159 rfl ?_
                        exact ih _ (by omega) (k + 1) _ p _ _ rfl (by omega) hs0 (by simp only [maskN]; rw [if_neg (fun q => g q.1), hv0])
                      · exact absurd rfl c125
                    · refine v_iconst (v := nI 1) dX8_barsOf_116 k_iconst_1 ?_
                      refine v_goto (tgt := 121) dX8_barsOf_117 rfl ?_
                      refine v_istore (i := 9) dX8_barsOf_121 (by decide) rfl ?_
                      refine v_iload (i := 9) dX8_barsOf_123 rfl ?_
                      refine vn_if_eq (tgt := 156) dX8_barsOf_125 rfl (by decide) (fun c125 => ?_) (fun c125 => ?_)
                      · exact absurd c125 (by decide)
                      · have g : goes (sc k) sh (gN σ 1) := by
                          first | exact Or.inl (m1.mp c69) | exact Or.inr (Or.inl ⟨m2.mp c76, c84⟩) | exact Or.inr (Or.inr (Or.inl ⟨m3.mp c91, c99⟩)) | exact Or.inr (Or.inr (Or.inr ⟨m4.mp c105, c113⟩))
                        obtain ⟨n9, hn9⟩ := h2 k c54 s sh b l hs
                        refine v_aload_n (i := 0) dX8_barsOf_128 rfl rfl ?_
                        refine v_aload_n (i := 0) dX8_barsOf_129 rfl rfl ?_
                        refine mg_lawAt rfl dX8_barsOf_130 ?_
                        refine v_iload (i := 7) dX8_barsOf_133 rfl ?_
                        refine ml_lawAt hap (by omega) dX8_barsOf_135 ?_
                        refine v_iload_n (i := 1) dX8_barsOf_136 rfl rfl ?_
                        refine v_iload_n (i := 2) dX8_barsOf_137 rfl rfl ?_
                        refine v_iload_n (i := 3) dX8_barsOf_138 rfl rfl ?_
                        refine v_iload (i := 4) dX8_barsOf_139 rfl ?_
                        refine v_callVI (kc' := 0) (ks' := 0) (cM_worth hap (stB σ 51 p) n9 (gA σ 15 k) s sh b l (f k s sh b l) hs hT hm hn9) (lw_V q2332 q2334 qs84 q136 q2335) iX8_worth rfl KX8 MH_m rfl rfl (by decide) (by decide) (Nat.le_of_ble_eq_true rfl) (by decide) (by decide) dX8_barsOf_141 (fun x_ η' h => ?_)
                        obtain ⟨rfl, p', rfl⟩ := h
                        rw [stB_stB]
                        refine v_if_eq (tgt := 156) dX8_barsOf_144 rfl (fun c144 => ?_) (fun c144 => ?_)
                        · refine vn_iinc 1 dX8_barsOf_156 rfl k_iconst_1 (by decide) rfl ?_
                          refine v_goto (tgt := 48) dX8_barsOf_159 rfl ?_
                          exact ih _ (by omega) (k + 1) _ p' _ _ rfl (by omega) hs0 (by simp only [maskN]; rw [if_neg (fun q => q.2 c144), hv0])
                        · refine v_iload (i := 6) dX8_barsOf_147 rfl ?_
                          refine v_iconst (v := nI 1) dX8_barsOf_149 k_iconst_1 ?_
                          refine v_iload (i := 7) dX8_barsOf_150 rfl ?_
                          refine vn_ishl (by omega) dX8_barsOf_152 ?_
                          refine vn_ior dX8_barsOf_153 ?_
                          refine v_istore (i := 6) dX8_barsOf_154 (by decide) rfl ?_
                          refine vn_iinc 1 dX8_barsOf_156 rfl k_iconst_1 (by decide) rfl ?_
                          refine v_goto (tgt := 48) dX8_barsOf_159 rfl ?_
                          exact ih _ (by omega) (k + 1) _ p' _ _ rfl (by omega) hs0 (by simp only [maskN]; rw [if_pos ⟨g, c144⟩, hv0])
  refine v_iload_n (i := 1) dX8_barsOf_0 rfl rfl ?_
  refine vn_if_ne (tgt := 6) dX8_barsOf_1 rfl (by omega) (fun c1 => ?_) (fun c1 => ?_)
  · refine v_iload_n (i := 1) dX8_barsOf_6 rfl rfl ?_
    refine v_iconst (v := nI 5) dX8_barsOf_7 k_iconst_5 ?_
    refine vn_imul dX8_barsOf_8 ?_
    refine v_iload_n (i := 2) dX8_barsOf_9 rfl rfl ?_
    refine vn_iadd dX8_barsOf_10 ?_
    refine v_iconst (v := nI 3) dX8_barsOf_11 k_iconst_3 ?_
    refine vn_imul dX8_barsOf_12 ?_
    refine v_iload_n (i := 3) dX8_barsOf_13 rfl rfl ?_
    refine vn_iadd dX8_barsOf_14 ?_
    refine v_iconst (v := nI 2) dX8_barsOf_15 k_iconst_2 ?_
    refine vn_imul dX8_barsOf_16 ?_
    refine v_iload (i := 4) dX8_barsOf_17 rfl ?_
    refine vn_iadd dX8_barsOf_19 ?_
    refine v_istore (i := 5) dX8_barsOf_20 (by decide) rfl ?_
    refine v_aload_n (i := 0) dX8_barsOf_22 rfl rfl ?_
    refine mg_barred rfl dX8_barsOf_23 ?_
    refine v_iload (i := 5) dX8_barsOf_26 rfl ?_
    refine ml_barred hap (by omega) dX8_barsOf_28 ?_
    refine vn_if_le (tgt := 42) dX8_barsOf_29 rfl (by rcases hcc with h | h <;> omega) (fun c29 => ?_) (fun c29 => ?_)
    · refine v_iconst (v := nI 0) dX8_barsOf_42 k_iconst_0 ?_
      refine v_istore (i := 6) dX8_barsOf_43 (by decide) rfl ?_
      refine v_iconst (v := nI 0) dX8_barsOf_45 k_iconst_0 ?_
      refine v_istore (i := 7) dX8_barsOf_46 (by decide) rfl ?_
      have L0 := L _ 0 0 (gB σ 51) none none rfl (Nat.zero_le _) c1 rfl
      rw [stB_self] at L0
      exact L0
    · refine v_aload_n (i := 0) dX8_barsOf_32 rfl rfl ?_
      refine mg_barred rfl dX8_barsOf_33 ?_
      refine v_iload (i := 5) dX8_barsOf_36 rfl ?_
      refine ml_barred hap (by omega) dX8_barsOf_38 ?_
      refine v_iconst (v := nI 1) dX8_barsOf_39 k_iconst_1 ?_
      refine vn_isub c29 dX8_barsOf_40 ?_
      exact v_iret rfl dX8_barsOf_41 ⟨_, rfl, by rw [hcc.resolve_left (by omega)]; rfl, gA σ 50, gB σ 51, hC, by rw [sCP_self]⟩
  · refine v_iconst (v := nI 0) dX8_barsOf_4 k_iconst_0 ?_
    exact v_iret rfl dX8_barsOf_5 ⟨_, rfl, by rw [hbf, if_pos c1], gA σ 50, gB σ 51, hC, by rw [sCP_self]⟩
