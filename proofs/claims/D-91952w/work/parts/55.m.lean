theorem cM_explores {G : Gl} {m : Nat} {ad : Nat → Nat} {η0 : AH} (hap : Mp m ad) (σ : MS) (τ : Td) (hd ld : Nat → Nat) (w : Nat) (hW : WX σ τ hd ld w) : Ct G yX8_explores cX8_explores 6 (some .boolean) 7 0 0 [.ref m, .int (nI (stT τ))] (MH m ad σ η0) (ri fun r η => ∃ σ2, η = MH m ad σ2 η0 ∧ EF σ σ2 ∧ Cch (bfT τ) (gA σ2 50) ∧ gN σ2 67 = 0 ∧ (expl (τ, hd, ld, w) = none → r = nI 0 ∧ gN σ2 66 = 1) ∧ ∀ X, expl (τ, hd, ld, w) = some X → r = nI 1 ∧ gN σ2 66 = 0 ∧ XM σ2 X ∧ ∀ j, j ≤ xn X → gA σ2 57 j = xfs X j) := by
  refine Ct.start rfl rfl (Nat.le_of_ble_eq_true rfl) (fun Γ => ?_)
  generalize hR : expl (τ, hd, ld, w) = R
  have hTB := hW.1
  have hst := stT_lt hTB
  have hbs := bsT_lt hTB w (stT τ) 0 0 0
  have hS4 : tN τ 29 ≤ 4 := hTB.1.2.1
  have hB2 : tN τ 31 ≤ 2 := hTB.1.2.2.2.1
  have inv3 : ∀ σ2, EF σ σ2 → gN σ2 3 = tN τ 31 ∧ gN σ2 1 = tN τ 29 := fun σ2 hE => ⟨(hE.1 3 (by decide) (by decide) (by decide) (by decide)).trans hW.2.1.2.2.1, (hE.1 1 (by decide) (by decide) (by decide) (by decide)).trans hW.2.1.1⟩
  have LS79 : ∀ (k sv : Nat) (σ2 : MS) (z4 z5 : Option Value), k < 2147483648 → R = none → EF σ σ2 → Cch (bfT τ) (gA σ2 50) → gN σ2 67 = 0 → gN σ2 66 = 1 → gN σ2 54 ≤ 2000 → V G Γ yX8_explores cX8_explores 6 (some .boolean) [] 7 (ri fun r η => ∃ σ2, η = MH m ad σ2 η0 ∧ EF σ σ2 ∧ Cch (bfT τ) (gA σ2 50) ∧ gN σ2 67 = 0 ∧ (R = none → r = nI 0 ∧ gN σ2 66 = 1) ∧ ∀ X, R = some X → r = nI 1 ∧ gN σ2 66 = 0 ∧ XM σ2 X ∧ ∀ j, j ≤ xn X → gA σ2 57 j = xfs X j) 0 0 (MH m ad σ2 η0) 79 [some (.ref m), some (.int (nI (stT τ))), some (.int (nI sv)), some (.int (nI k)), z4, z5] [] := by
    intro k sv σ2 z4 z5 hk hRn hE hC h67 h66 h54
    refine v_iload_n (i := 3) dX8_explores_79 rfl rfl ?_
    refine v_aload_n (i := 0) dX8_explores_80 rfl rfl ?_
    refine mg_states rfl dX8_explores_81 ?_
    refine vn_icmp_ge (tgt := 166) dX8_explores_84 rfl hk (show gN σ2 54 < _ by omega) (fun c84 => ?_) (fun c84 => ?_)
    · refine v_aload_n (i := 0) dX8_explores_166 rfl rfl ?_
      refine mg_firstOf rfl dX8_explores_167 ?_
      refine v_aload_n (i := 0) dX8_explores_170 rfl rfl ?_
      refine mg_states rfl dX8_explores_171 ?_
      refine v_aload_n (i := 0) dX8_explores_174 rfl rfl ?_
      refine mg_crossings rfl dX8_explores_175 ?_
      refine ms_firstOf hap (show gN σ2 54 < 2002 by omega) dX8_explores_178 ?_
      refine v_aload_n (i := 0) dX8_explores_179 rfl rfl ?_
      refine mg_isSpent rfl dX8_explores_180 ?_
      refine vn_if_ne (tgt := 190) dX8_explores_183 rfl (show gN σ2 66 < _ by omega) (fun c183 => ?_) (fun c183 => ?_)
      · refine v_iconst (v := nI 0) dX8_explores_190 k_iconst_0 ?_
        exact v_zret rfl rfl dX8_explores_191 ⟨_, rfl, _, rfl, hE.a (by decide), hC, h67, fun _ => ⟨rfl, h66⟩, fun X q => (by rw [hRn] at q; cases q)⟩
      · exact absurd (show gN σ2 66 = 0 from c183) (by omega)
    · refine v_aload_n (i := 0) dX8_explores_87 rfl rfl ?_
      refine mg_isSpent rfl dX8_explores_88 ?_
      refine vn_if_ne (tgt := 166) dX8_explores_91 rfl (show gN σ2 66 < _ by omega) (fun c91 => ?_) (fun c91 => ?_)
      · refine v_aload_n (i := 0) dX8_explores_166 rfl rfl ?_
        refine mg_firstOf rfl dX8_explores_167 ?_
        refine v_aload_n (i := 0) dX8_explores_170 rfl rfl ?_
        refine mg_states rfl dX8_explores_171 ?_
        refine v_aload_n (i := 0) dX8_explores_174 rfl rfl ?_
        refine mg_crossings rfl dX8_explores_175 ?_
        refine ms_firstOf hap (show gN σ2 54 < 2002 by omega) dX8_explores_178 ?_
        refine v_aload_n (i := 0) dX8_explores_179 rfl rfl ?_
        refine mg_isSpent rfl dX8_explores_180 ?_
        refine vn_if_ne (tgt := 190) dX8_explores_183 rfl (show gN σ2 66 < _ by omega) (fun c183 => ?_) (fun c183 => ?_)
        · refine v_iconst (v := nI 0) dX8_explores_190 k_iconst_0 ?_
          exact v_zret rfl rfl dX8_explores_191 ⟨_, rfl, _, rfl, hE.a (by decide), hC, h67, fun _ => ⟨rfl, h66⟩, fun X q => (by rw [hRn] at q; cases q)⟩
        · exact absurd (show gN σ2 66 = 0 from c183) (by omega)
      · exact absurd (show gN σ2 66 = 0 from c91) (by omega)
  have LS107 : ∀ (n b k : Nat) (σ2 : MS) (z5 : Option Value), b + n = tN τ 31 → k < 2147483647 → R = none → EF σ σ2 → Cch (bfT τ) (gA σ2 50) → gN σ2 67 = 0 → gN σ2 66 = 1 → gN σ2 54 ≤ 2000 → V G Γ yX8_explores cX8_explores 6 (some .boolean) [] 7 (ri fun r η => ∃ σ2, η = MH m ad σ2 η0 ∧ EF σ σ2 ∧ Cch (bfT τ) (gA σ2 50) ∧ gN σ2 67 = 0 ∧ (R = none → r = nI 0 ∧ gN σ2 66 = 1) ∧ ∀ X, R = some X → r = nI 1 ∧ gN σ2 66 = 0 ∧ XM σ2 X ∧ ∀ j, j ≤ xn X → gA σ2 57 j = xfs X j) 0 0 (MH m ad σ2 η0) 107 [some (.ref m), some (.int (nI (stT τ))), some (.int (nI 0)), some (.int (nI k)), some (.int (nI b)), z5] [] := by
    intro n
    induction n with
    | zero =>
      intro b k σ2 z5 hbn hk hRn hE hC h67 h66 h54
      have e3 := (inv3 σ2 hE).1
      refine v_iload (i := 4) dX8_explores_107 rfl ?_
      refine v_aload_n (i := 0) dX8_explores_109 rfl rfl ?_
      refine mg_boats rfl dX8_explores_110 ?_
      refine vn_icmp_ge (tgt := 160) dX8_explores_113 rfl (by omega) (show gN σ2 3 < _ by omega) (fun c113 => ?_) (fun c113 => ?_)
      · refine vn_iinc 1 dX8_explores_160 rfl k_iconst_1 (by decide) rfl ?_
        refine v_goto (tgt := 79) dX8_explores_163 rfl ?_
        exact LS79 (k + 1) 0 σ2 _ _ (by omega) hRn hE hC h67 h66 h54
      · exact absurd (show b < gN σ2 3 from c113) (by omega)
    | succ n ih =>
      intro b k σ2 z5 hbn hk hRn hE hC h67 h66 h54
      have e3 := (inv3 σ2 hE).1
      have e1 := (inv3 σ2 hE).2
      refine v_iload (i := 4) dX8_explores_107 rfl ?_
      refine v_aload_n (i := 0) dX8_explores_109 rfl rfl ?_
      refine mg_boats rfl dX8_explores_110 ?_
      refine vn_icmp_ge (tgt := 160) dX8_explores_113 rfl (by omega) (show gN σ2 3 < _ by omega) (fun c113 => ?_) (fun c113 => ?_)
      · exact absurd (show gN σ2 3 ≤ b from c113) (by omega)
      · refine v_iload_n (i := 2) dX8_explores_116 rfl rfl ?_
        refine vn_if_ne (tgt := 160) dX8_explores_117 rfl (by decide) (fun c117 => ?_) (fun c117 => ?_)
        · exact absurd rfl c117
        · refine v_iconst (v := nI 0) dX8_explores_120 k_iconst_0 ?_
          refine v_istore (i := 5) dX8_explores_121 (by decide) rfl ?_
          refine v_iload (i := 5) dX8_explores_123 rfl ?_
          refine v_aload_n (i := 0) dX8_explores_125 rfl rfl ?_
          refine mg_shores rfl dX8_explores_126 ?_
          refine vn_icmp_ge (tgt := 154) dX8_explores_129 rfl (by decide) (show gN σ2 1 < _ by omega) (fun c129 => ?_) (fun c129 => ?_)
          · exact absurd (show gN σ2 1 ≤ 0 from c129) (by have := hTB.1; omega)
          · refine v_aload_n (i := 0) dX8_explores_132 rfl rfl ?_
            refine mg_isSpent rfl dX8_explores_133 ?_
            refine vn_if_ne (tgt := 154) dX8_explores_136 rfl (show gN σ2 66 < _ by omega) (fun c136 => ?_) (fun c136 => ?_)
            · refine vn_iinc 1 dX8_explores_154 rfl k_iconst_1 (by decide) rfl ?_
              refine v_goto (tgt := 107) dX8_explores_157 rfl ?_
              exact ih (b + 1) k σ2 _ (by omega) hk hRn hE hC h67 h66 h54
            · exact absurd (show gN σ2 66 = 0 from c136) (by omega)
  have LS123 : ∀ (to b k : Nat) (σ2 : MS), b < tN τ 31 → to < 2147483648 → k < 2147483647 → R = none → EF σ σ2 → Cch (bfT τ) (gA σ2 50) → gN σ2 67 = 0 → gN σ2 66 = 1 → gN σ2 54 ≤ 2000 → V G Γ yX8_explores cX8_explores 6 (some .boolean) [] 7 (ri fun r η => ∃ σ2, η = MH m ad σ2 η0 ∧ EF σ σ2 ∧ Cch (bfT τ) (gA σ2 50) ∧ gN σ2 67 = 0 ∧ (R = none → r = nI 0 ∧ gN σ2 66 = 1) ∧ ∀ X, R = some X → r = nI 1 ∧ gN σ2 66 = 0 ∧ XM σ2 X ∧ ∀ j, j ≤ xn X → gA σ2 57 j = xfs X j) 0 0 (MH m ad σ2 η0) 123 [some (.ref m), some (.int (nI (stT τ))), some (.int (nI 0)), some (.int (nI k)), some (.int (nI b)), some (.int (nI to))] [] := by
    intro to b k σ2 hbn hto hk hRn hE hC h67 h66 h54
    have e1 := (inv3 σ2 hE).2
    refine v_iload (i := 5) dX8_explores_123 rfl ?_
    refine v_aload_n (i := 0) dX8_explores_125 rfl rfl ?_
    refine mg_shores rfl dX8_explores_126 ?_
    refine vn_icmp_ge (tgt := 154) dX8_explores_129 rfl hto (show gN σ2 1 < _ by omega) (fun c129 => ?_) (fun c129 => ?_)
    · refine vn_iinc 1 dX8_explores_154 rfl k_iconst_1 (by decide) rfl ?_
      refine v_goto (tgt := 107) dX8_explores_157 rfl ?_
      exact LS107 (tN τ 31 - (b + 1)) (b + 1) k σ2 _ (by omega) hk hRn hE hC h67 h66 h54
    · refine v_aload_n (i := 0) dX8_explores_132 rfl rfl ?_
      refine mg_isSpent rfl dX8_explores_133 ?_
      refine vn_if_ne (tgt := 154) dX8_explores_136 rfl (show gN σ2 66 < _ by omega) (fun c136 => ?_) (fun c136 => ?_)
      · refine vn_iinc 1 dX8_explores_154 rfl k_iconst_1 (by decide) rfl ?_
        refine v_goto (tgt := 107) dX8_explores_157 rfl ?_
        exact LS107 (tN τ 31 - (b + 1)) (b + 1) k σ2 _ (by omega) hk hRn hE hC h67 h66 h54
      · exact absurd (show gN σ2 66 = 0 from c136) (by omega)
  have L79 : ∀ (n k sv : Nat) (σ2 : MS) (X2 : XT) (z4 z5 : Option Value), xK (τ, hd, ld, w) n k X2 = R → n + k = 2001 → k ≤ xn X2 → EF σ σ2 → Cch (bfT τ) (gA σ2 50) → gN σ2 67 = 0 → gN σ2 66 = 0 → (∀ b, b < tN τ 31 → gA σ2 68 b = (mayL τ hd ld b).length ∧ holdsL (gA σ2 69) (256 * b) (mayL τ hd ld b)) → XM σ2 X2 → (∀ j, j < k → gA σ2 57 j = xfs X2 j) → ((sv = 0 ∧ bsT τ w (stT τ) 0 0 0 = 0) ∨ (sv = 1 ∧ ¬ bsT τ w (stT τ) 0 0 0 = 0)) → V G Γ yX8_explores cX8_explores 6 (some .boolean) [] 7 (ri fun r η => ∃ σ2, η = MH m ad σ2 η0 ∧ EF σ σ2 ∧ Cch (bfT τ) (gA σ2 50) ∧ gN σ2 67 = 0 ∧ (R = none → r = nI 0 ∧ gN σ2 66 = 1) ∧ ∀ X, R = some X → r = nI 1 ∧ gN σ2 66 = 0 ∧ XM σ2 X ∧ ∀ j, j ≤ xn X → gA σ2 57 j = xfs X j) 0 0 (MH m ad σ2 η0) 79 [some (.ref m), some (.int (nI (stT τ))), some (.int (nI sv)), some (.int (nI k)), z4, z5] [] := by
    intro n
    induction n with
    | zero =>
      intro k sv σ2 X2 z4 z5 hq hnk hk hE hC h67 h66 hml hX
      have := hX.2.2.1.1
      omega
    | succ n ih =>
      intro k sv σ2 X2 z4 z5 hq0 hnk hk hE hC h67 h66 hml hX hfs hsv
      have hq : (if k < xn X2 then _ else _) = R := hq0
      clear hq0
      have hn2 := hX.2.2.1.1
      have h54 := hX.1
      have h55 := hX.2.1
      have hne := hX.2.2.2.1
      refine v_iload_n (i := 3) dX8_explores_79 rfl rfl ?_
      refine v_aload_n (i := 0) dX8_explores_80 rfl rfl ?_
      refine mg_states rfl dX8_explores_81 ?_
      refine vn_icmp_ge (tgt := 166) dX8_explores_84 rfl (by omega) (show gN σ2 54 < _ by omega) (fun c84 => ?_) (fun c84 => ?_)
      · have c84 : ¬ k < xn X2 := by have : gN σ2 54 ≤ k := c84; omega
        rw [if_neg c84] at hq
        refine v_aload_n (i := 0) dX8_explores_166 rfl rfl ?_
        refine mg_firstOf rfl dX8_explores_167 ?_
        refine v_aload_n (i := 0) dX8_explores_170 rfl rfl ?_
        refine mg_states rfl dX8_explores_171 ?_
        refine v_aload_n (i := 0) dX8_explores_174 rfl rfl ?_
        refine mg_crossings rfl dX8_explores_175 ?_
        refine ms_firstOf hap (show gN σ2 54 < 2002 by omega) dX8_explores_178 ?_
        refine v_aload_n (i := 0) dX8_explores_179 rfl rfl ?_
        refine mg_isSpent rfl dX8_explores_180 ?_
        refine vn_if_ne (tgt := 190) dX8_explores_183 rfl (show gN σ2 66 < _ by omega) (fun c183 => ?_) (fun c183 => ?_)
        · exact absurd h66 c183
        · refine v_iconst (v := nI 1) dX8_explores_186 k_iconst_1 ?_
          refine v_goto (tgt := 191) dX8_explores_187 rfl ?_
          exact v_zret rfl rfl dX8_explores_191 ⟨_, rfl, _, rfl, hE.a (by decide), hC, h67, fun q => (by rw [← hq] at q; cases q), fun X q => (by
                  rw [← hq] at q
                  cases q
                  refine ⟨rfl, h66, hX, fun j hj => ?_⟩
                  have hj : j ≤ xn X2 := hj
                  show va_up (gA σ2 57) (gN σ2 54) (gN σ2 55) j = va_up (xfs X2) (xn X2) (xe X2) j
                  rw [h54, h55]
                  by_cases q : j = xn X2
                  · rw [q, va_up_e, va_up_e]
                  · rw [va_up_n q, va_up_n q]
                    exact hfs j (by omega))⟩
      · have c84 : k < xn X2 := by have : k < gN σ2 54 := c84; omega
        rw [if_pos c84] at hq
        refine v_aload_n (i := 0) dX8_explores_87 rfl rfl ?_
        refine mg_isSpent rfl dX8_explores_88 ?_
        refine vn_if_ne (tgt := 166) dX8_explores_91 rfl (show gN σ2 66 < _ by omega) (fun c91 => ?_) (fun c91 => ?_)
        · exact absurd h66 c91
        · refine v_aload_n (i := 0) dX8_explores_94 rfl rfl ?_
          refine mg_firstOf rfl dX8_explores_95 ?_
          refine v_iload_n (i := 3) dX8_explores_98 rfl rfl ?_
          refine v_aload_n (i := 0) dX8_explores_99 rfl rfl ?_
          refine mg_crossings rfl dX8_explores_100 ?_
          refine ms_firstOf hap (show k < 2002 by omega) dX8_explores_103 ?_
          have hX1 : XM (sA σ2 57 k (gN σ2 55)) (xFst X2 k) := hX
          have hfs1 : ∀ j, j < k + 1 → gA (sA σ2 57 k (gN σ2 55)) 57 j = xfs (xFst X2 k) j := fun j hj => by
            show va_up (gA σ2 57) k (gN σ2 55) j = va_up (xfs X2) k (xe X2) j
            rw [h55]
            by_cases q : j = k
            · rw [q, va_up_e, va_up_e]
            · rw [va_up_n q, va_up_n q]
              exact hfs j (by omega)
          rcases hsv with ⟨rfl, hs0⟩ | ⟨rfl, hs0⟩
          · rw [if_pos hs0] at hq
            generalize hx : xst X2 k = x at hq
            have L107 : ∀ (nb b : Nat) (σ3 : MS) (X3 : XT) (z5 : Option Value), (xBo (τ, hd, ld, w) k x nb b X3).bind (xK (τ, hd, ld, w) n (k + 1)) = R → b + nb = tN τ 31 → k < xn X3 → xst X3 k = x → EF σ σ3 → Cch (bfT τ) (gA σ3 50) → gN σ3 67 = 0 → gN σ3 66 = 0 → (∀ b, b < tN τ 31 → gA σ3 68 b = (mayL τ hd ld b).length ∧ holdsL (gA σ3 69) (256 * b) (mayL τ hd ld b)) → XM σ3 X3 → (∀ j, j < k + 1 → gA σ3 57 j = xfs X3 j) → V G Γ yX8_explores cX8_explores 6 (some .boolean) [] 7 (ri fun r η => ∃ σ2, η = MH m ad σ2 η0 ∧ EF σ σ2 ∧ Cch (bfT τ) (gA σ2 50) ∧ gN σ2 67 = 0 ∧ (R = none → r = nI 0 ∧ gN σ2 66 = 1) ∧ ∀ X, R = some X → r = nI 1 ∧ gN σ2 66 = 0 ∧ XM σ2 X ∧ ∀ j, j ≤ xn X → gA σ2 57 j = xfs X j) 0 0 (MH m ad σ3 η0) 107 [some (.ref m), some (.int (nI (stT τ))), some (.int (nI 0)), some (.int (nI k)), some (.int (nI b)), z5] [] := by
              intro nb
              induction nb with
              | zero =>
                intro b σ3 X3 z5 hq2 hbn hk3 hx3 hE hC h67 h66 hml hX hfs
                have e3 := (inv3 σ3 hE).1
                refine v_iload (i := 4) dX8_explores_107 rfl ?_
                refine v_aload_n (i := 0) dX8_explores_109 rfl rfl ?_
                refine mg_boats rfl dX8_explores_110 ?_
                refine vn_icmp_ge (tgt := 160) dX8_explores_113 rfl (by omega) (show gN σ3 3 < _ by omega) (fun c113 => ?_) (fun c113 => ?_)
                · refine vn_iinc 1 dX8_explores_160 rfl k_iconst_1 (by decide) rfl ?_
                  refine v_goto (tgt := 79) dX8_explores_163 rfl ?_
                  exact ih (k + 1) 0 σ3 X3 _ _ hq2 (by omega) (by omega) hE hC h67 h66 hml hX hfs (Or.inl ⟨rfl, hs0⟩)
                · exact absurd (show b < gN σ3 3 from c113) (by omega)
              | succ nb ih2 =>
                intro b σ3 X3 z5 hq2 hbn hk3 hx3 hE hC h67 h66 hml hX hfs
                have e3 := (inv3 σ3 hE).1
                have hq2 : ((xTo (τ, hd, ld, w) k x b (tN τ 29) 0 X3).bind (xBo (τ, hd, ld, w) k x nb (b + 1))).bind (xK (τ, hd, ld, w) n (k + 1)) = R := hq2
                have L123 : ∀ (nt to : Nat) (σ4 : MS) (X4 : XT), ((xTo (τ, hd, ld, w) k x b nt to X4).bind (xBo (τ, hd, ld, w) k x nb (b + 1))).bind (xK (τ, hd, ld, w) n (k + 1)) = R → to + nt = tN τ 29 → k < xn X4 → xst X4 k = x → EF σ σ4 → Cch (bfT τ) (gA σ4 50) → gN σ4 67 = 0 → gN σ4 66 = 0 → (∀ b, b < tN τ 31 → gA σ4 68 b = (mayL τ hd ld b).length ∧ holdsL (gA σ4 69) (256 * b) (mayL τ hd ld b)) → XM σ4 X4 → (∀ j, j < k + 1 → gA σ4 57 j = xfs X4 j) → V G Γ yX8_explores cX8_explores 6 (some .boolean) [] 7 (ri fun r η => ∃ σ2, η = MH m ad σ2 η0 ∧ EF σ σ2 ∧ Cch (bfT τ) (gA σ2 50) ∧ gN σ2 67 = 0 ∧ (R = none → r = nI 0 ∧ gN σ2 66 = 1) ∧ ∀ X, R = some X → r = nI 1 ∧ gN σ2 66 = 0 ∧ XM σ2 X ∧ ∀ j, j ≤ xn X → gA σ2 57 j = xfs X j) 0 0 (MH m ad σ4 η0) 123 [some (.ref m), some (.int (nI (stT τ))), some (.int (nI 0)), some (.int (nI k)), some (.int (nI b)), some (.int (nI to))] [] := by
                  intro nt
                  induction nt with
                  | zero =>
                    intro to σ4 X4 hq3 htn hk4 hx4 hE hC h67 h66 hml hX hfs
                    have e1 := (inv3 σ4 hE).2
                    refine v_iload (i := 5) dX8_explores_123 rfl ?_
                    refine v_aload_n (i := 0) dX8_explores_125 rfl rfl ?_
                    refine mg_shores rfl dX8_explores_126 ?_
                    refine vn_icmp_ge (tgt := 154) dX8_explores_129 rfl (by omega) (show gN σ4 1 < _ by omega) (fun c129 => ?_) (fun c129 => ?_)
                    · refine vn_iinc 1 dX8_explores_154 rfl k_iconst_1 (by decide) rfl ?_
                      refine v_goto (tgt := 107) dX8_explores_157 rfl ?_
                      exact ih2 (b + 1) σ4 X4 _ hq3 (by omega) hk4 hx4 hE hC h67 h66 hml hX hfs
                    · exact absurd (show to < gN σ4 1 from c129) (by omega)
                  | succ nt ih3 =>
                    intro to σ4 X4 hq3 htn hk4 hx4 hE hC h67 h66 hml hX hfs
                    have e1 := (inv3 σ4 hE).2
                    have hn4 := hX.2.2.1.1
                    have hq3 : (((if canG τ x b to then xSets (τ, hd, ld, w) k x b to X4 else some X4).bind (xTo (τ, hd, ld, w) k x b nt (to + 1))).bind (xBo (τ, hd, ld, w) k x nb (b + 1))).bind (xK (τ, hd, ld, w) n (k + 1)) = R := hq3
                    refine v_iload (i := 5) dX8_explores_123 rfl ?_
                    refine v_aload_n (i := 0) dX8_explores_125 rfl rfl ?_
                    refine mg_shores rfl dX8_explores_126 ?_
                    refine vn_icmp_ge (tgt := 154) dX8_explores_129 rfl (by omega) (show gN σ4 1 < _ by omega) (fun c129 => ?_) (fun c129 => ?_)
                    · exact absurd (show gN σ4 1 ≤ to from c129) (by omega)
                    · refine v_aload_n (i := 0) dX8_explores_132 rfl rfl ?_
                      refine mg_isSpent rfl dX8_explores_133 ?_
                      refine vn_if_ne (tgt := 154) dX8_explores_136 rfl (show gN σ4 66 < _ by omega) (fun c136 => ?_) (fun c136 => ?_)
                      · exact absurd h66 c136
                      · refine v_aload_n (i := 0) dX8_explores_139 rfl rfl ?_
                        refine v_iload_n (i := 3) dX8_explores_140 rfl rfl ?_
                        refine v_iload (i := 4) dX8_explores_141 rfl ?_
                        refine v_iload (i := 5) dX8_explores_143 rfl ?_
                        refine v_callVW (kc' := 0) (ks' := 0) (cM_goesBy hap σ4 τ hd ld w (hE.wx hW hC) X4 hX k b to hk4 (by omega) (by omega) h66 (hml b (by omega))) (lw_V q2421 q2423 qs97 q136 q2424) iX8_goesBy rfl KX8 MH_m rfl rfl (by decide) (by decide) (Nat.le_of_ble_eq_true rfl) (by decide) (by decide) dX8_explores_145 (fun η' h => ?_)
                        obtain ⟨σ5, rfl, g1, g2, ⟨g3, g4, g5, g5b⟩, g6, g7⟩ := h
                        rw [hx4] at g6 g7
                        have hml5 : ∀ b, b < tN τ 31 → gA σ5 68 b = (mayL τ hd ld b).length ∧ holdsL (gA σ5 69) (256 * b) (mayL τ hd ld b) := by rw [g4, g5]; exact hml
                        cases hgo : (if canG τ x b to then xSets (τ, hd, ld, w) k x b to X4 else some X4)
                        · rw [hgo] at hq3
                          obtain ⟨g8, g9⟩ := g6 hgo
                          have hRn : R = none := hq3.symm
                          refine vn_iinc 1 dX8_explores_148 rfl k_iconst_1 (by decide) rfl ?_
                          refine v_goto (tgt := 123) dX8_explores_151 rfl ?_
                          exact LS123 (to + 1) b k σ5 (by omega) (by omega) (by omega) hRn (hE.trans g1) g2 (g5b.trans h67) g8 g9
                        · rename_i X5
                          rw [hgo] at hq3
                          obtain ⟨g8, g9, g10, g11, g12⟩ := g7 X5 hgo
                          refine vn_iinc 1 dX8_explores_148 rfl k_iconst_1 (by decide) rfl ?_
                          refine v_goto (tgt := 123) dX8_explores_151 rfl ?_
                          exact ih3 (to + 1) σ5 X5 hq3 (by omega) (by omega) g11 (hE.trans g1) g2 (g5b.trans h67) g8 hml5 g9 (by rw [g3, g12]; exact hfs)
                refine v_iload (i := 4) dX8_explores_107 rfl ?_
                refine v_aload_n (i := 0) dX8_explores_109 rfl rfl ?_
                refine mg_boats rfl dX8_explores_110 ?_
                refine vn_icmp_ge (tgt := 160) dX8_explores_113 rfl (by omega) (show gN σ3 3 < _ by omega) (fun c113 => ?_) (fun c113 => ?_)
                · exact absurd (show gN σ3 3 ≤ b from c113) (by omega)
                · refine v_iload_n (i := 2) dX8_explores_116 rfl rfl ?_
                  refine vn_if_ne (tgt := 160) dX8_explores_117 rfl (by decide) (fun c117 => ?_) (fun c117 => ?_)
                  · exact absurd rfl c117
                  · refine v_iconst (v := nI 0) dX8_explores_120 k_iconst_0 ?_
                    refine v_istore (i := 5) dX8_explores_121 (by decide) rfl ?_
                    exact L123 (tN τ 29) 0 σ3 X3 hq2 (by omega) hk3 hx3 hE hC h67 h66 hml hX hfs
            refine v_iconst (v := nI 0) dX8_explores_104 k_iconst_0 ?_
            refine v_istore (i := 4) dX8_explores_105 (by decide) rfl ?_
            exact L107 (tN τ 31) 0 _ (xFst X2 k) _ hq (by omega) c84 hx (hE.a (by decide)) hC h67 h66 hml hX1 hfs1
          · rw [if_neg hs0] at hq
            have e3 := (inv3 σ2 hE).1
            refine v_iconst (v := nI 0) dX8_explores_104 k_iconst_0 ?_
            refine v_istore (i := 4) dX8_explores_105 (by decide) rfl ?_
            refine v_iload (i := 4) dX8_explores_107 rfl ?_
            refine v_aload_n (i := 0) dX8_explores_109 rfl rfl ?_
            refine mg_boats rfl dX8_explores_110 ?_
            refine vn_icmp_ge (tgt := 160) dX8_explores_113 rfl (by decide) (show gN σ2 3 < _ by omega) (fun c113 => ?_) (fun c113 => ?_)
            · refine vn_iinc 1 dX8_explores_160 rfl k_iconst_1 (by decide) rfl ?_
              refine v_goto (tgt := 79) dX8_explores_163 rfl ?_
              exact ih (k + 1) 1 _ (xFst X2 k) _ _ hq (by omega) c84 (hE.a (by decide)) hC h67 h66 hml hX1 hfs1 (Or.inr ⟨rfl, hs0⟩)
            · refine v_iload_n (i := 2) dX8_explores_116 rfl rfl ?_
              refine vn_if_ne (tgt := 160) dX8_explores_117 rfl (by decide) (fun c117 => ?_) (fun c117 => ?_)
              · refine vn_iinc 1 dX8_explores_160 rfl k_iconst_1 (by decide) rfl ?_
                refine v_goto (tgt := 79) dX8_explores_163 rfl ?_
                exact ih (k + 1) 1 _ (xFst X2 k) _ _ hq (by omega) c84 (hE.a (by decide)) hC h67 h66 hml hX1 hfs1 (Or.inr ⟨rfl, hs0⟩)
              · exact absurd c117 (by decide)
  have L7 : ∀ (n i : Nat) (f : Nat → Nat), i + n = 8192 → (∀ j, j < i → f j = 0) → V G Γ yX8_explores cX8_explores 6 (some .boolean) [] 7 (ri fun r η => ∃ σ2, η = MH m ad σ2 η0 ∧ EF σ σ2 ∧ Cch (bfT τ) (gA σ2 50) ∧ gN σ2 67 = 0 ∧ (R = none → r = nI 0 ∧ gN σ2 66 = 1) ∧ ∀ X, R = some X → r = nI 1 ∧ gN σ2 66 = 0 ∧ XM σ2 X ∧ ∀ j, j ≤ xn X → gA σ2 57 j = xfs X j) 0 0 (MH m ad (stA (sN σ 67 0) 60 f) η0) 7 [some (.ref m), some (.int (nI (stT τ))), some (.int (nI i)), none, none, none] [] := by
    intro n
    induction n with
    | zero =>
      intro i f hi hf
      have e : i = 8192 := by omega
      subst e
      refine v_iload_n (i := 2) dX8_explores_7 rfl rfl ?_
      refine v_sipush (v := nI 8192) dX8_explores_8 k_sipush_8192 ?_
      refine vn_icmp_ge (tgt := 27) dX8_explores_11 rfl (by omega) (by omega) (fun c11 => ?_) (fun c11 => ?_)
      · refine v_aload_n (i := 0) dX8_explores_27 rfl rfl ?_
        refine v_iconst (v := nI 0) dX8_explores_28 k_iconst_0 ?_
        refine mp_states rfl dX8_explores_29 ?_
        refine v_aload_n (i := 0) dX8_explores_32 rfl rfl ?_
        refine v_iconst (v := nI 0) dX8_explores_33 k_iconst_0 ?_
        refine mp_crossings rfl dX8_explores_34 ?_
        refine v_aload_n (i := 0) dX8_explores_37 rfl rfl ?_
        refine v_iconst (v := nI 0) dX8_explores_38 k_iconst_0 ?_
        refine mp_isSpent rfl (by decide) dX8_explores_39 ?_
        refine v_aload_n (i := 0) dX8_explores_42 rfl rfl ?_
        refine v_callVW (kc' := 0) (ks' := 0) (cM_sets hap (sN (sN (sN (stA (sN σ 67 0) 60 f) 54 0) 55 0) 66 0) τ hd ld w hW) (lw_V q2398 q2400 qs92 q136 q2401) iX8_sets rfl KX8 MH_m rfl rfl (by decide) (by decide) (Nat.le_of_ble_eq_true rfl) (by decide) (by decide) dX8_explores_43 (fun η' h => ?_)
        obtain ⟨f1, g1, rfl, hfg⟩ := h
        refine v_aload_n (i := 0) dX8_explores_46 rfl rfl ?_
        refine mg_far rfl dX8_explores_47 ?_
        refine v_aload_n (i := 0) dX8_explores_50 rfl rfl ?_
        refine v_iload_n (i := 1) dX8_explores_51 rfl rfl ?_
        refine v_callVI (kc' := 0) (ks' := 0) (cM_numberOf hap (SMa (sN (sN (sN (stA (sN σ 67 0) 60 f) 54 0) 55 0) 66 0) f1 g1) (stT τ) hst (SLt.nil hf) (fun j hj => absurd hj (by show ¬ j < 0; omega))) (lw_V q2402 q2404 qs93 q136 q2405) iX8_numberOf rfl KX8 MH_m rfl rfl (by decide) (by decide) (Nat.le_of_ble_eq_true rfl) (by decide) (by decide) dX8_explores_52 (fun x_ η' h => ?_)
        obtain ⟨rfl, q, hq8, hSL, rfl⟩ := h.2.2 rfl (by show 0 < 2000; decide)
        refine v_top (show _ = nI 0 from rfl) ?_
        refine v_iconst (v := nI 0) dX8_explores_55 k_iconst_0 ?_
        refine ms_far hap (by decide) dX8_explores_56 ?_
        refine v_aload_n (i := 0) dX8_explores_57 rfl rfl ?_
        refine v_aload_n (i := 0) dX8_explores_58 rfl rfl ?_
        refine v_callVi (cX_start hap (sA (sN (sA (sA (SMa (sN (sN (sN (stA (sN σ 67 0) 60 f) 54 0) 55 0) 66 0) f1 g1) 56 0 (stT τ)) 60 q 1) 54 1) 58 0 0) τ hd ld w hW) (lw_V q1912 q1914 qs54 q136 q1915) iX8_start rfl KX8 MH_m rfl rfl (by decide) (by decide) (Nat.le_of_ble_eq_true rfl) dX8_explores_59 ?_
        refine v_iconst (v := nI 0) dX8_explores_62 k_iconst_0 ?_
        refine v_iconst (v := nI 0) dX8_explores_63 k_iconst_0 ?_
        refine v_iconst (v := nI 0) dX8_explores_64 k_iconst_0 ?_
        refine v_callVI (kc' := 0) (ks' := 0) (cX_barsShores hap (sA (sN (sA (sA (SMa (sN (sN (sN (stA (sN σ 67 0) 60 f) 54 0) 55 0) 66 0) f1 g1) 56 0 (stT τ)) 60 q 1) 54 1) 58 0 0) τ hd ld w hW (stT τ) 0 0 0 (by omega) (by decide) (by decide)) (lw_V q2406 q2408 qs94 q136 q2409) iX8_barsShores rfl KX8 MH_m rfl rfl (by decide) (by decide) (Nat.le_of_ble_eq_true rfl) (by decide) (by decide) dX8_explores_65 (fun x_ η' h => ?_)
        obtain ⟨rfl, c1, p1, hc1, rfl⟩ := h
        refine vn_if_eq (tgt := 75) dX8_explores_68 rfl (by omega) (fun c68 => ?_) (fun c68 => ?_)
        · refine v_iconst (v := nI 0) dX8_explores_75 k_iconst_0 ?_
          refine v_istore_n (i := 2) dX8_explores_76 rfl (by decide) rfl ?_
          refine v_iconst (v := nI 0) dX8_explores_77 k_iconst_0 ?_
          refine v_istore_n (i := 3) dX8_explores_78 rfl (by decide) rfl ?_
          have hX0 : XM (sCP (sA (sN (sA (sA (SMa (sN (sN (sN (stA (sN σ 67 0) 60 f) 54 0) 55 0) 66 0) f1 g1) 56 0 (stT τ)) 60 q 1) 54 1) 58 0 0) c1 p1) (xOne (stT τ)) := by
            refine ⟨rfl, rfl, ?_, Nat.zero_le _, fun j hj => ?_, fun e he => absurd he (by show ¬ e < 0; omega)⟩
            · exact hSL
            · have hj : j < 1 := hj
              have e : j = 0 := by omega
              subst e
              exact ⟨rfl, rfl, hst, Nat.le_refl _⟩
          exact L79 2001 0 0 _ (xOne (stT τ)) _ _ hR (by omega) (Nat.zero_le _) (((((((((((((EF.rf σ).n (by decide)).st (by decide)).n (by decide)).n (by decide)).n (by decide)).st (by decide)).st (by decide)).a (by decide)).a (by decide)).n (by decide)).a (by decide)).cp) hc1 rfl rfl hfg hX0 (fun j hj => absurd hj (by omega)) (Or.inl ⟨rfl, c68⟩)
        · refine v_iconst (v := nI 1) dX8_explores_71 k_iconst_1 ?_
          refine v_goto (tgt := 76) dX8_explores_72 rfl ?_
          refine v_istore_n (i := 2) dX8_explores_76 rfl (by decide) rfl ?_
          refine v_iconst (v := nI 0) dX8_explores_77 k_iconst_0 ?_
          refine v_istore_n (i := 3) dX8_explores_78 rfl (by decide) rfl ?_
          have hX0 : XM (sCP (sA (sN (sA (sA (SMa (sN (sN (sN (stA (sN σ 67 0) 60 f) 54 0) 55 0) 66 0) f1 g1) 56 0 (stT τ)) 60 q 1) 54 1) 58 0 0) c1 p1) (xOne (stT τ)) := by
            refine ⟨rfl, rfl, ?_, Nat.zero_le _, fun j hj => ?_, fun e he => absurd he (by show ¬ e < 0; omega)⟩
            · exact hSL
            · have hj : j < 1 := hj
              have e : j = 0 := by omega
              subst e
              exact ⟨rfl, rfl, hst, Nat.le_refl _⟩
          exact L79 2001 0 1 _ (xOne (stT τ)) _ _ hR (by omega) (Nat.zero_le _) (((((((((((((EF.rf σ).n (by decide)).st (by decide)).n (by decide)).n (by decide)).n (by decide)).st (by decide)).st (by decide)).a (by decide)).a (by decide)).n (by decide)).a (by decide)).cp) hc1 rfl rfl hfg hX0 (fun j hj => absurd hj (by omega)) (Or.inr ⟨rfl, c68⟩)
      · omega
    | succ n ih =>
      intro i f hi hf
      refine v_iload_n (i := 2) dX8_explores_7 rfl rfl ?_
      refine v_sipush (v := nI 8192) dX8_explores_8 k_sipush_8192 ?_
      refine vn_icmp_ge (tgt := 27) dX8_explores_11 rfl (by omega) (by omega) (fun c11 => ?_) (fun c11 => ?_)
      · omega
      · refine v_aload_n (i := 0) dX8_explores_14 rfl rfl ?_
        refine mg_slot rfl dX8_explores_15 ?_
        refine v_iload_n (i := 2) dX8_explores_18 rfl rfl ?_
        refine v_iconst (v := nI 0) dX8_explores_19 k_iconst_0 ?_
        refine ms_slot hap (by omega) dX8_explores_20 ?_
        refine vn_iinc 1 dX8_explores_21 rfl k_iconst_1 (by decide) rfl ?_
        refine v_goto (tgt := 7) dX8_explores_24 rfl ?_
        rw [sA_stA]
        exact ih (i + 1) _ (by omega) (fun j hj => by by_cases q : j = i; (rw [q]; exact va_up_e); (rw [va_up_n q]; exact hf j (by omega)))
  refine v_aload_n (i := 0) dX8_explores_0 rfl rfl ?_
  refine v_iconst (v := nI 0) dX8_explores_1 k_iconst_0 ?_
  refine mp_isFirst rfl (by decide) dX8_explores_2 ?_
  refine v_iconst (v := nI 0) dX8_explores_5 k_iconst_0 ?_
  refine v_istore_n (i := 2) dX8_explores_6 rfl (by decide) rfl ?_
  have L0 := L7 8192 0 (gA (sN σ 67 0) 60) (by omega) (fun j hj => absurd hj (by omega))
  rw [stA_self] at L0
  exact L0
