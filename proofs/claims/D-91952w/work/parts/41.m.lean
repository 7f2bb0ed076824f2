/-! ===== reading expressions: the methods over XS ===== -/
theorem flt_XS (σ : MS) (p : Nat) (rd : Nat → Nat) (tp : Nat) (wt : Nat → Nat) (wn dp : Nat) (td : Nat → Nat) (k pl : Nat) : flt (XS σ p rd tp wt wn dp td) k pl = XS (flt σ k pl) p rd tp wt wn dp td := by
  refine MS_ext (fun j => ?_) rfl rfl (fun j => ?_) rfl
  · unfold flt
    rw [gN_sN, gN_sN, XS_N, XS_N]
    by_cases h1 : j = 20
    · subst h1; rfl
    · by_cases h2 : j = 19
      · subst h2; rfl
      · rw [if_neg h1, if_neg h2]
        have e : gN (TS (sN (sN σ 19 k) 20 (pl + 1)) p) j = gN (TS σ p) j := by
          unfold TS setTok gN sN
          dsimp only
          split
          · rfl
          · first
            | rfl
            | rw [if_neg h1, if_neg h2]
        rw [e]
  · unfold flt
    rw [gA_sN, gA_sN, XS_A, XS_A]
    rfl
theorem XS_self (σ : MS) (p : Nat) : TS σ p = XS σ p (gA σ 46) (gN σ 34) (gA σ 47) (gN σ 35) (gN σ 36) (gA σ 49) := by
  refine MS_ext (fun j => ?_) rfl rfl (fun j => ?_) rfl
  · rw [XS_N]
    by_cases h1 : j = 36
    · subst h1; rfl
    · by_cases h2 : j = 35
      · subst h2; rfl
      · by_cases h3 : j = 34
        · subst h3; rfl
        · rw [if_neg h1, if_neg h2, if_neg h3]
  · rw [XS_A]
    by_cases h1 : j = 49
    · subst h1; rfl
    · by_cases h2 : j = 47
      · subst h2; rfl
      · by_cases h3 : j = 46
        · subst h3; rfl
        · rw [if_neg h1, if_neg h2, if_neg h3]
          rfl
theorem XS_tok (σ : MS) (p q : Nat) (rd : Nat → Nat) (tp : Nat) (wt : Nat → Nat) (wn dp : Nat) (td : Nat → Nat) : setTok (XS σ p rd tp wt wn dp td) (tk (gA σ 17) (gN σ 21) q) = XS σ q rd tp wt wn dp td := by
  refine MS_ext (fun j => ?_) rfl rfl (fun j => rfl) rfl
  rw [XS_N]
  by_cases h : 22 ≤ j ∧ j ≤ 27
  · rw [if_neg (by omega), if_neg (by omega), if_neg (by omega)]
    unfold TS setTok gN
    dsimp only
    rw [if_pos h, if_pos h]
  · have e : gN (setTok (XS σ p rd tp wt wn dp td) (tk (gA σ 17) (gN σ 21) q)) j = gN (XS σ p rd tp wt wn dp td) j := by
      unfold setTok gN
      dsimp only
      rw [if_neg h]
    rw [e, XS_N]
    have e2 : gN (TS σ p) j = gN (TS σ q) j := by
      unfold TS setTok gN
      dsimp only
      rw [if_neg h, if_neg h]
    rw [e2]
theorem cM_goesX {G : Gl} {m : Nat} {ad : Nat → Nat} {η0 : AH} (hap : Mp m ad) (σ : MS) (hP : PO σ) (p : Nat) (hp : p ≤ gN σ 21) (rd : Nat → Nat) (tp : Nat) (wt : Nat → Nat) (wn dp : Nat) (td : Nat → Nat) : Ct G yX8_goes cX8_goes 2 none 2 0 0 [.ref m] (MH m ad (XS σ p rd tp wt wn dp td) η0) (re none (MH m ad (XS σ (nx σ p) rd tp wt wn dp td) η0)) := by
  have h := cM_goes (G := G) (η0 := η0) hap (XS σ p rd tp wt wn dp td) hP.1 (tq_b hP hp).1 hP.2
  rw [show setTok (XS σ p rd tp wt wn dp td) (tk (gA (XS σ p rd tp wt wn dp td) 17) (gN (XS σ p rd tp wt wn dp td) 21) (gN (XS σ p rd tp wt wn dp td) 22)) = XS σ (nx σ p) rd tp wt wn dp td from XS_tok σ p (nx σ p) rd tp wt wn dp td] at h
  exact h
theorem cM_putsX {G : Gl} {m : Nat} {ad : Nat → Nat} {η0 : AH} (hap : Mp m ad) (σ : MS) (p : Nat) (rd : Nat → Nat) (tp : Nat) (wt : Nat → Nat) (wn dp : Nat) (td : Nat → Nat) (v : Nat) (h : tp < 1200) : Ct G yX8_puts cX8_puts 2 none 1 0 0 [.ref m, .int (nI v)] (MH m ad (XS σ p rd tp wt wn dp td) η0) (re none (MH m ad (XS σ p (va_up rd tp v) (tp + 1) wt wn dp td) η0)) := by
  have h := cM_puts (G := G) (η0 := η0) hap (XS σ p rd tp wt wn dp td) v h
  rw [show sN (sA (XS σ p rd tp wt wn dp td) 46 (gN (XS σ p rd tp wt wn dp td) 34) v) 34 (gN (XS σ p rd tp wt wn dp td) 34 + 1) = _ from XS_puts σ p rd tp wt wn dp td v] at h
  exact h
theorem cM_waitX {G : Gl} {m : Nat} {ad : Nat → Nat} {η0 : AH} (hap : Mp m ad) (σ : MS) (p : Nat) (rd : Nat → Nat) (tp : Nat) (wt : Nat → Nat) (wn dp : Nat) (td : Nat → Nat) (v : Nat) (h : wn < 720) : Ct G yX8_waitsFor cX8_waitsFor 2 none 1 0 0 [.ref m, .int (nI v)] (MH m ad (XS σ p rd tp wt wn dp td) η0) (re none (MH m ad (XS σ p rd tp (va_up wt wn v) (wn + 1) dp td) η0)) := by
  have h := cM_waitsFor (G := G) (η0 := η0) hap (XS σ p rd tp wt wn dp td) v h
  rw [show sN (sA (XS σ p rd tp wt wn dp td) 47 (gN (XS σ p rd tp wt wn dp td) 35) v) 35 (gN (XS σ p rd tp wt wn dp td) 35 + 1) = _ from XS_wait σ p rd tp wt wn dp td v] at h
  exact h
theorem cM_signX {G : Gl} {m : Nat} {ad : Nat → Nat} {η0 : AH} (hap : Mp m ad) (σ : MS) (hP : PO σ) (p : Nat) (hp : p ≤ gN σ 21) (rd : Nat → Nat) (tp : Nat) (wt : Nat → Nat) (wn dp : Nat) (td : Nat → Nat) (c : Nat) (hc : c < 2147483648) : Ct G yX8_isSign cX8_isSign 2 (some .boolean) 1 0 0 [.ref m, .int (nI c)] (MH m ad (XS σ p rd tp wt wn dp td) η0) (re (some (.int (nI (if isS (tq σ p) c then 1 else 0)))) (MH m ad (XS σ p rd tp wt wn dp td) η0)) := by
  obtain ⟨b22, b23, b24, b25, b26, b27, b28⟩ := tq_b hP hp
  exact cM_isSign (G := G) (η0 := η0) hap (XS σ p rd tp wt wn dp td) c hc (show tq σ p 23 < _ by omega) (show tq σ p 27 < _ by omega)
theorem cM_signY {G : Gl} {m : Nat} {ad : Nat → Nat} {η0 : AH} (hap : Mp m ad) (σ : MS) (hP : PO σ) (p : Nat) (hp : p ≤ gN σ 21) (rd : Nat → Nat) (tp : Nat) (wt : Nat → Nat) (wn dp : Nat) (td : Nat → Nat) (c : Nat) (hc : c < 2147483648) (h : isS (tq σ p) c) : Ct G yX8_isSign cX8_isSign 2 (some .boolean) 1 0 0 [.ref m, .int (nI c)] (MH m ad (XS σ p rd tp wt wn dp td) η0) (re (some (.int (nI 1))) (MH m ad (XS σ p rd tp wt wn dp td) η0)) := by
  have h1 := cM_signX (G := G) (η0 := η0) hap σ hP p hp rd tp wt wn dp td c hc
  rw [if_pos h] at h1
  exact h1
theorem cM_signN {G : Gl} {m : Nat} {ad : Nat → Nat} {η0 : AH} (hap : Mp m ad) (σ : MS) (hP : PO σ) (p : Nat) (hp : p ≤ gN σ 21) (rd : Nat → Nat) (tp : Nat) (wt : Nat → Nat) (wn dp : Nat) (td : Nat → Nat) (c : Nat) (hc : c < 2147483648) (h : ¬ isS (tq σ p) c) : Ct G yX8_isSign cX8_isSign 2 (some .boolean) 1 0 0 [.ref m, .int (nI c)] (MH m ad (XS σ p rd tp wt wn dp td) η0) (re (some (.int (nI 0))) (MH m ad (XS σ p rd tp wt wn dp td) η0)) := by
  have h1 := cM_signX (G := G) (η0 := η0) hap σ hP p hp rd tp wt wn dp td c hc
  rw [if_neg h] at h1
  exact h1
theorem cM_kwX {G : Gl} {m : Nat} {ad : Nat → Nat} {η0 : AH} (hap : Mp m ad) (σ : MS) (hP : PO σ) (p : Nat) (hp : p ≤ gN σ 21) (rd : Nat → Nat) (tp : Nat) (wt : Nat → Nat) (wn dp : Nat) (td : Nat → Nat) : Ct G yX8_knownWord cX8_knownWord 2 (some .int) 3 0 0 [.ref m] (MH m ad (XS σ p rd tp wt wn dp td) η0) (re (some (.int (oI (kwT (tq σ p))))) (MH m ad (XS σ p rd tp wt wn dp td) η0)) := by
  obtain ⟨b22, b23, b24, b25, b26, b27, b28⟩ := tq_b hP hp
  exact cM_knownWord (G := G) (η0 := η0) hap (XS σ p rd tp wt wn dp td) (show tq σ p 23 < _ by omega) (show tq σ p 25 < _ by omega) b28
theorem cM_wrongX {G : Gl} {m : Nat} {ad : Nat → Nat} {η0 : AH} (hap : Mp m ad) (σ : MS) (p : Nat) (hg : gN σ 19 = 0) (rd : Nat → Nat) (tp : Nat) (wt : Nat → Nat) (wn dp : Nat) (td : Nat → Nat) (k : Nat) : Ct G yX8_wrong cX8_wrong 2 none 1 0 0 [.ref m, .int (nI k)] (MH m ad (XS σ p rd tp wt wn dp td) η0) (re none (MH m ad (XS (flt σ k (tq σ p 24)) p rd tp wt wn dp td) η0)) := by
  have h := cM_wrongG (G := G) (η0 := η0) hap (XS σ p rd tp wt wn dp td) k hg
  rw [show flt (XS σ p rd tp wt wn dp td) k (gN (XS σ p rd tp wt wn dp td) 24) = _ from flt_XS σ p rd tp wt wn dp td k (tq σ p 24)] at h
  exact h
theorem oI_100 (n : Nat) : nI 100 + oI n = nI (99 + n) := by
  cases n with
  | zero => decide
  | succ k =>
    show nI 100 + nI k = _
    rw [nI_add]
    exact congrArg nI (by omega)
theorem oI_w (n : Nat) : oI n = nI (if n = 0 then 4294967295 else n - 1) := by
  cases n with
  | zero => decide
  | succ k => rfl
theorem tq_w {σ : MS} {p : Nat} (h : tq σ p 23 = 1) : 1 ≤ tq σ p 25 := by
  unfold tq tk at h ⊢
  split at h
  · simp [tF] at h
  · next h1 =>
    rw [if_neg h1]
    split at h
    · next h2 =>
      rw [if_pos h2]
      have h3 := lend_st (gA σ 17) (gN σ 21) h2
      have h4 := bB_lt (show 0 < bB (gA σ 17) (gN σ 21) (skp (gA σ 17) (gN σ 21) p) by omega)
      have h5 := lend_le (tp := gA σ 17) (show skp (gA σ 17) (gN σ 21) p + 1 ≤ gN σ 21 by omega)
      show 1 ≤ lend _ _ _ - _
      omega
    · split at h
      · simp [tF] at h
      · have h : (if isG (bB (gA σ 17) (gN σ 21) (skp (gA σ 17) (gN σ 21) p)) then 3 else 4) = 1 := h
        split at h
        · cases h
        · cases h
theorem cM_part {G : Gl} {m : Nat} {ad : Nat → Nat} {η0 : AH} (hap : Mp m ad) (σ : MS) (hP : PO σ) (p : Nat) (hp : p ≤ gN σ 21) (hg : gN σ 19 = 0) (rd : Nat → Nat) (tp : Nat) (wt : Nat → Nat) (wn dp : Nat) (td : Nat → Nat) (htp : tp + 2 ≤ 1200) (hT : gN σ 30 ≤ 8) (hl : ∀ t, t < 8 → gA σ 40 t < 2147483648) : Ct G yX8_part cX8_part 3 none 4 0 0 [.ref m] (MH m ad (XS σ p rd tp wt wn dp td) η0) (rv fun η => (∀ c, partC (tq σ) (gA σ 40) (gN σ 30) p = .ok c → η = MH m ad (XS σ (nx σ p) (va_up (va_up rd tp c.1) (tp + 1) c.2) (tp + 2) wt wn dp td) η0) ∧ ∀ k q, partC (tq σ) (gA σ 40) (gN σ 30) p = .error (k, q) → q = p ∧ k < 2147483648 ∧ ¬ k = 0 ∧ ∃ rd2 tp2, tp2 ≤ tp + 2 ∧ η = MH m ad (XS (flt σ k (tq σ p 24)) p rd2 tp2 wt wn dp td) η0) := by
  refine Ct.start rfl rfl (Nat.le_of_ble_eq_true rfl) (fun Γ => ?_)
  obtain ⟨b22, b23, b24, b25, b26, b27, b28⟩ := tq_b hP hp
  have bk := kwT_le (tq σ p)
  have bl : tq σ p 23 = 1 → 1 ≤ tq σ p 25 := tq_w
  have bn := nmF_le (gA σ 40) (tq σ p 27) (gN σ 30) 0
  have L98 : ∀ b : Nat, tq σ p 23 = 1 → ¬ tq σ p 23 = 2 → ((b = 1 ∧ isVW (kwT (tq σ p))) ∨ (b = 0 ∧ ¬ isVW (kwT (tq σ p)))) → V G Γ yX8_part cX8_part 3 none [] 4 (rv fun η => (∀ c, partC (tq σ) (gA σ 40) (gN σ 30) p = .ok c → η = MH m ad (XS σ (nx σ p) (va_up (va_up rd tp c.1) (tp + 1) c.2) (tp + 2) wt wn dp td) η0) ∧ ∀ k q, partC (tq σ) (gA σ 40) (gN σ 30) p = .error (k, q) → q = p ∧ k < 2147483648 ∧ ¬ k = 0 ∧ ∃ rd2 tp2, tp2 ≤ tp + 2 ∧ η = MH m ad (XS (flt σ k (tq σ p 24)) p rd2 tp2 wt wn dp td) η0) 0 0 (MH m ad (XS σ p rd tp wt wn dp td) η0) 98 [some (.ref m), some (.int (oI (kwT (tq σ p)))), none] [.int (nI b)] := by
    intro b c50 c13 hb
    refine v_istore_n (i := 2) dX8_part_98 rfl (by decide) rfl ?_
    refine v_aload_n (i := 0) dX8_part_99 rfl rfl ?_
    refine mg_long0 rfl dX8_part_100 ?_
    refine v_iconst (v := nI 1) dX8_part_103 k_iconst_1 ?_
    refine vn_icmp_le (tgt := 116) dX8_part_104 rfl (show tq σ p 25 < _ by omega) (by decide) (fun c104 => ?_) (fun c104 => ?_)
    · have c104 : tq σ p 25 ≤ 1 := c104
      refine v_aload_n (i := 0) dX8_part_116 rfl rfl ?_
      refine mg_long0 rfl dX8_part_117 ?_
      refine v_iconst (v := nI 1) dX8_part_120 k_iconst_1 ?_
      refine vn_icmp_ne (tgt := 141) dX8_part_121 rfl (show tq σ p 25 < _ by omega) (by decide) (fun c121 => ?_) (fun c121 => ?_)
      · exact absurd (show tq σ p 25 = 1 by have := bl c50; omega) c121
      · have c121 : tq σ p 25 = 1 := c121
        refine v_aload_n (i := 0) dX8_part_124 rfl rfl ?_
        refine v_aload_n (i := 0) dX8_part_125 rfl rfl ?_
        refine mg_sign rfl dX8_part_126 ?_
        refine v_callVi (cM_named hap (XS σ p rd tp wt wn dp td) (tq σ p 27) (by omega) hT hl) (lw_V q2249 q2251 qs66 q136 q2252) iX8_named rfl KX8 MH_m rfl rfl (by decide) (by decide) (Nat.le_of_ble_eq_true rfl) dX8_part_129 ?_
        refine v_iconst (v := -1) dX8_part_132 k_iconst_m1 ?_
        refine vo_icmp_ne (tgt := 141) dX8_part_133 rfl (show nmF (gA σ 40) (tq σ p 27) (gN σ 30) 0 < _ by omega) (fun c133 => ?_) (fun c133 => ?_)
        · have c133 : ¬ nmF (gA σ 40) (tq σ p 27) (gN σ 30) 0 = 0 := c133
          refine v_aload_n (i := 0) dX8_part_141 rfl rfl ?_
          refine v_iconst (v := nI 2) dX8_part_142 k_iconst_2 ?_
          refine v_callVv (cM_putsX hap σ p rd tp wt wn dp td 2 (by omega)) (lw_V q2297 q2299 qs78 q136 q2300) iX8_puts rfl KX8 MH_m rfl rfl (by decide) (by decide) (Nat.le_of_ble_eq_true rfl) dX8_part_143 ?_
          refine v_aload_n (i := 0) dX8_part_146 rfl rfl ?_
          refine v_aload_n (i := 0) dX8_part_147 rfl rfl ?_
          refine mg_long0 rfl dX8_part_148 ?_
          refine v_iconst (v := nI 1) dX8_part_151 k_iconst_1 ?_
          refine vn_icmp_ne (tgt := 166) dX8_part_152 rfl (show tq σ p 25 < _ by omega) (by decide) (fun c152 => ?_) (fun c152 => ?_)
          · exact absurd (show tq σ p 25 = 1 by have := bl c50; omega) c152
          · have c152 : tq σ p 25 = 1 := c152
            refine v_aload_n (i := 0) dX8_part_155 rfl rfl ?_
            refine v_aload_n (i := 0) dX8_part_156 rfl rfl ?_
            refine mg_sign rfl dX8_part_157 ?_
            refine v_callVi (cM_named hap (XS σ p (va_up rd tp 2) (tp + 1) wt wn dp td) (tq σ p 27) (by omega) hT hl) (lw_V q2249 q2251 qs66 q136 q2252) iX8_named rfl KX8 MH_m rfl rfl (by decide) (by decide) (Nat.le_of_ble_eq_true rfl) dX8_part_160 ?_
            refine v_top (oI_w _) ?_
            refine v_goto (tgt := 170) dX8_part_163 rfl ?_
            refine v_callVv (cM_putsX hap σ p (va_up rd tp 2) (tp + 1) wt wn dp td (if nmF (gA σ 40) (tq σ p 27) (gN σ 30) 0 = 0 then 4294967295 else nmF (gA σ 40) (tq σ p 27) (gN σ 30) 0 - 1) (by omega)) (lw_V q2297 q2299 qs78 q136 q2300) iX8_puts rfl KX8 MH_m rfl rfl (by decide) (by decide) (Nat.le_of_ble_eq_true rfl) dX8_part_170 ?_
            refine v_goto (tgt := 181) dX8_part_173 rfl ?_
            refine v_aload_n (i := 0) dX8_part_181 rfl rfl ?_
            refine v_callVi (cM_goodG hap (XS σ p (va_up (va_up rd tp 2) (tp + 1) (if nmF (gA σ 40) (tq σ p 27) (gN σ 30) 0 = 0 then 4294967295 else nmF (gA σ 40) (tq σ p 27) (gN σ 30) 0 - 1)) (tp + 2) wt wn dp td) hg) (lw_V q2229 q2231 qs61 q136 q2232) iX8_isGood rfl KX8 MH_m rfl rfl (by decide) (by decide) (Nat.le_of_ble_eq_true rfl) dX8_part_182 ?_
            refine vn_if_eq (tgt := 192) dX8_part_185 rfl (by decide) (fun c185 => ?_) (fun c185 => ?_)
            · exact absurd c185 (by decide)
            · refine v_aload_n (i := 0) dX8_part_188 rfl rfl ?_
              refine v_callVv (cM_goesX hap σ hP p hp (va_up (va_up rd tp 2) (tp + 1) (if nmF (gA σ 40) (tq σ p 27) (gN σ 30) 0 = 0 then 4294967295 else nmF (gA σ 40) (tq σ p 27) (gN σ 30) 0 - 1)) (tp + 2) wt wn dp td) (lw_V q2201 q2203 qs57 q136 q2204) iX8_goes rfl KX8 MH_m rfl rfl (by decide) (by decide) (Nat.le_of_ble_eq_true rfl) dX8_part_189 ?_
              exact v_vret rfl dX8_part_192 (by
                  have E : partC (tq σ) (gA σ 40) (gN σ 30) p = .ok (2, nmF (gA σ 40) (tq σ p 27) (gN σ 30) 0 - 1) := by unfold partC; rw [if_neg c13, if_pos c50, if_pos c121, if_neg c133]
                  exact ⟨rfl, fun c e => (by rw [E] at e; cases e; rw [if_neg c133]), fun k q e => (by rw [E] at e; cases e)⟩)
        · have c133 : nmF (gA σ 40) (tq σ p 27) (gN σ 30) 0 = 0 := c133
          refine v_aload_n (i := 0) dX8_part_136 rfl rfl ?_
          refine v_iconst (v := nI 4) dX8_part_137 k_iconst_4 ?_
          refine v_callVv (cM_wrongX hap σ p hg rd tp wt wn dp td 4) (lw_V q2233 q2235 qs62 q136 q2236) iX8_wrong rfl KX8 MH_m rfl rfl (by decide) (by decide) (Nat.le_of_ble_eq_true rfl) dX8_part_138 ?_
          refine v_aload_n (i := 0) dX8_part_141 rfl rfl ?_
          refine v_iconst (v := nI 2) dX8_part_142 k_iconst_2 ?_
          refine v_callVv (cM_putsX hap (flt σ 4 (tq σ p 24)) p rd tp wt wn dp td 2 (by omega)) (lw_V q2297 q2299 qs78 q136 q2300) iX8_puts rfl KX8 MH_m rfl rfl (by decide) (by decide) (Nat.le_of_ble_eq_true rfl) dX8_part_143 ?_
          refine v_aload_n (i := 0) dX8_part_146 rfl rfl ?_
          refine v_aload_n (i := 0) dX8_part_147 rfl rfl ?_
          refine mg_long0 rfl dX8_part_148 ?_
          refine v_iconst (v := nI 1) dX8_part_151 k_iconst_1 ?_
          refine vn_icmp_ne (tgt := 166) dX8_part_152 rfl (show tq σ p 25 < _ by omega) (by decide) (fun c152 => ?_) (fun c152 => ?_)
          · exact absurd (show tq σ p 25 = 1 by have := bl c50; omega) c152
          · have c152 : tq σ p 25 = 1 := c152
            refine v_aload_n (i := 0) dX8_part_155 rfl rfl ?_
            refine v_aload_n (i := 0) dX8_part_156 rfl rfl ?_
            refine mg_sign rfl dX8_part_157 ?_
            refine v_callVi (cM_named hap (XS ((flt σ 4 (tq σ p 24))) p (va_up rd tp 2) (tp + 1) wt wn dp td) (tq σ p 27) (by omega) hT hl) (lw_V q2249 q2251 qs66 q136 q2252) iX8_named rfl KX8 MH_m rfl rfl (by decide) (by decide) (Nat.le_of_ble_eq_true rfl) dX8_part_160 ?_
            refine v_top (oI_w _) ?_
            refine v_goto (tgt := 170) dX8_part_163 rfl ?_
            refine v_callVv (cM_putsX hap (flt σ 4 (tq σ p 24)) p (va_up rd tp 2) (tp + 1) wt wn dp td (if nmF (gA σ 40) (tq σ p 27) (gN σ 30) 0 = 0 then 4294967295 else nmF (gA σ 40) (tq σ p 27) (gN σ 30) 0 - 1) (by omega)) (lw_V q2297 q2299 qs78 q136 q2300) iX8_puts rfl KX8 MH_m rfl rfl (by decide) (by decide) (Nat.le_of_ble_eq_true rfl) dX8_part_170 ?_
            refine v_goto (tgt := 181) dX8_part_173 rfl ?_
            refine v_aload_n (i := 0) dX8_part_181 rfl rfl ?_
            refine v_callVi (cM_goodB hap (XS ((flt σ 4 (tq σ p 24))) p (va_up (va_up rd tp 2) (tp + 1) (if nmF (gA σ 40) (tq σ p 27) (gN σ 30) 0 = 0 then 4294967295 else nmF (gA σ 40) (tq σ p 27) (gN σ 30) 0 - 1)) (tp + 2) wt wn dp td) (show ¬ 4 = 0 by decide) (show 4 < 2147483648 by decide)) (lw_V q2229 q2231 qs61 q136 q2232) iX8_isGood rfl KX8 MH_m rfl rfl (by decide) (by decide) (Nat.le_of_ble_eq_true rfl) dX8_part_182 ?_
            refine vn_if_eq (tgt := 192) dX8_part_185 rfl (by decide) (fun c185 => ?_) (fun c185 => ?_)
            · exact v_vret rfl dX8_part_192 (by
                  have E : partC (tq σ) (gA σ 40) (gN σ 30) p = .error (4, p) := by unfold partC; rw [if_neg c13, if_pos c50, if_pos c121, if_pos c133]
                  exact ⟨rfl, fun c e => (by rw [E] at e; cases e), fun k q e => (by rw [E] at e; cases e; exact ⟨rfl, by decide, by decide, _, tp + 2, Nat.le_refl _, rfl⟩)⟩)
            · exact absurd rfl c185
    · have c104 : 1 < tq σ p 25 := c104
      refine v_iload_n (i := 2) dX8_part_107 rfl rfl ?_
      refine vn_if_ne (tgt := 116) dX8_part_108 rfl (by omega) (fun c108 => ?_) (fun c108 => ?_)
      · refine v_aload_n (i := 0) dX8_part_116 rfl rfl ?_
        refine mg_long0 rfl dX8_part_117 ?_
        refine v_iconst (v := nI 1) dX8_part_120 k_iconst_1 ?_
        refine vn_icmp_ne (tgt := 141) dX8_part_121 rfl (show tq σ p 25 < _ by omega) (by decide) (fun c121 => ?_) (fun c121 => ?_)
        · have c121 : ¬ tq σ p 25 = 1 := c121
          refine v_aload_n (i := 0) dX8_part_141 rfl rfl ?_
          refine v_iconst (v := nI 2) dX8_part_142 k_iconst_2 ?_
          refine v_callVv (cM_putsX hap σ p rd tp wt wn dp td 2 (by omega)) (lw_V q2297 q2299 qs78 q136 q2300) iX8_puts rfl KX8 MH_m rfl rfl (by decide) (by decide) (Nat.le_of_ble_eq_true rfl) dX8_part_143 ?_
          refine v_aload_n (i := 0) dX8_part_146 rfl rfl ?_
          refine v_aload_n (i := 0) dX8_part_147 rfl rfl ?_
          refine mg_long0 rfl dX8_part_148 ?_
          refine v_iconst (v := nI 1) dX8_part_151 k_iconst_1 ?_
          refine vn_icmp_ne (tgt := 166) dX8_part_152 rfl (show tq σ p 25 < _ by omega) (by decide) (fun c152 => ?_) (fun c152 => ?_)
          · have c152 : ¬ tq σ p 25 = 1 := c152
            refine v_bipush (v := nI 100) dX8_part_166 k_bipush_100 ?_
            refine v_iload_n (i := 1) dX8_part_168 rfl rfl ?_
            refine v_iadd dX8_part_169 ?_
            refine v_top (oI_100 _) ?_
            refine v_callVv (cM_putsX hap σ p (va_up rd tp 2) (tp + 1) wt wn dp td (99 + kwT (tq σ p)) (by omega)) (lw_V q2297 q2299 qs78 q136 q2300) iX8_puts rfl KX8 MH_m rfl rfl (by decide) (by decide) (Nat.le_of_ble_eq_true rfl) dX8_part_170 ?_
            refine v_goto (tgt := 181) dX8_part_173 rfl ?_
            refine v_aload_n (i := 0) dX8_part_181 rfl rfl ?_
            refine v_callVi (cM_goodG hap (XS σ p (va_up (va_up rd tp 2) (tp + 1) (99 + kwT (tq σ p))) (tp + 2) wt wn dp td) hg) (lw_V q2229 q2231 qs61 q136 q2232) iX8_isGood rfl KX8 MH_m rfl rfl (by decide) (by decide) (Nat.le_of_ble_eq_true rfl) dX8_part_182 ?_
            refine vn_if_eq (tgt := 192) dX8_part_185 rfl (by decide) (fun c185 => ?_) (fun c185 => ?_)
            · exact absurd c185 (by decide)
            · refine v_aload_n (i := 0) dX8_part_188 rfl rfl ?_
              refine v_callVv (cM_goesX hap σ hP p hp (va_up (va_up rd tp 2) (tp + 1) (99 + kwT (tq σ p))) (tp + 2) wt wn dp td) (lw_V q2201 q2203 qs57 q136 q2204) iX8_goes rfl KX8 MH_m rfl rfl (by decide) (by decide) (Nat.le_of_ble_eq_true rfl) dX8_part_189 ?_
              exact v_vret rfl dX8_part_192 (by
                  have hvw : isVW (kwT (tq σ p)) := by omega
                  have E : partC (tq σ) (gA σ 40) (gN σ 30) p = .ok (2, 99 + kwT (tq σ p)) := by unfold partC; rw [if_neg c13, if_pos c50, if_neg c121, if_pos hvw]
                  exact ⟨rfl, fun c e => (by rw [E] at e; cases e; rfl), fun k q e => (by rw [E] at e; cases e)⟩)
          · exact absurd (show tq σ p 25 = 1 from c152) (by omega)
        · exact absurd (show tq σ p 25 = 1 from c121) (by omega)
      · refine v_aload_n (i := 0) dX8_part_111 rfl rfl ?_
        refine v_iconst (v := nI 3) dX8_part_112 k_iconst_3 ?_
        refine v_callVv (cM_wrongX hap σ p hg rd tp wt wn dp td 3) (lw_V q2233 q2235 qs62 q136 q2236) iX8_wrong rfl KX8 MH_m rfl rfl (by decide) (by decide) (Nat.le_of_ble_eq_true rfl) dX8_part_113 ?_
        refine v_aload_n (i := 0) dX8_part_116 rfl rfl ?_
        refine mg_long0 rfl dX8_part_117 ?_
        refine v_iconst (v := nI 1) dX8_part_120 k_iconst_1 ?_
        refine vn_icmp_ne (tgt := 141) dX8_part_121 rfl (show tq σ p 25 < _ by omega) (by decide) (fun c121 => ?_) (fun c121 => ?_)
        · have c121 : ¬ tq σ p 25 = 1 := c121
          refine v_aload_n (i := 0) dX8_part_141 rfl rfl ?_
          refine v_iconst (v := nI 2) dX8_part_142 k_iconst_2 ?_
          refine v_callVv (cM_putsX hap (flt σ 3 (tq σ p 24)) p rd tp wt wn dp td 2 (by omega)) (lw_V q2297 q2299 qs78 q136 q2300) iX8_puts rfl KX8 MH_m rfl rfl (by decide) (by decide) (Nat.le_of_ble_eq_true rfl) dX8_part_143 ?_
          refine v_aload_n (i := 0) dX8_part_146 rfl rfl ?_
          refine v_aload_n (i := 0) dX8_part_147 rfl rfl ?_
          refine mg_long0 rfl dX8_part_148 ?_
          refine v_iconst (v := nI 1) dX8_part_151 k_iconst_1 ?_
          refine vn_icmp_ne (tgt := 166) dX8_part_152 rfl (show tq σ p 25 < _ by omega) (by decide) (fun c152 => ?_) (fun c152 => ?_)
          · have c152 : ¬ tq σ p 25 = 1 := c152
            refine v_bipush (v := nI 100) dX8_part_166 k_bipush_100 ?_
            refine v_iload_n (i := 1) dX8_part_168 rfl rfl ?_
            refine v_iadd dX8_part_169 ?_
            refine v_top (oI_100 _) ?_
            refine v_callVv (cM_putsX hap (flt σ 3 (tq σ p 24)) p (va_up rd tp 2) (tp + 1) wt wn dp td (99 + kwT (tq σ p)) (by omega)) (lw_V q2297 q2299 qs78 q136 q2300) iX8_puts rfl KX8 MH_m rfl rfl (by decide) (by decide) (Nat.le_of_ble_eq_true rfl) dX8_part_170 ?_
            refine v_goto (tgt := 181) dX8_part_173 rfl ?_
            refine v_aload_n (i := 0) dX8_part_181 rfl rfl ?_
            refine v_callVi (cM_goodB hap (XS ((flt σ 3 (tq σ p 24))) p (va_up (va_up rd tp 2) (tp + 1) (99 + kwT (tq σ p))) (tp + 2) wt wn dp td) (show ¬ 3 = 0 by decide) (show 3 < 2147483648 by decide)) (lw_V q2229 q2231 qs61 q136 q2232) iX8_isGood rfl KX8 MH_m rfl rfl (by decide) (by decide) (Nat.le_of_ble_eq_true rfl) dX8_part_182 ?_
            refine vn_if_eq (tgt := 192) dX8_part_185 rfl (by decide) (fun c185 => ?_) (fun c185 => ?_)
            · exact v_vret rfl dX8_part_192 (by
                  have hvw : ¬ isVW (kwT (tq σ p)) := by omega
                  have E : partC (tq σ) (gA σ 40) (gN σ 30) p = .error (3, p) := by unfold partC; rw [if_neg c13, if_pos c50, if_neg c121, if_neg hvw]
                  exact ⟨rfl, fun c e => (by rw [E] at e; cases e), fun k q e => (by rw [E] at e; cases e; exact ⟨rfl, by decide, by decide, _, tp + 2, Nat.le_refl _, rfl⟩)⟩)
            · exact absurd rfl c185
          · exact absurd (show tq σ p 25 = 1 from c152) (by omega)
        · exact absurd (show tq σ p 25 = 1 from c121) (by omega)
  refine v_aload_n (i := 0) dX8_part_0 rfl rfl ?_
  refine v_callVi (cM_goodG hap (XS σ p rd tp wt wn dp td) hg) (lw_V q2229 q2231 qs61 q136 q2232) iX8_isGood rfl KX8 MH_m rfl rfl (by decide) (by decide) (Nat.le_of_ble_eq_true rfl) dX8_part_1 ?_
  refine vn_if_ne (tgt := 8) dX8_part_4 rfl (by decide) (fun c4 => ?_) (fun c4 => ?_)
  · refine v_aload_n (i := 0) dX8_part_8 rfl rfl ?_
    refine mg_sort rfl dX8_part_9 ?_
    refine v_iconst (v := nI 2) dX8_part_12 k_iconst_2 ?_
    refine vn_icmp_ne (tgt := 45) dX8_part_13 rfl (show tq σ p 23 < _ by omega) (by decide) (fun c13 => ?_) (fun c13 => ?_)
    · have c13 : ¬ tq σ p 23 = 2 := c13
      refine v_aload_n (i := 0) dX8_part_45 rfl rfl ?_
      refine mg_sort rfl dX8_part_46 ?_
      refine v_iconst (v := nI 1) dX8_part_49 k_iconst_1 ?_
      refine vn_icmp_ne (tgt := 176) dX8_part_50 rfl (show tq σ p 23 < _ by omega) (by decide) (fun c50 => ?_) (fun c50 => ?_)
      · have c50 : ¬ tq σ p 23 = 1 := c50
        refine v_aload_n (i := 0) dX8_part_176 rfl rfl ?_
        refine v_iconst (v := nI 1) dX8_part_177 k_iconst_1 ?_
        refine v_callVv (cM_wrongX hap σ p hg rd tp wt wn dp td 1) (lw_V q2233 q2235 qs62 q136 q2236) iX8_wrong rfl KX8 MH_m rfl rfl (by decide) (by decide) (Nat.le_of_ble_eq_true rfl) dX8_part_178 ?_
        refine v_aload_n (i := 0) dX8_part_181 rfl rfl ?_
        refine v_callVi (cM_goodB hap (XS ((flt σ 1 (tq σ p 24))) p rd tp wt wn dp td) (show ¬ 1 = 0 by decide) (show 1 < 2147483648 by decide)) (lw_V q2229 q2231 qs61 q136 q2232) iX8_isGood rfl KX8 MH_m rfl rfl (by decide) (by decide) (Nat.le_of_ble_eq_true rfl) dX8_part_182 ?_
        refine vn_if_eq (tgt := 192) dX8_part_185 rfl (by decide) (fun c185 => ?_) (fun c185 => ?_)
        · exact v_vret rfl dX8_part_192 (by
              have E : partC (tq σ) (gA σ 40) (gN σ 30) p = .error (1, p) := by unfold partC; rw [if_neg c13, if_neg c50]
              exact ⟨rfl, fun c e => (by rw [E] at e; cases e), fun k q e => (by rw [E] at e; cases e; exact ⟨rfl, by decide, by decide, rd, tp, by omega, rfl⟩)⟩)
        · exact absurd rfl c185
      · have c50 : tq σ p 23 = 1 := c50
        refine v_aload_n (i := 0) dX8_part_53 rfl rfl ?_
        refine v_callVi (cM_kwX hap σ hP p hp rd tp wt wn dp td) (lw_V q2215 q2217 qs59 q136 q2218) iX8_knownWord rfl KX8 MH_m rfl rfl (by decide) (by decide) (Nat.le_of_ble_eq_true rfl) dX8_part_54 ?_
        refine v_istore_n (i := 1) dX8_part_57 rfl (by decide) rfl ?_
        refine v_iload_n (i := 1) dX8_part_58 rfl rfl ?_
        refine v_bipush (v := nI 17) dX8_part_59 k_bipush_17 ?_
        refine von_icmp_eq (tgt := 93) dX8_part_61 rfl (by omega) (by decide) (fun c61 => ?_) (fun c61 => ?_)
        · refine v_iconst (v := nI 1) dX8_part_93 k_iconst_1 ?_
          refine v_goto (tgt := 98) dX8_part_94 rfl ?_
          exact L98 1 c50 c13 (by unfold isVW; omega)
        · refine v_iload_n (i := 1) dX8_part_64 rfl rfl ?_
          refine v_bipush (v := nI 7) dX8_part_65 k_bipush_7 ?_
          refine von_icmp_eq (tgt := 93) dX8_part_67 rfl (by omega) (by decide) (fun c67 => ?_) (fun c67 => ?_)
          · refine v_iconst (v := nI 1) dX8_part_93 k_iconst_1 ?_
            refine v_goto (tgt := 98) dX8_part_94 rfl ?_
            exact L98 1 c50 c13 (by unfold isVW; omega)
          · refine v_iload_n (i := 1) dX8_part_70 rfl rfl ?_
            refine v_bipush (v := nI 18) dX8_part_71 k_bipush_18 ?_
            refine von_icmp_eq (tgt := 93) dX8_part_73 rfl (by omega) (by decide) (fun c73 => ?_) (fun c73 => ?_)
            · refine v_iconst (v := nI 1) dX8_part_93 k_iconst_1 ?_
              refine v_goto (tgt := 98) dX8_part_94 rfl ?_
              exact L98 1 c50 c13 (by unfold isVW; omega)
            · refine v_iload_n (i := 1) dX8_part_76 rfl rfl ?_
              refine v_bipush (v := nI 19) dX8_part_77 k_bipush_19 ?_
              refine von_icmp_eq (tgt := 93) dX8_part_79 rfl (by omega) (by decide) (fun c79 => ?_) (fun c79 => ?_)
              · refine v_iconst (v := nI 1) dX8_part_93 k_iconst_1 ?_
                refine v_goto (tgt := 98) dX8_part_94 rfl ?_
                exact L98 1 c50 c13 (by unfold isVW; omega)
              · refine v_iload_n (i := 1) dX8_part_82 rfl rfl ?_
                refine v_iconst (v := nI 5) dX8_part_83 k_iconst_5 ?_
                refine von_icmp_eq (tgt := 93) dX8_part_84 rfl (by omega) (by decide) (fun c84 => ?_) (fun c84 => ?_)
                · refine v_iconst (v := nI 1) dX8_part_93 k_iconst_1 ?_
                  refine v_goto (tgt := 98) dX8_part_94 rfl ?_
                  exact L98 1 c50 c13 (by unfold isVW; omega)
                · refine v_iload_n (i := 1) dX8_part_87 rfl rfl ?_
                  refine v_bipush (v := nI 20) dX8_part_88 k_bipush_20 ?_
                  refine von_icmp_ne (tgt := 97) dX8_part_90 rfl (by omega) (by decide) (fun c90 => ?_) (fun c90 => ?_)
                  · refine v_iconst (v := nI 0) dX8_part_97 k_iconst_0 ?_
                    exact L98 0 c50 c13 (by unfold isVW; omega)
                  · refine v_iconst (v := nI 1) dX8_part_93 k_iconst_1 ?_
                    refine v_goto (tgt := 98) dX8_part_94 rfl ?_
                    exact L98 1 c50 c13 (by unfold isVW; omega)
    · have c13 : tq σ p 23 = 2 := c13
      refine v_aload_n (i := 0) dX8_part_16 rfl rfl ?_
      refine mg_long0 rfl dX8_part_17 ?_
      refine v_iconst (v := nI 3) dX8_part_20 k_iconst_3 ?_
      refine vn_icmp_le (tgt := 29) dX8_part_21 rfl (show tq σ p 25 < _ by omega) (by decide) (fun c21 => ?_) (fun c21 => ?_)
      · have c21 : tq σ p 25 ≤ 3 := c21
        refine v_aload_n (i := 0) dX8_part_29 rfl rfl ?_
        refine v_iconst (v := nI 1) dX8_part_30 k_iconst_1 ?_
        refine v_callVv (cM_putsX hap σ p rd tp wt wn dp td 1 (by omega)) (lw_V q2297 q2299 qs78 q136 q2300) iX8_puts rfl KX8 MH_m rfl rfl (by decide) (by decide) (Nat.le_of_ble_eq_true rfl) dX8_part_31 ?_
        refine v_aload_n (i := 0) dX8_part_34 rfl rfl ?_
        refine v_aload_n (i := 0) dX8_part_35 rfl rfl ?_
        refine mg_value rfl dX8_part_36 ?_
        refine v_callVv (cM_putsX hap σ p (va_up rd tp 1) (tp + 1) wt wn dp td (tq σ p 26) (by omega)) (lw_V q2297 q2299 qs78 q136 q2300) iX8_puts rfl KX8 MH_m rfl rfl (by decide) (by decide) (Nat.le_of_ble_eq_true rfl) dX8_part_39 ?_
        refine v_goto (tgt := 181) dX8_part_42 rfl ?_
        refine v_aload_n (i := 0) dX8_part_181 rfl rfl ?_
        refine v_callVi (cM_goodG hap (XS σ p (va_up (va_up rd tp 1) (tp + 1) (tq σ p 26)) (tp + 2) wt wn dp td) hg) (lw_V q2229 q2231 qs61 q136 q2232) iX8_isGood rfl KX8 MH_m rfl rfl (by decide) (by decide) (Nat.le_of_ble_eq_true rfl) dX8_part_182 ?_
        refine vn_if_eq (tgt := 192) dX8_part_185 rfl (by decide) (fun c185 => ?_) (fun c185 => ?_)
        · exact absurd c185 (by decide)
        · refine v_aload_n (i := 0) dX8_part_188 rfl rfl ?_
          refine v_callVv (cM_goesX hap σ hP p hp (va_up (va_up rd tp 1) (tp + 1) (tq σ p 26)) (tp + 2) wt wn dp td) (lw_V q2201 q2203 qs57 q136 q2204) iX8_goes rfl KX8 MH_m rfl rfl (by decide) (by decide) (Nat.le_of_ble_eq_true rfl) dX8_part_189 ?_
          exact v_vret rfl dX8_part_192 (by
              have E : partC (tq σ) (gA σ 40) (gN σ 30) p = .ok (1, tq σ p 26) := by unfold partC; rw [if_pos c13, if_neg (by omega)]
              exact ⟨rfl, fun c e => (by rw [E] at e; cases e; rfl), fun k q e => (by rw [E] at e; cases e)⟩)
      · have c21 : 3 < tq σ p 25 := c21
        refine v_aload_n (i := 0) dX8_part_24 rfl rfl ?_
        refine v_iconst (v := nI 2) dX8_part_25 k_iconst_2 ?_
        refine v_callVv (cM_wrongX hap σ p hg rd tp wt wn dp td 2) (lw_V q2233 q2235 qs62 q136 q2236) iX8_wrong rfl KX8 MH_m rfl rfl (by decide) (by decide) (Nat.le_of_ble_eq_true rfl) dX8_part_26 ?_
        refine v_aload_n (i := 0) dX8_part_29 rfl rfl ?_
        refine v_iconst (v := nI 1) dX8_part_30 k_iconst_1 ?_
        refine v_callVv (cM_putsX hap (flt σ 2 (tq σ p 24)) p rd tp wt wn dp td 1 (by omega)) (lw_V q2297 q2299 qs78 q136 q2300) iX8_puts rfl KX8 MH_m rfl rfl (by decide) (by decide) (Nat.le_of_ble_eq_true rfl) dX8_part_31 ?_
        refine v_aload_n (i := 0) dX8_part_34 rfl rfl ?_
        refine v_aload_n (i := 0) dX8_part_35 rfl rfl ?_
        refine mg_value rfl dX8_part_36 ?_
        refine v_callVv (cM_putsX hap (flt σ 2 (tq σ p 24)) p (va_up rd tp 1) (tp + 1) wt wn dp td (tq σ p 26) (by omega)) (lw_V q2297 q2299 qs78 q136 q2300) iX8_puts rfl KX8 MH_m rfl rfl (by decide) (by decide) (Nat.le_of_ble_eq_true rfl) dX8_part_39 ?_
        refine v_goto (tgt := 181) dX8_part_42 rfl ?_
        refine v_aload_n (i := 0) dX8_part_181 rfl rfl ?_
        refine v_callVi (cM_goodB hap (XS ((flt σ 2 (tq σ p 24))) p (va_up (va_up rd tp 1) (tp + 1) (tq σ p 26)) (tp + 2) wt wn dp td) (show ¬ 2 = 0 by decide) (show 2 < 2147483648 by decide)) (lw_V q2229 q2231 qs61 q136 q2232) iX8_isGood rfl KX8 MH_m rfl rfl (by decide) (by decide) (Nat.le_of_ble_eq_true rfl) dX8_part_182 ?_
        refine vn_if_eq (tgt := 192) dX8_part_185 rfl (by decide) (fun c185 => ?_) (fun c185 => ?_)
        · exact v_vret rfl dX8_part_192 (by
              have E : partC (tq σ) (gA σ 40) (gN σ 30) p = .error (2, p) := by unfold partC; rw [if_pos c13, if_pos c21]
              exact ⟨rfl, fun c e => (by rw [E] at e; cases e), fun k q e => (by rw [E] at e; cases e; exact ⟨rfl, by decide, by decide, _, tp + 2, Nat.le_refl _, rfl⟩)⟩)
        · exact absurd rfl c185
  · exact absurd c4 (by decide)
theorem cM_partB {G : Gl} {m : Nat} {ad : Nat → Nat} {η0 : AH} (hap : Mp m ad) (σ : MS) (hg : ¬ gN σ 19 = 0) (hg2 : gN σ 19 < 2147483648) : Ct G yX8_part cX8_part 3 none 4 0 0 [.ref m] (MH m ad (σ) η0) (re none (MH m ad σ η0)) := by
  refine Ct.start rfl rfl (Nat.le_of_ble_eq_true rfl) (fun Γ => ?_)
  refine v_aload_n (i := 0) dX8_part_0 rfl rfl ?_
  refine v_callVi (cM_goodB hap σ hg hg2) (lw_V q2229 q2231 qs61 q136 q2232) iX8_isGood rfl KX8 MH_m rfl rfl (by decide) (by decide) (Nat.le_of_ble_eq_true rfl) dX8_part_1 ?_
  refine vn_if_ne (tgt := 8) dX8_part_4 rfl (by decide) (fun c4 => ?_) (fun c4 => ?_)
  · exact absurd rfl c4
  · exact v_vret rfl dX8_part_7 ⟨rfl, rfl⟩
theorem cM_deeperY {G : Gl} {m : Nat} {ad : Nat → Nat} {η0 : AH} (hap : Mp m ad) (σ : MS) (p : Nat) (rd : Nat → Nat) (tp : Nat) (wt : Nat → Nat) (wn dp : Nat) (td : Nat → Nat) (h : dp < 6) : Ct G yX8_deeper cX8_deeper 1 none 2 0 0 [.ref m] (MH m ad (XS σ p rd tp wt wn dp td) η0) (re none (MH m ad (XS σ p rd tp wt wn (dp + 1) (va_up td (1 + dp) 0)) η0)) := by
  refine Ct.start rfl rfl (Nat.le_of_ble_eq_true rfl) (fun Γ => ?_)
  refine v_aload_n (i := 0) dX8_deeper_0 rfl rfl ?_
  refine mg_depth rfl dX8_deeper_1 ?_
  refine v_bipush (v := nI 6) dX8_deeper_4 k_bipush_6 ?_
  refine vn_icmp_ge (tgt := 30) dX8_deeper_6 rfl (show dp < _ by omega) (by decide) (fun c6 => ?_) (fun c6 => ?_)
  · exact absurd (show 6 ≤ dp from c6) (by omega)
  · refine v_aload_n (i := 0) dX8_deeper_9 rfl rfl ?_
    refine v_dup dX8_deeper_10 rfl ?_
    refine mg_depth rfl dX8_deeper_11 ?_
    refine v_iconst (v := nI 1) dX8_deeper_14 k_iconst_1 ?_
    refine vn_iadd dX8_deeper_15 ?_
    refine mp_depth rfl dX8_deeper_16 ?_
    refine v_aload_n (i := 0) dX8_deeper_19 rfl rfl ?_
    refine mg_tested rfl dX8_deeper_20 ?_
    refine v_aload_n (i := 0) dX8_deeper_23 rfl rfl ?_
    refine mg_depth rfl dX8_deeper_24 ?_
    refine v_iconst (v := nI 0) dX8_deeper_27 k_iconst_0 ?_
    refine ms_tested hap (show dp + 1 < 9 by omega) (by decide) dX8_deeper_28 ?_
    exact v_vret rfl dX8_deeper_29 ⟨rfl, congrArg (fun τ => MH m ad τ η0) (by show sA (sN (XS σ p rd tp wt wn dp td) 36 (dp + 1)) 49 (dp + 1) 0 = _; rw [XS_dp, XS_td, Nat.add_comm dp 1])⟩
theorem cM_deeperN {G : Gl} {m : Nat} {ad : Nat → Nat} {η0 : AH} (hap : Mp m ad) (σ : MS) (hP : PO σ) (p : Nat) (hp : p ≤ gN σ 21) (hg : gN σ 19 = 0) (rd : Nat → Nat) (tp : Nat) (wt : Nat → Nat) (wn dp : Nat) (td : Nat → Nat) (h : dp = 6) : Ct G yX8_deeper cX8_deeper 1 none 2 0 0 [.ref m] (MH m ad (XS σ p rd tp wt wn dp td) η0) (re none (MH m ad (XS (flt σ (if isB (tq σ p) then 2 else 1) (tq σ p 24)) p rd tp wt wn dp td) η0)) := by
  refine Ct.start rfl rfl (Nat.le_of_ble_eq_true rfl) (fun Γ => ?_)
  obtain ⟨b22, b23, b24, b25, b26, b27, b28⟩ := tq_b hP hp
  refine v_aload_n (i := 0) dX8_deeper_0 rfl rfl ?_
  refine mg_depth rfl dX8_deeper_1 ?_
  refine v_bipush (v := nI 6) dX8_deeper_4 k_bipush_6 ?_
  refine vn_icmp_ge (tgt := 30) dX8_deeper_6 rfl (show dp < _ by omega) (by decide) (fun c6 => ?_) (fun c6 => ?_)
  · refine v_aload_n (i := 0) dX8_deeper_30 rfl rfl ?_
    refine v_aload_n (i := 0) dX8_deeper_31 rfl rfl ?_
    refine mg_sort rfl dX8_deeper_32 ?_
    refine v_iconst (v := nI 2) dX8_deeper_35 k_iconst_2 ?_
    refine vn_icmp_eq (tgt := 56) dX8_deeper_36 rfl (show tq σ p 23 < _ by omega) (by decide) (fun c36 => ?_) (fun c36 => ?_)
    · have c36 : tq σ p 23 = 2 := c36
      refine v_iconst (v := nI 2) dX8_deeper_56 k_iconst_2 ?_
      refine v_goto (tgt := 61) dX8_deeper_57 rfl ?_
      refine v_callVv (cM_wrongX hap σ p hg rd tp wt wn dp td 2) (lw_V q2233 q2235 qs62 q136 q2236) iX8_wrong rfl KX8 MH_m rfl rfl (by decide) (by decide) (Nat.le_of_ble_eq_true rfl) dX8_deeper_61 ?_
      exact v_vret rfl dX8_deeper_64 ⟨rfl, by rw [if_pos (Or.inl c36)]⟩
    · have c36 : ¬ tq σ p 23 = 2 := c36
      refine v_aload_n (i := 0) dX8_deeper_39 rfl rfl ?_
      refine mg_sort rfl dX8_deeper_40 ?_
      refine v_iconst (v := nI 1) dX8_deeper_43 k_iconst_1 ?_
      refine vn_icmp_eq (tgt := 56) dX8_deeper_44 rfl (show tq σ p 23 < _ by omega) (by decide) (fun c44 => ?_) (fun c44 => ?_)
      · have c44 : tq σ p 23 = 1 := c44
        refine v_iconst (v := nI 2) dX8_deeper_56 k_iconst_2 ?_
        refine v_goto (tgt := 61) dX8_deeper_57 rfl ?_
        refine v_callVv (cM_wrongX hap σ p hg rd tp wt wn dp td 2) (lw_V q2233 q2235 qs62 q136 q2236) iX8_wrong rfl KX8 MH_m rfl rfl (by decide) (by decide) (Nat.le_of_ble_eq_true rfl) dX8_deeper_61 ?_
        exact v_vret rfl dX8_deeper_64 ⟨rfl, by rw [if_pos (Or.inr (Or.inl c44))]⟩
      · have c44 : ¬ tq σ p 23 = 1 := c44
        refine v_aload_n (i := 0) dX8_deeper_47 rfl rfl ?_
        refine v_bipush (v := nI 40) dX8_deeper_48 k_bipush_40 ?_
        refine v_callVi (cM_signX hap σ hP p hp rd tp wt wn dp td 40 (by decide)) (lw_V q2237 q2239 qs63 q136 q2240) iX8_isSign rfl KX8 MH_m rfl rfl (by decide) (by decide) (Nat.le_of_ble_eq_true rfl) dX8_deeper_50 ?_
        by_cases h50 : isS (tq σ p) 40
        · rw [if_pos h50]
          refine vn_if_eq (tgt := 60) dX8_deeper_53 rfl (by decide) (fun c53 => ?_) (fun c53 => ?_)
          · exact absurd c53 (by decide)
          · refine v_iconst (v := nI 2) dX8_deeper_56 k_iconst_2 ?_
            refine v_goto (tgt := 61) dX8_deeper_57 rfl ?_
            refine v_callVv (cM_wrongX hap σ p hg rd tp wt wn dp td 2) (lw_V q2233 q2235 qs62 q136 q2236) iX8_wrong rfl KX8 MH_m rfl rfl (by decide) (by decide) (Nat.le_of_ble_eq_true rfl) dX8_deeper_61 ?_
            exact v_vret rfl dX8_deeper_64 ⟨rfl, by rw [if_pos (Or.inr (Or.inr h50))]⟩
        · rw [if_neg h50]
          refine vn_if_eq (tgt := 60) dX8_deeper_53 rfl (by decide) (fun c53 => ?_) (fun c53 => ?_)
          · refine v_iconst (v := nI 1) dX8_deeper_60 k_iconst_1 ?_
            refine v_callVv (cM_wrongX hap σ p hg rd tp wt wn dp td 1) (lw_V q2233 q2235 qs62 q136 q2236) iX8_wrong rfl KX8 MH_m rfl rfl (by decide) (by decide) (Nat.le_of_ble_eq_true rfl) dX8_deeper_61 ?_
            exact v_vret rfl dX8_deeper_64 ⟨rfl, by rw [if_neg (fun q => q.elim c36 (fun q => q.elim c44 h50))]⟩
          · exact absurd rfl c53
  · exact absurd (show dp < 6 from c6) (by omega)
def XE (m : Nat) (ad : Nat → Nat) (η0 : AH) (σ : MS) (k q : Nat) (η : AH) : Prop := k < 2147483648 ∧ ¬ k = 0 ∧ q ≤ gN σ 21 ∧ ∃ (rd : Nat → Nat) (tp : Nat) (wt : Nat → Nat) (ops : List Nat) (dp : Nat) (td : Nat → Nat), η = MH m ad (XS (flt σ k (tq σ q 24)) q rd tp wt ops.length dp td) η0 ∧ pN wt 0 ops ∧ (∀ a ∈ ops, a < 13) ∧ tp + ops.length + 1 ≤ 1200 ∧ ops.length ≤ 720
theorem nx_gt {σ : MS} (hP : PO σ) {p : Nat} (hp : p ≤ gN σ 21) (h : ¬ tq σ p 23 = 0) : p < nx σ p := by
  obtain ⟨h1, h2⟩ := skp_le (tp := gA σ 17) hp
  unfold nx tq tk at *
  by_cases c1 : gN σ 21 ≤ skp (gA σ 17) (gN σ 21) p
  · rw [if_pos c1] at h
    exact absurd rfl h
  · rw [if_neg c1]
    by_cases c2 : isL (bB (gA σ 17) (gN σ 21) (skp (gA σ 17) (gN σ 21) p))
    · rw [if_pos c2]
      have h3 := lend_st (gA σ 17) (gN σ 21) c2
      have h5 := lend_le (tp := gA σ 17) (show skp (gA σ 17) (gN σ 21) p + 1 ≤ gN σ 21 by omega)
      show p < lend _ _ _
      omega
    · rw [if_neg c2]
      by_cases c3 : isD (bB (gA σ 17) (gN σ 21) (skp (gA σ 17) (gN σ 21) p))
      · rw [if_pos c3]
        have h3 := dend_st (gA σ 17) (gN σ 21) c3
        have h5 := dend_le (tp := gA σ 17) (show skp (gA σ 17) (gN σ 21) p + 1 ≤ gN σ 21 by omega)
        show p < dend _ _ _
        omega
      · rw [if_neg c3]
        show p < skp _ _ _ + 1
        omega
theorem tq_TKo {σ : MS} (hP : PO σ) : TKo (tq σ) (gN σ 21) := ⟨hP.1, fun _ hp => ⟨(tq_b hP hp).1, nx_gt hP hp⟩⟩
theorem er_of {α : Type} {x : Er α} (h : ¬ ∃ z, x = .ok z) : ∃ k q, x = .error (k, q) := by
  cases x with
  | ok z => exact absurd ⟨z, rfl⟩ h
  | error e => exact ⟨e.1, e.2, rfl⟩
theorem pN_len1 {td : Nat → Nat} {t : Nat} {ts : List Nat} (h : pN td 1 (t :: ts)) : td (ts.length + 1) = t := by rw [Nat.add_comm]; exact h.1
theorem cM_operand {G : Gl} {m : Nat} {ad : Nat → Nat} {η0 : AH} (hap : Mp m ad) (σ : MS) (hP : PO σ) (p : Nat) (hp : p ≤ gN σ 21) (hg : gN σ 19 = 0) (rd : Nat → Nat) (tp : Nat) (wt : Nat → Nat) (ops ts : List Nat) (td : Nat → Nat) (hT : gN σ 30 ≤ 8) (hl : ∀ t, t < 8 → gA σ 40 t < 2147483648) (hw : pN wt 0 ops) (ht : pN td 1 ts) (hts : ts.length ≤ 6) (hop : ops.length ≤ p) (hbd : 2 * (tp + ops.length) ≤ 3 * p) (ho : ∀ a ∈ ops, a < 13) (nt : Nat) (hnt : nt < 2) : Ct G yX8_operand cX8_operand 5 none 5 0 0 [.ref m, .int (nI nt)] (MH m ad (XS σ p rd tp wt (ops.length) (ts.length) td) η0) (rv fun η => (∀ p2 ops2 ts2 c, opd (tq σ) (gA σ 40) (gN σ 30) 701 nt 0 p ops ts = .ok (p2, ops2, ts2, c) → ∃ wt2 td2, pN wt2 0 ops2 ∧ pN td2 1 ts2 ∧ η = MH m ad (XS σ p2 (va_up (va_up rd tp c.1) (tp + 1) c.2) (tp + 2) wt2 (ops2.length) (ts2.length) td2) η0) ∧ ∀ k q, opd (tq σ) (gA σ 40) (gN σ 30) 701 nt 0 p ops ts = .error (k, q) → XE m ad η0 σ k q η) := by
  refine Ct.start rfl rfl (Nat.le_of_ble_eq_true rfl) (fun Γ => ?_)
  generalize hR : opd (tq σ) (gA σ 40) (gN σ 30) 701 nt 0 p ops ts = R
  have hz7 := hP.1
  have LB18 : ∀ (τ : MS) (v4 : Nat), ¬ gN τ 19 = 0 → gN τ 19 < 2147483648 → (∀ k q, R = .error (k, q) → XE m ad η0 σ k q (MH m ad τ η0)) → (∀ z, ¬ R = .ok z) → V G Γ yX8_operand cX8_operand 5 none [] 5 (rv fun η => (∀ p2 ops2 ts2 c, R = .ok (p2, ops2, ts2, c) → ∃ wt2 td2, pN wt2 0 ops2 ∧ pN td2 1 ts2 ∧ η = MH m ad (XS σ p2 (va_up (va_up rd tp c.1) (tp + 1) c.2) (tp + 2) wt2 (ops2.length) (ts2.length) td2) η0) ∧ ∀ k q, R = .error (k, q) → XE m ad η0 σ k q η) 0 0 (MH m ad τ η0) 18 [some (.ref m), some (.int (nI nt)), some (.int (nI 1)), some (.int (nI 1)), some (.int (nI v4))] [] := by
    intro τ v4 g1 g2 g3 g4
    refine v_aload_n (i := 0) dX8_operand_18 rfl rfl ?_
    refine v_callVi (cM_goodB hap τ g1 g2) (lw_V q2229 q2231 qs61 q136 q2232) iX8_isGood rfl KX8 MH_m rfl rfl (by decide) (by decide) (Nat.le_of_ble_eq_true rfl) dX8_operand_19 ?_
    refine vn_if_eq (tgt := 75) dX8_operand_22 rfl (by decide) (fun c22 => ?_) (fun c22 => ?_)
    · refine v_aload_n (i := 0) dX8_operand_75 rfl rfl ?_
      refine v_callVi (cM_goodB hap τ g1 g2) (lw_V q2229 q2231 qs61 q136 q2232) iX8_isGood rfl KX8 MH_m rfl rfl (by decide) (by decide) (Nat.le_of_ble_eq_true rfl) dX8_operand_76 ?_
      refine vn_if_eq (tgt := 95) dX8_operand_79 rfl (by decide) (fun c79 => ?_) (fun c79 => ?_)
      · refine v_iconst (v := nI 0) dX8_operand_95 k_iconst_0 ?_
        refine v_istore_n (i := 3) dX8_operand_96 rfl (by decide) rfl ?_
        refine v_iload_n (i := 3) dX8_operand_97 rfl rfl ?_
        refine vn_if_eq (tgt := 117) dX8_operand_98 rfl (by decide) (fun c98 => ?_) (fun c98 => ?_)
        · refine v_goto (tgt := 4) dX8_operand_117 rfl ?_
          refine v_iload_n (i := 3) dX8_operand_4 rfl rfl ?_
          refine vn_if_eq (tgt := 120) dX8_operand_5 rfl (by decide) (fun c5 => ?_) (fun c5 => ?_)
          · refine v_aload_n (i := 0) dX8_operand_120 rfl rfl ?_
            refine v_callVv (cM_partB hap τ g1 g2) (lw_V q2293 q2295 qs77 q136 q2296) iX8_part rfl KX8 MH_m rfl rfl (by decide) (by decide) (Nat.le_of_ble_eq_true rfl) dX8_operand_121 ?_
            exact v_vret rfl dX8_operand_124 ⟨rfl, fun _ _ _ _ e => absurd e (g4 _), g3⟩
          · exact absurd rfl c5
        · exact absurd rfl c98
      · exact absurd rfl c79
    · exact absurd rfl c22
  have LB4 : ∀ (τ : MS) (v4 : Nat), ¬ gN τ 19 = 0 → gN τ 19 < 2147483648 → (∀ k q, R = .error (k, q) → XE m ad η0 σ k q (MH m ad τ η0)) → (∀ z, ¬ R = .ok z) → V G Γ yX8_operand cX8_operand 5 none [] 5 (rv fun η => (∀ p2 ops2 ts2 c, R = .ok (p2, ops2, ts2, c) → ∃ wt2 td2, pN wt2 0 ops2 ∧ pN td2 1 ts2 ∧ η = MH m ad (XS σ p2 (va_up (va_up rd tp c.1) (tp + 1) c.2) (tp + 2) wt2 (ops2.length) (ts2.length) td2) η0) ∧ ∀ k q, R = .error (k, q) → XE m ad η0 σ k q η) 0 0 (MH m ad τ η0) 4 [some (.ref m), some (.int (nI nt)), some (.int (nI 1)), some (.int (nI 1)), some (.int (nI v4))] [] := by
    intro τ v4 g1 g2 g3 g4
    refine v_iload_n (i := 3) dX8_operand_4 rfl rfl ?_
    refine vn_if_eq (tgt := 120) dX8_operand_5 rfl (by decide) (fun c5 => ?_) (fun c5 => ?_)
    · exact absurd c5 (by decide)
    · refine v_aload_n (i := 0) dX8_operand_8 rfl rfl ?_
      refine v_callVi (cM_goodB hap τ g1 g2) (lw_V q2229 q2231 qs61 q136 q2232) iX8_isGood rfl KX8 MH_m rfl rfl (by decide) (by decide) (Nat.le_of_ble_eq_true rfl) dX8_operand_9 ?_
      refine vn_if_eq (tgt := 120) dX8_operand_12 rfl (by decide) (fun c12 => ?_) (fun c12 => ?_)
      · refine v_aload_n (i := 0) dX8_operand_120 rfl rfl ?_
        refine v_callVv (cM_partB hap τ g1 g2) (lw_V q2293 q2295 qs77 q136 q2296) iX8_part rfl KX8 MH_m rfl rfl (by decide) (by decide) (Nat.le_of_ble_eq_true rfl) dX8_operand_121 ?_
        exact v_vret rfl dX8_operand_124 ⟨rfl, fun _ _ _ _ e => absurd e (g4 _), g3⟩
      · exact absurd rfl c12
  have L : ∀ (n nv c p : Nat) (wt : Nat → Nat) (ops ts : List Nat) (td : Nat → Nat), opd (tq σ) (gA σ 40) (gN σ 30) n nv c p ops ts = R → gN σ 21 < n + p → p ≤ gN σ 21 → nv < 2 → c ≤ 6 → pN wt 0 ops → pN td 1 ts → ts.length ≤ 6 → ops.length ≤ p → 2 * (tp + ops.length) ≤ 3 * p → (∀ a ∈ ops, a < 13) → V G Γ yX8_operand cX8_operand 5 none [] 5 (rv fun η => (∀ p2 ops2 ts2 c, R = .ok (p2, ops2, ts2, c) → ∃ wt2 td2, pN wt2 0 ops2 ∧ pN td2 1 ts2 ∧ η = MH m ad (XS σ p2 (va_up (va_up rd tp c.1) (tp + 1) c.2) (tp + 2) wt2 (ops2.length) (ts2.length) td2) η0) ∧ ∀ k q, R = .error (k, q) → XE m ad η0 σ k q η) 0 0 (MH m ad (XS σ p rd tp wt (ops.length) (ts.length) td) η0) 18 [some (.ref m), some (.int (nI nt)), some (.int (nI nv)), some (.int (nI 1)), some (.int (nI c))] [] := by
    intro n
    induction n with
    | zero => intro nv c p wt ops ts td he h1 h2; omega
    | succ n ih =>
      intro nv c p wt ops ts td he0 h1 h2 hnv hc hw ht hts hop hbd ho
      have he : (if nv = 1 ∧ kwT (tq σ p) = 17 then _ else _) = R := he0
      clear he0
      have bk := kwT_le (tq σ p)
      obtain ⟨b22, b23, b24, b25, b26, b27, b28⟩ := tq_b hP h2
      have hnx : ¬ tq σ p 23 = 0 → p < nx σ p := nx_gt hP h2
      refine v_aload_n (i := 0) dX8_operand_18 rfl rfl ?_
      refine v_callVi (cM_goodG hap (XS σ p rd tp wt (ops.length) (ts.length) td) hg) (lw_V q2229 q2231 qs61 q136 q2232) iX8_isGood rfl KX8 MH_m rfl rfl (by decide) (by decide) (Nat.le_of_ble_eq_true rfl) dX8_operand_19 ?_
      refine vn_if_eq (tgt := 75) dX8_operand_22 rfl (by decide) (fun c22 => ?_) (fun c22 => ?_)
      · exact absurd c22 (by decide)
      · refine v_iload_n (i := 2) dX8_operand_25 rfl rfl ?_
        refine vn_if_eq (tgt := 75) dX8_operand_26 rfl (by omega) (fun c26 => ?_) (fun c26 => ?_)
        · rw [if_neg (fun q => by omega)] at he
          refine v_aload_n (i := 0) dX8_operand_75 rfl rfl ?_
          refine v_callVi (cM_goodG hap (XS σ p rd tp wt (ops.length) (ts.length) td) hg) (lw_V q2229 q2231 qs61 q136 q2232) iX8_isGood rfl KX8 MH_m rfl rfl (by decide) (by decide) (Nat.le_of_ble_eq_true rfl) dX8_operand_76 ?_
          refine vn_if_eq (tgt := 95) dX8_operand_79 rfl (by decide) (fun c79 => ?_) (fun c79 => ?_)
          · exact absurd c79 (by decide)
          · refine v_aload_n (i := 0) dX8_operand_82 rfl rfl ?_
            refine v_bipush (v := nI 40) dX8_operand_83 k_bipush_40 ?_
            refine v_callVi (cM_signX hap σ hP p h2 rd tp wt ops.length ts.length td 40 (by decide)) (lw_V q2237 q2239 qs63 q136 q2240) iX8_isSign rfl KX8 MH_m rfl rfl (by decide) (by decide) (Nat.le_of_ble_eq_true rfl) dX8_operand_85 ?_
            by_cases h85 : isS (tq σ p) 40
            · rw [if_pos h85]
              rw [if_pos h85] at he
              have hnx := hnx (by omega)
              refine vn_if_eq (tgt := 95) dX8_operand_88 rfl (by decide) (fun c88 => ?_) (fun c88 => ?_)
              · exact absurd c88 (by decide)
              · refine v_iconst (v := nI 1) dX8_operand_91 k_iconst_1 ?_
                refine v_goto (tgt := 96) dX8_operand_92 rfl ?_
                refine v_istore_n (i := 3) dX8_operand_96 rfl (by decide) rfl ?_
                refine v_iload_n (i := 3) dX8_operand_97 rfl rfl ?_
                refine vn_if_eq (tgt := 117) dX8_operand_98 rfl (by decide) (fun c98 => ?_) (fun c98 => ?_)
                · exact absurd c98 (by decide)
                · refine v_aload_n (i := 0) dX8_operand_101 rfl rfl ?_
                  refine v_bipush (v := nI 12) dX8_operand_102 k_bipush_12 ?_
                  refine v_callVv (cM_waitX hap σ p rd tp wt ops.length ts.length td 12 (by omega)) (lw_V q2289 q2291 qs76 q136 q2292) iX8_waitsFor rfl KX8 MH_m rfl rfl (by decide) (by decide) (Nat.le_of_ble_eq_true rfl) dX8_operand_104 ?_
                  refine v_aload_n (i := 0) dX8_operand_107 rfl rfl ?_
                  refine v_callVv (cM_goesX hap σ hP p h2 rd tp (va_up wt ops.length 12) (ops.length + 1) ts.length td) (lw_V q2201 q2203 qs57 q136 q2204) iX8_goes rfl KX8 MH_m rfl rfl (by decide) (by decide) (Nat.le_of_ble_eq_true rfl) dX8_operand_108 ?_
                  by_cases h108 : ts.length < 6
                  · rw [if_pos h108] at he
                    refine v_aload_n (i := 0) dX8_operand_111 rfl rfl ?_
                    refine v_callVv (cM_deeperY hap σ (nx σ p) rd tp (va_up wt ops.length 12) (ops.length + 1) ts.length td h108) (lw_V q2281 q2283 qs74 q136 q2284) iX8_deeper rfl KX8 MH_m rfl rfl (by decide) (by decide) (Nat.le_of_ble_eq_true rfl) dX8_operand_112 ?_
                    refine v_iconst (v := nI 1) dX8_operand_115 k_iconst_1 ?_
                    refine v_istore_n (i := 2) dX8_operand_116 rfl (by decide) rfl ?_
                    refine v_goto (tgt := 4) dX8_operand_117 rfl ?_
                    refine v_iload_n (i := 3) dX8_operand_4 rfl rfl ?_
                    refine vn_if_eq (tgt := 120) dX8_operand_5 rfl (by decide) (fun c5 => ?_) (fun c5 => ?_)
                    · exact absurd c5 (by decide)
                    · refine v_aload_n (i := 0) dX8_operand_8 rfl rfl ?_
                      refine v_callVi (cM_goodG hap (XS σ (nx σ p) rd tp (va_up wt ops.length 12) (ops.length + 1) (ts.length + 1) (va_up td (1 + ts.length) 0)) hg) (lw_V q2229 q2231 qs61 q136 q2232) iX8_isGood rfl KX8 MH_m rfl rfl (by decide) (by decide) (Nat.le_of_ble_eq_true rfl) dX8_operand_9 ?_
                      refine vn_if_eq (tgt := 120) dX8_operand_12 rfl (by decide) (fun c12 => ?_) (fun c12 => ?_)
                      · exact absurd c12 (by decide)
                      · refine v_iconst (v := nI 0) dX8_operand_15 k_iconst_0 ?_
                        refine v_istore (i := 4) dX8_operand_16 (by decide) rfl ?_
                        exact ih 1 0 (nx σ p) (va_up wt ops.length 12) (12 :: ops) (0 :: ts) (va_up td (1 + ts.length) 0) he (by omega) b22 (by decide) (by decide) (by have := pN_push (v := 12) hw; rwa [Nat.zero_add] at this) (pN_push ht) (by simp; omega) (by simp; omega) (by simp; omega) (fun a ha => by rcases List.mem_cons.mp ha with rfl | ha; exact (by decide); exact ho a ha)
                  · rw [if_neg h108] at he
                    refine v_aload_n (i := 0) dX8_operand_111 rfl rfl ?_
                    refine v_callVv (cM_deeperN hap σ hP (nx σ p) b22 hg rd tp (va_up wt ops.length 12) (ops.length + 1) ts.length td (by omega)) (lw_V q2281 q2283 qs74 q136 q2284) iX8_deeper rfl KX8 MH_m rfl rfl (by decide) (by decide) (Nat.le_of_ble_eq_true rfl) dX8_operand_112 ?_
                    refine v_iconst (v := nI 1) dX8_operand_115 k_iconst_1 ?_
                    refine v_istore_n (i := 2) dX8_operand_116 rfl (by decide) rfl ?_
                    refine v_goto (tgt := 4) dX8_operand_117 rfl ?_
                    exact LB4 _ c (show ¬ (if isB (tq σ (nx σ p)) then 2 else 1) = 0 by split <;> decide) (show (if isB (tq σ (nx σ p)) then 2 else 1) < 2147483648 by split <;> decide) (fun k q e => by rw [← he] at e; cases e; exact ⟨by split <;> decide, by split <;> decide, b22, rd, tp, va_up wt ops.length 12, 12 :: ops, ts.length, td, rfl, (by have := pN_push (v := 12) hw; rwa [Nat.zero_add] at this), (fun a ha => by rcases List.mem_cons.mp ha with rfl | ha; exact (by decide); exact ho a ha), by simp; omega, by simp; omega⟩) (fun z e => by rw [← he] at e; cases e)
            · rw [if_neg h85]
              rw [if_neg h85] at he
              refine vn_if_eq (tgt := 95) dX8_operand_88 rfl (by decide) (fun c88 => ?_) (fun c88 => ?_)
              · refine v_iconst (v := nI 0) dX8_operand_95 k_iconst_0 ?_
                refine v_istore_n (i := 3) dX8_operand_96 rfl (by decide) rfl ?_
                refine v_iload_n (i := 3) dX8_operand_97 rfl rfl ?_
                refine vn_if_eq (tgt := 117) dX8_operand_98 rfl (by decide) (fun c98 => ?_) (fun c98 => ?_)
                · refine v_goto (tgt := 4) dX8_operand_117 rfl ?_
                  refine v_iload_n (i := 3) dX8_operand_4 rfl rfl ?_
                  refine vn_if_eq (tgt := 120) dX8_operand_5 rfl (by decide) (fun c5 => ?_) (fun c5 => ?_)
                  · refine v_aload_n (i := 0) dX8_operand_120 rfl rfl ?_
                    refine v_callVW (kc' := 0) (ks' := 0) (cM_part hap σ hP p h2 hg rd tp wt ops.length ts.length td (by omega) hT hl) (lw_V q2293 q2295 qs77 q136 q2296) iX8_part rfl KX8 MH_m rfl rfl (by decide) (by decide) (Nat.le_of_ble_eq_true rfl) (by decide) (by decide) dX8_operand_121 (fun η' h => ?_)
                    obtain ⟨hp1, hp2⟩ := h
                    exact v_vret rfl dX8_operand_124 (by
                              cases hpc : partC (tq σ) (gA σ 40) (gN σ 30) p with
                              | error e =>
                                obtain ⟨k, q⟩ := e
                                rw [andT_er hpc] at he
                                obtain ⟨rfl, k1, k2, rd2, tp2, k3, rfl⟩ := hp2 k q hpc
                                exact ⟨rfl, fun _ _ _ _ e => (by rw [← he] at e; cases e), fun k' q' e => (by rw [← he] at e; cases e; exact ⟨k1, k2, h2, rd2, tp2, wt, ops, ts.length, td, rfl, hw, ho, by omega, by omega⟩)⟩
                              | ok z =>
                                rw [andT_ok hpc] at he
                                have e1 := hp1 z hpc
                                subst e1
                                exact ⟨rfl, fun p2 ops2 ts2 c e => (by rw [← he] at e; cases e; exact ⟨wt, td, hw, ht, rfl⟩), fun k' q' e => (by rw [← he] at e; cases e)⟩)
                  · exact absurd rfl c5
                · exact absurd rfl c98
              · exact absurd rfl c88
        · refine v_aload_n (i := 0) dX8_operand_29 rfl rfl ?_
          refine v_callVi (cM_kwX hap σ hP p h2 rd tp wt ops.length ts.length td) (lw_V q2215 q2217 qs59 q136 q2218) iX8_knownWord rfl KX8 MH_m rfl rfl (by decide) (by decide) (Nat.le_of_ble_eq_true rfl) dX8_operand_30 ?_
          refine v_bipush (v := nI 16) dX8_operand_33 k_bipush_16 ?_
          refine von_icmp_ne (tgt := 75) dX8_operand_35 rfl (by omega) (by decide) (fun c35 => ?_) (fun c35 => ?_)
          · rw [if_neg (fun q => c35 q.2)] at he
            refine v_aload_n (i := 0) dX8_operand_75 rfl rfl ?_
            refine v_callVi (cM_goodG hap (XS σ p rd tp wt (ops.length) (ts.length) td) hg) (lw_V q2229 q2231 qs61 q136 q2232) iX8_isGood rfl KX8 MH_m rfl rfl (by decide) (by decide) (Nat.le_of_ble_eq_true rfl) dX8_operand_76 ?_
            refine vn_if_eq (tgt := 95) dX8_operand_79 rfl (by decide) (fun c79 => ?_) (fun c79 => ?_)
            · exact absurd c79 (by decide)
            · refine v_aload_n (i := 0) dX8_operand_82 rfl rfl ?_
              refine v_bipush (v := nI 40) dX8_operand_83 k_bipush_40 ?_
              refine v_callVi (cM_signX hap σ hP p h2 rd tp wt ops.length ts.length td 40 (by decide)) (lw_V q2237 q2239 qs63 q136 q2240) iX8_isSign rfl KX8 MH_m rfl rfl (by decide) (by decide) (Nat.le_of_ble_eq_true rfl) dX8_operand_85 ?_
              by_cases h85 : isS (tq σ p) 40
              · rw [if_pos h85]
                rw [if_pos h85] at he
                have hnx := hnx (by omega)
                refine vn_if_eq (tgt := 95) dX8_operand_88 rfl (by decide) (fun c88 => ?_) (fun c88 => ?_)
                · exact absurd c88 (by decide)
                · refine v_iconst (v := nI 1) dX8_operand_91 k_iconst_1 ?_
                  refine v_goto (tgt := 96) dX8_operand_92 rfl ?_
                  refine v_istore_n (i := 3) dX8_operand_96 rfl (by decide) rfl ?_
                  refine v_iload_n (i := 3) dX8_operand_97 rfl rfl ?_
                  refine vn_if_eq (tgt := 117) dX8_operand_98 rfl (by decide) (fun c98 => ?_) (fun c98 => ?_)
                  · exact absurd c98 (by decide)
                  · refine v_aload_n (i := 0) dX8_operand_101 rfl rfl ?_
                    refine v_bipush (v := nI 12) dX8_operand_102 k_bipush_12 ?_
                    refine v_callVv (cM_waitX hap σ p rd tp wt ops.length ts.length td 12 (by omega)) (lw_V q2289 q2291 qs76 q136 q2292) iX8_waitsFor rfl KX8 MH_m rfl rfl (by decide) (by decide) (Nat.le_of_ble_eq_true rfl) dX8_operand_104 ?_
                    refine v_aload_n (i := 0) dX8_operand_107 rfl rfl ?_
                    refine v_callVv (cM_goesX hap σ hP p h2 rd tp (va_up wt ops.length 12) (ops.length + 1) ts.length td) (lw_V q2201 q2203 qs57 q136 q2204) iX8_goes rfl KX8 MH_m rfl rfl (by decide) (by decide) (Nat.le_of_ble_eq_true rfl) dX8_operand_108 ?_
                    by_cases h108 : ts.length < 6
                    · rw [if_pos h108] at he
                      refine v_aload_n (i := 0) dX8_operand_111 rfl rfl ?_
                      refine v_callVv (cM_deeperY hap σ (nx σ p) rd tp (va_up wt ops.length 12) (ops.length + 1) ts.length td h108) (lw_V q2281 q2283 qs74 q136 q2284) iX8_deeper rfl KX8 MH_m rfl rfl (by decide) (by decide) (Nat.le_of_ble_eq_true rfl) dX8_operand_112 ?_
                      refine v_iconst (v := nI 1) dX8_operand_115 k_iconst_1 ?_
                      refine v_istore_n (i := 2) dX8_operand_116 rfl (by decide) rfl ?_
                      refine v_goto (tgt := 4) dX8_operand_117 rfl ?_
                      refine v_iload_n (i := 3) dX8_operand_4 rfl rfl ?_
                      refine vn_if_eq (tgt := 120) dX8_operand_5 rfl (by decide) (fun c5 => ?_) (fun c5 => ?_)
                      · exact absurd c5 (by decide)
                      · refine v_aload_n (i := 0) dX8_operand_8 rfl rfl ?_
                        refine v_callVi (cM_goodG hap (XS σ (nx σ p) rd tp (va_up wt ops.length 12) (ops.length + 1) (ts.length + 1) (va_up td (1 + ts.length) 0)) hg) (lw_V q2229 q2231 qs61 q136 q2232) iX8_isGood rfl KX8 MH_m rfl rfl (by decide) (by decide) (Nat.le_of_ble_eq_true rfl) dX8_operand_9 ?_
                        refine vn_if_eq (tgt := 120) dX8_operand_12 rfl (by decide) (fun c12 => ?_) (fun c12 => ?_)
                        · exact absurd c12 (by decide)
                        · refine v_iconst (v := nI 0) dX8_operand_15 k_iconst_0 ?_
                          refine v_istore (i := 4) dX8_operand_16 (by decide) rfl ?_
                          exact ih 1 0 (nx σ p) (va_up wt ops.length 12) (12 :: ops) (0 :: ts) (va_up td (1 + ts.length) 0) he (by omega) b22 (by decide) (by decide) (by have := pN_push (v := 12) hw; rwa [Nat.zero_add] at this) (pN_push ht) (by simp; omega) (by simp; omega) (by simp; omega) (fun a ha => by rcases List.mem_cons.mp ha with rfl | ha; exact (by decide); exact ho a ha)
                    · rw [if_neg h108] at he
                      refine v_aload_n (i := 0) dX8_operand_111 rfl rfl ?_
                      refine v_callVv (cM_deeperN hap σ hP (nx σ p) b22 hg rd tp (va_up wt ops.length 12) (ops.length + 1) ts.length td (by omega)) (lw_V q2281 q2283 qs74 q136 q2284) iX8_deeper rfl KX8 MH_m rfl rfl (by decide) (by decide) (Nat.le_of_ble_eq_true rfl) dX8_operand_112 ?_
                      refine v_iconst (v := nI 1) dX8_operand_115 k_iconst_1 ?_
                      refine v_istore_n (i := 2) dX8_operand_116 rfl (by decide) rfl ?_
                      refine v_goto (tgt := 4) dX8_operand_117 rfl ?_
                      exact LB4 _ c (show ¬ (if isB (tq σ (nx σ p)) then 2 else 1) = 0 by split <;> decide) (show (if isB (tq σ (nx σ p)) then 2 else 1) < 2147483648 by split <;> decide) (fun k q e => by rw [← he] at e; cases e; exact ⟨by split <;> decide, by split <;> decide, b22, rd, tp, va_up wt ops.length 12, 12 :: ops, ts.length, td, rfl, (by have := pN_push (v := 12) hw; rwa [Nat.zero_add] at this), (fun a ha => by rcases List.mem_cons.mp ha with rfl | ha; exact (by decide); exact ho a ha), by simp; omega, by simp; omega⟩) (fun z e => by rw [← he] at e; cases e)
              · rw [if_neg h85]
                rw [if_neg h85] at he
                refine vn_if_eq (tgt := 95) dX8_operand_88 rfl (by decide) (fun c88 => ?_) (fun c88 => ?_)
                · refine v_iconst (v := nI 0) dX8_operand_95 k_iconst_0 ?_
                  refine v_istore_n (i := 3) dX8_operand_96 rfl (by decide) rfl ?_
                  refine v_iload_n (i := 3) dX8_operand_97 rfl rfl ?_
                  refine vn_if_eq (tgt := 117) dX8_operand_98 rfl (by decide) (fun c98 => ?_) (fun c98 => ?_)
                  · refine v_goto (tgt := 4) dX8_operand_117 rfl ?_
                    refine v_iload_n (i := 3) dX8_operand_4 rfl rfl ?_
                    refine vn_if_eq (tgt := 120) dX8_operand_5 rfl (by decide) (fun c5 => ?_) (fun c5 => ?_)
                    · refine v_aload_n (i := 0) dX8_operand_120 rfl rfl ?_
                      refine v_callVW (kc' := 0) (ks' := 0) (cM_part hap σ hP p h2 hg rd tp wt ops.length ts.length td (by omega) hT hl) (lw_V q2293 q2295 qs77 q136 q2296) iX8_part rfl KX8 MH_m rfl rfl (by decide) (by decide) (Nat.le_of_ble_eq_true rfl) (by decide) (by decide) dX8_operand_121 (fun η' h => ?_)
                      obtain ⟨hp1, hp2⟩ := h
                      exact v_vret rfl dX8_operand_124 (by
                                cases hpc : partC (tq σ) (gA σ 40) (gN σ 30) p with
                                | error e =>
                                  obtain ⟨k, q⟩ := e
                                  rw [andT_er hpc] at he
                                  obtain ⟨rfl, k1, k2, rd2, tp2, k3, rfl⟩ := hp2 k q hpc
                                  exact ⟨rfl, fun _ _ _ _ e => (by rw [← he] at e; cases e), fun k' q' e => (by rw [← he] at e; cases e; exact ⟨k1, k2, h2, rd2, tp2, wt, ops, ts.length, td, rfl, hw, ho, by omega, by omega⟩)⟩
                                | ok z =>
                                  rw [andT_ok hpc] at he
                                  have e1 := hp1 z hpc
                                  subst e1
                                  exact ⟨rfl, fun p2 ops2 ts2 c e => (by rw [← he] at e; cases e; exact ⟨wt, td, hw, ht, rfl⟩), fun k' q' e => (by rw [← he] at e; cases e)⟩)
                    · exact absurd rfl c5
                  · exact absurd rfl c98
                · exact absurd rfl c88
          · have c26 : nv = 1 := by omega
            subst c26
            have hs1 : tq σ p 23 = 1 := kwT_1 (by omega)
            have hnx := hnx (by omega)
            rw [if_pos ⟨rfl, c35⟩] at he
            refine v_iload (i := 4) dX8_operand_38 rfl ?_
            refine v_bipush (v := nI 6) dX8_operand_40 k_bipush_6 ?_
            refine vn_icmp_ne (tgt := 50) dX8_operand_42 rfl (by omega) (by decide) (fun c42 => ?_) (fun c42 => ?_)
            · rw [if_neg c42] at he
              refine vn_iinc 1 dX8_operand_50 rfl k_iconst_1 (by decide) rfl ?_
              refine v_aload_n (i := 0) dX8_operand_53 rfl rfl ?_
              refine v_callVi (cM_goodG hap (XS σ p rd tp wt (ops.length) (ts.length) td) hg) (lw_V q2229 q2231 qs61 q136 q2232) iX8_isGood rfl KX8 MH_m rfl rfl (by decide) (by decide) (Nat.le_of_ble_eq_true rfl) dX8_operand_54 ?_
              refine vn_if_ne (tgt := 63) dX8_operand_57 rfl (by decide) (fun c57 => ?_) (fun c57 => ?_)
              · refine v_aload_n (i := 0) dX8_operand_63 rfl rfl ?_
                refine v_iconst (v := nI 3) dX8_operand_64 k_iconst_3 ?_
                refine v_callVv (cM_waitX hap σ p rd tp wt ops.length ts.length td 3 (by omega)) (lw_V q2289 q2291 qs76 q136 q2292) iX8_waitsFor rfl KX8 MH_m rfl rfl (by decide) (by decide) (Nat.le_of_ble_eq_true rfl) dX8_operand_65 ?_
                refine v_aload_n (i := 0) dX8_operand_68 rfl rfl ?_
                refine v_callVv (cM_goesX hap σ hP p h2 rd tp (va_up wt ops.length 3) (ops.length + 1) ts.length td) (lw_V q2201 q2203 qs57 q136 q2204) iX8_goes rfl KX8 MH_m rfl rfl (by decide) (by decide) (Nat.le_of_ble_eq_true rfl) dX8_operand_69 ?_
                refine v_goto (tgt := 18) dX8_operand_72 rfl ?_
                exact ih 1 (c + 1) (nx σ p) (va_up wt ops.length 3) (3 :: ops) ts td he (by omega) b22 (by decide) (by omega) (by have := pN_push (v := 3) hw; rwa [Nat.zero_add] at this) ht hts (by simp; omega) (by simp; omega) (fun a ha => by rcases List.mem_cons.mp ha with rfl | ha; exact (by decide); exact ho a ha)
              · exact absurd c57 (by decide)
            · rw [if_pos c42] at he
              refine v_aload_n (i := 0) dX8_operand_45 rfl rfl ?_
              refine v_iconst (v := nI 2) dX8_operand_46 k_iconst_2 ?_
              refine v_callVv (cM_wrongX hap σ p hg rd tp wt ops.length ts.length td 2) (lw_V q2233 q2235 qs62 q136 q2236) iX8_wrong rfl KX8 MH_m rfl rfl (by decide) (by decide) (Nat.le_of_ble_eq_true rfl) dX8_operand_47 ?_
              refine vn_iinc 1 dX8_operand_50 rfl k_iconst_1 (by decide) rfl ?_
              refine v_aload_n (i := 0) dX8_operand_53 rfl rfl ?_
              refine v_callVi (cM_goodB hap (XS (flt σ 2 (tq σ p 24)) p rd tp wt (ops.length) (ts.length) td) (show ¬ 2 = 0 by decide) (show 2 < 2147483648 by decide)) (lw_V q2229 q2231 qs61 q136 q2232) iX8_isGood rfl KX8 MH_m rfl rfl (by decide) (by decide) (Nat.le_of_ble_eq_true rfl) dX8_operand_54 ?_
              refine vn_if_ne (tgt := 63) dX8_operand_57 rfl (by decide) (fun c57 => ?_) (fun c57 => ?_)
              · exact absurd rfl c57
              · refine v_goto (tgt := 18) dX8_operand_60 rfl ?_
                exact LB18 _ (c + 1) (show ¬ 2 = 0 by decide) (show 2 < 2147483648 by decide) (fun k q e => by rw [← he] at e; cases e; exact ⟨by decide, by decide, h2, rd, tp, wt, ops, ts.length, td, rfl, hw, ho, by omega, by omega⟩) (fun z e => by rw [← he] at e; cases e)
  refine v_iload_n (i := 1) dX8_operand_0 rfl rfl ?_
  refine v_istore_n (i := 2) dX8_operand_1 rfl (by decide) rfl ?_
  refine v_iconst (v := nI 1) dX8_operand_2 k_iconst_1 ?_
  refine v_istore_n (i := 3) dX8_operand_3 rfl (by decide) rfl ?_
  refine v_iload_n (i := 3) dX8_operand_4 rfl rfl ?_
  refine vn_if_eq (tgt := 120) dX8_operand_5 rfl (by decide) (fun c5 => ?_) (fun c5 => ?_)
  · exact absurd c5 (by decide)
  · refine v_aload_n (i := 0) dX8_operand_8 rfl rfl ?_
    refine v_callVi (cM_goodG hap (XS σ p rd tp wt (ops.length) (ts.length) td) hg) (lw_V q2229 q2231 qs61 q136 q2232) iX8_isGood rfl KX8 MH_m rfl rfl (by decide) (by decide) (Nat.le_of_ble_eq_true rfl) dX8_operand_9 ?_
    refine vn_if_eq (tgt := 120) dX8_operand_12 rfl (by decide) (fun c12 => ?_) (fun c12 => ?_)
    · exact absurd c12 (by decide)
    · refine v_iconst (v := nI 0) dX8_operand_15 k_iconst_0 ?_
      refine v_istore (i := 4) dX8_operand_16 (by decide) rfl ?_
      exact L 701 nt 0 p wt ops ts td hR (by omega) hp hnt (by decide) hw ht hts hop hbd ho
