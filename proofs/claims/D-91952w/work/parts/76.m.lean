/-! ===== things that are alike ===== -/
def swS (i j s : Nat) : Nat := ndf s (1 * 2 ^ i) ||| 1 * 2 ^ j
def alQ (τ : Td) (i j s sh b l : Nat) : Prop := bfT τ sh b l s = bfT τ sh b l (swS i j s)
def alS (τ : Td) (i j s sh : Nat) : Prop := ∀ b, (sh = tN τ 29 → b = 1) → b ≤ 2 → ∀ l, l < 2 → alQ τ i j s sh b l
def alG (τ : Td) (i j s : Nat) : Prop := ¬ bt s i = 0 → ¬ bt s j = 1 → ∀ sh, sh ≤ tN τ 29 → alS τ i j s sh
def alkT (τ : Td) (i j : Nat) : Prop := ∀ s, 1 ≤ s → s < 2 ^ tN τ 30 → alG τ i j s
noncomputable def alkB (τ : Td) (i j : Nat) : Nat := @ite Nat (alkT τ i j) (Classical.propDecidable _) 1 0
theorem alkB_1 {τ : Td} {i j : Nat} (h : alkT τ i j) : alkB τ i j = 1 := by
  unfold alkB
  rw [if_pos h]
theorem alkB_0 {τ : Td} {i j : Nat} (h : ¬ alkT τ i j) : alkB τ i j = 0 := by
  unfold alkB
  rw [if_neg h]
theorem alkB_lt (τ : Td) (i j : Nat) : alkB τ i j < 2 := by
  unfold alkB
  split <;> decide
noncomputable def alkN (τ : Td) (t : Nat) : Nat → Nat
  | 0 => 1 * 2 ^ t
  | n + 1 => if ¬ n = t ∧ tA τ 38 n = tA τ 38 t ∧ tA τ 39 n = tA τ 39 t ∧ ¬ alkB τ t n = 0 then alkN τ t n ||| 1 * 2 ^ n else alkN τ t n
noncomputable def spAlike (A : AS) (a : Int32) : Option Int32 := (nOf a (tN A.1 30)).map fun t => nI (alkN A.1 t (tN A.1 30))
theorem swS_lt {i j s : Nat} (hs : s < 256) (hj : j < 8) : swS i j s < 256 := Nat.or_lt_two_pow (n := 8) (Nat.lt_of_le_of_lt (ndf_le _ _) hs) (by
  have := Nat.pow_le_pow_right (show 0 < 2 by decide) (show j ≤ 7 by omega)
  omega)
theorem cX_areAlike {G : Gl} {m : Nat} {ad : Nat → Nat} {η0 : AH} (hap : Mp m ad) (σ : MS) (τ : Td) (hd ld : Nat → Nat) (w : Nat) (hW : WX σ τ hd ld w) (i j : Nat) (hi : i < 8) (hj : j < 8) : Ct G yX8_areAlike cX8_areAlike 8 (some .boolean) 5 0 0 [.ref m, .int (nI i), .int (nI j)] (MH m ad σ η0) (ri fun r η => r = nI (alkB τ i j) ∧ ∃ c p, Cch (bfT τ) c ∧ η = MH m ad (sCP σ c p) η0) := by
  refine Ct.start rfl rfl (Nat.le_of_ble_eq_true rfl) (fun Γ => ?_)
  have hl0 := hW.1.1
  have hS : gN σ 1 = tN τ 29 := hW.2.1.1
  have hB := hW.2.2.2.2.2.1
  have hlt := hB.lt
  have hp8 : 2 ^ tN τ 30 ≤ 256 := p2_le (b := 8) (by omega)
  have hwc : ∀ (c : Nat → Nat) (p : Nat → Int32), Cch (bfT τ) c → WX (sCP σ c p) τ hd ld w := fun c p hc => ⟨hW.1, hW.2.1, hW.2.2.1, hW.2.2.2.1, hW.2.2.2.2.1, hW.2.2.2.2.2.1, hc, hW.2.2.2.2.2.2.2⟩
  have L93 : ∀ (s sh b : Nat), 1 ≤ s → s < 2 ^ tN τ 30 → sh ≤ tN τ 29 → (sh = tN τ 29 → b = 1) → b ≤ 2 → ¬ bt s i = 0 → ¬ bt s j = 1 → ((∀ l, l < 2 → alQ τ i j s sh b l) → ∀ (l : Nat) (c : Nat → Nat) (p : Nat → Int32), Cch (bfT τ) c → V G Γ yX8_areAlike cX8_areAlike 8 (some .boolean) [] 5 (ri fun r η => r = nI (alkB τ i j) ∧ ∃ c p, Cch (bfT τ) c ∧ η = MH m ad (sCP σ c p) η0) 0 0 (MH m ad (sCP σ c p) η0) 133 [some (.ref m), some (.int (nI i)), some (.int (nI j)), some (.int (nI s)), some (.int (nI (swS i j s))), some (.int (nI sh)), some (.int (nI b)), some (.int (nI l))] []) → ∀ (n l : Nat), l + n = 2 → (∀ k, k < l → alQ τ i j s sh b k) → ∀ (c : Nat → Nat) (p : Nat → Int32), Cch (bfT τ) c → V G Γ yX8_areAlike cX8_areAlike 8 (some .boolean) [] 5 (ri fun r η => r = nI (alkB τ i j) ∧ ∃ c p, Cch (bfT τ) c ∧ η = MH m ad (sCP σ c p) η0) 0 0 (MH m ad (sCP σ c p) η0) 93 [some (.ref m), some (.int (nI i)), some (.int (nI j)), some (.int (nI s)), some (.int (nI (swS i j s))), some (.int (nI sh)), some (.int (nI b)), some (.int (nI l))] [] := by
    intro s sh b h1 h2 h3 h4 h5 h6 h7 K n
    have hs : s < 256 := by omega
    have ho := swS_lt (i := i) hs hj
    induction n with
    | zero =>
      intro l hl hq c p hc
      have e : l = 2 := by omega
      subst e
      refine v_iload (i := 7) dX8_areAlike_93 rfl ?_
      refine v_iconst (v := nI 2) dX8_areAlike_95 k_iconst_2 ?_
      refine vn_icmp_ge (tgt := 133) dX8_areAlike_96 rfl (by omega) (by omega) (fun c96 => ?_) (fun c96 => ?_)
      · exact K hq 2 c p hc
      · exact absurd c96 (by decide)
    | succ n ih =>
      intro l hl hq c p hc
      refine v_iload (i := 7) dX8_areAlike_93 rfl ?_
      refine v_iconst (v := nI 2) dX8_areAlike_95 k_iconst_2 ?_
      refine vn_icmp_ge (tgt := 133) dX8_areAlike_96 rfl (by omega) (by omega) (fun c96 => ?_) (fun c96 => ?_)
      · omega
      · refine v_aload_n (i := 0) dX8_areAlike_99 rfl rfl ?_
        refine v_iload_n (i := 3) dX8_areAlike_100 rfl rfl ?_
        refine v_iload (i := 5) dX8_areAlike_101 rfl ?_
        refine v_iload (i := 6) dX8_areAlike_103 rfl ?_
        refine v_iload (i := 7) dX8_areAlike_105 rfl ?_
        refine v_callVI (kc' := 0) (ks' := 0) (cM_barsOf hap (sCP σ c p) (bfT τ) hB hc s sh b l hs (by omega) h5 (by omega)) (lw_V q2328 q2330 qs83 q136 q2331) iX8_barsOf rfl KX8 MH_m rfl rfl (by decide) (by decide) (Nat.le_of_ble_eq_true rfl) (by decide) (by decide) dX8_areAlike_107 (fun x_ η' h => ?_)
        obtain ⟨rfl, c1, p1, hc1, rfl⟩ := h
        rw [sCP_sCP]
        refine v_aload_n (i := 0) dX8_areAlike_110 rfl rfl ?_
        refine v_iload (i := 4) dX8_areAlike_111 rfl ?_
        refine v_iload (i := 5) dX8_areAlike_113 rfl ?_
        refine v_iload (i := 6) dX8_areAlike_115 rfl ?_
        refine v_iload (i := 7) dX8_areAlike_117 rfl ?_
        refine v_callVI (kc' := 0) (ks' := 0) (cM_barsOf hap (sCP σ c1 p1) (bfT τ) hB hc1 (swS i j s) sh b l ho (by omega) h5 (by omega)) (lw_V q2328 q2330 qs83 q136 q2331) iX8_barsOf rfl KX8 MH_m rfl rfl (by decide) (by decide) (Nat.le_of_ble_eq_true rfl) (by decide) (by decide) dX8_areAlike_119 (fun x_ η' h => ?_)
        obtain ⟨rfl, c2, p2, hc2, rfl⟩ := h
        rw [sCP_sCP]
        have hb1 := hlt sh b l s
        have hb2 := hlt sh b l (swS i j s)
        refine vn_icmp_eq (tgt := 127) dX8_areAlike_122 rfl (by omega) (by omega) (fun c122 => ?_) (fun c122 => ?_)
        · have hqq : alQ τ i j s sh b l := c122
          refine vn_iinc 1 dX8_areAlike_127 rfl k_iconst_1 (by decide) rfl ?_
          refine v_goto (tgt := 93) dX8_areAlike_130 rfl ?_
          exact ih (l + 1) (by omega) (fun k hk => by by_cases e : k = l; (rw [e]; exact hqq); exact hq k (by omega)) c2 p2 hc2
        · have hqq : ¬ alQ τ i j s sh b l := c122
          refine v_iconst (v := nI 0) dX8_areAlike_125 k_iconst_0 ?_
          exact v_zret rfl rfl dX8_areAlike_126 ⟨_, rfl, by rw [alkB_0 (fun q => hqq (q s h1 h2 h6 h7 sh h3 b h4 h5 l (by omega)))], c2, p2, hc2, rfl⟩
  have L71 : ∀ (s sh : Nat), 1 ≤ s → s < 2 ^ tN τ 30 → sh ≤ tN τ 29 → ¬ bt s i = 0 → ¬ bt s j = 1 → (alS τ i j s sh → ∀ (b : Nat) (z7 : Option Value) (c : Nat → Nat) (p : Nat → Int32), Cch (bfT τ) c → V G Γ yX8_areAlike cX8_areAlike 8 (some .boolean) [] 5 (ri fun r η => r = nI (alkB τ i j) ∧ ∃ c p, Cch (bfT τ) c ∧ η = MH m ad (sCP σ c p) η0) 0 0 (MH m ad (sCP σ c p) η0) 139 [some (.ref m), some (.int (nI i)), some (.int (nI j)), some (.int (nI s)), some (.int (nI (swS i j s))), some (.int (nI sh)), some (.int (nI b)), z7] []) → ∀ (n b : Nat), b + n = 3 → (sh = tN τ 29 → 1 ≤ b ∧ b ≤ 2) → (∀ k, k < b → (sh = tN τ 29 → k = 1) → ∀ l, l < 2 → alQ τ i j s sh k l) → ∀ (z7 : Option Value) (c : Nat → Nat) (p : Nat → Int32), Cch (bfT τ) c → V G Γ yX8_areAlike cX8_areAlike 8 (some .boolean) [] 5 (ri fun r η => r = nI (alkB τ i j) ∧ ∃ c p, Cch (bfT τ) c ∧ η = MH m ad (sCP σ c p) η0) 0 0 (MH m ad (sCP σ c p) η0) 71 [some (.ref m), some (.int (nI i)), some (.int (nI j)), some (.int (nI s)), some (.int (nI (swS i j s))), some (.int (nI sh)), some (.int (nI b)), z7] [] := by
    intro s sh h1 h2 h3 h6 h7 K n
    induction n with
    | zero =>
      intro b hb hr hq z7 c p hc
      have e : b = 3 := by omega
      subst e
      refine v_iload (i := 6) dX8_areAlike_71 rfl ?_
      refine v_iload (i := 5) dX8_areAlike_73 rfl ?_
      refine v_aload_n (i := 0) dX8_areAlike_75 rfl rfl ?_
      refine mg_shores rfl dX8_areAlike_76 ?_
      refine vn_icmp_ne (tgt := 86) dX8_areAlike_79 rfl (by omega) (show gN σ 1 < _ by omega) (fun c79 => ?_) (fun c79 => ?_)
      · have c79 : ¬ sh = tN τ 29 := by rw [← hS]; exact c79
        refine v_iconst (v := nI 2) dX8_areAlike_86 k_iconst_2 ?_
        refine vn_icmp_gt (tgt := 139) dX8_areAlike_87 rfl (by omega) (by omega) (fun c87 => ?_) (fun c87 => ?_)
        · exact K (fun b hb1 hb2 l hl => hq b (by omega) hb1 l hl) 3 z7 c p hc
        · exact absurd c87 (by omega)
      · exact absurd (hr (by rw [← hS]; exact c79)).2 (by omega)
    | succ n ih =>
      intro b hb hr hq z7 c p hc
      have K93 : (sh = tN τ 29 → b = 1) → b ≤ 2 → (∀ l, l < 2 → alQ τ i j s sh b l) → ∀ (l : Nat) (c : Nat → Nat) (p : Nat → Int32), Cch (bfT τ) c → V G Γ yX8_areAlike cX8_areAlike 8 (some .boolean) [] 5 (ri fun r η => r = nI (alkB τ i j) ∧ ∃ c p, Cch (bfT τ) c ∧ η = MH m ad (sCP σ c p) η0) 0 0 (MH m ad (sCP σ c p) η0) 133 [some (.ref m), some (.int (nI i)), some (.int (nI j)), some (.int (nI s)), some (.int (nI (swS i j s))), some (.int (nI sh)), some (.int (nI b)), some (.int (nI l))] [] := by
        intro g1 g2 hq2 l c p hc
        refine vn_iinc 1 dX8_areAlike_133 rfl k_iconst_1 (by decide) rfl ?_
        refine v_goto (tgt := 71) dX8_areAlike_136 rfl ?_
        exact ih (b + 1) (by omega) (fun e => by have := g1 e; omega) (fun k hk hk1 => by by_cases e : k = b; (rw [e]; exact hq2); exact hq k (by omega) hk1) _ c p hc
      refine v_iload (i := 6) dX8_areAlike_71 rfl ?_
      refine v_iload (i := 5) dX8_areAlike_73 rfl ?_
      refine v_aload_n (i := 0) dX8_areAlike_75 rfl rfl ?_
      refine mg_shores rfl dX8_areAlike_76 ?_
      refine vn_icmp_ne (tgt := 86) dX8_areAlike_79 rfl (by omega) (show gN σ 1 < _ by omega) (fun c79 => ?_) (fun c79 => ?_)
      · have c79 : ¬ sh = tN τ 29 := by rw [← hS]; exact c79
        refine v_iconst (v := nI 2) dX8_areAlike_86 k_iconst_2 ?_
        refine vn_icmp_gt (tgt := 139) dX8_areAlike_87 rfl (by omega) (by omega) (fun c87 => ?_) (fun c87 => ?_)
        · omega
        · refine v_iconst (v := nI 0) dX8_areAlike_90 k_iconst_0 ?_
          refine v_istore (i := 7) dX8_areAlike_91 (by decide) rfl ?_
          exact L93 s sh b h1 h2 h3 (fun e => by have := hr e; omega) (by omega) h6 h7 (K93 (fun e => by have := hr e; omega) (by omega)) 2 0 rfl (fun k hk => absurd hk (by omega)) c p hc
      · have c79 : sh = tN τ 29 := by rw [← hS]; exact c79
        refine v_iconst (v := nI 1) dX8_areAlike_82 k_iconst_1 ?_
        refine v_goto (tgt := 87) dX8_areAlike_83 rfl ?_
        refine vn_icmp_gt (tgt := 139) dX8_areAlike_87 rfl (by omega) (by omega) (fun c87 => ?_) (fun c87 => ?_)
        · exact K (fun b2 hb1 hb2 l hl => hq b2 (by have := hb1 c79; omega) hb1 l hl) b z7 c p hc
        · refine v_iconst (v := nI 0) dX8_areAlike_90 k_iconst_0 ?_
          refine v_istore (i := 7) dX8_areAlike_91 (by decide) rfl ?_
          exact L93 s sh b h1 h2 h3 (fun e => by have := hr e; omega) (by omega) h6 h7 (K93 (fun e => by have := hr e; omega) (by omega)) 2 0 rfl (fun k hk => absurd hk (by omega)) c p hc
  have L46 : ∀ (s : Nat), 1 ≤ s → s < 2 ^ tN τ 30 → ¬ bt s i = 0 → ¬ bt s j = 1 → (alG τ i j s → ∀ (z5 z6 z7 : Option Value) (c : Nat → Nat) (p : Nat → Int32), Cch (bfT τ) c → V G Γ yX8_areAlike cX8_areAlike 8 (some .boolean) [] 5 (ri fun r η => r = nI (alkB τ i j) ∧ ∃ c p, Cch (bfT τ) c ∧ η = MH m ad (sCP σ c p) η0) 0 0 (MH m ad (sCP σ c p) η0) 145 [some (.ref m), some (.int (nI i)), some (.int (nI j)), some (.int (nI s)), some (.int (nI (swS i j s))), z5, z6, z7] []) → ∀ (n sh : Nat), sh + n = tN τ 29 + 1 → (∀ k, k < sh → alS τ i j s k) → ∀ (z6 z7 : Option Value) (c : Nat → Nat) (p : Nat → Int32), Cch (bfT τ) c → V G Γ yX8_areAlike cX8_areAlike 8 (some .boolean) [] 5 (ri fun r η => r = nI (alkB τ i j) ∧ ∃ c p, Cch (bfT τ) c ∧ η = MH m ad (sCP σ c p) η0) 0 0 (MH m ad (sCP σ c p) η0) 46 [some (.ref m), some (.int (nI i)), some (.int (nI j)), some (.int (nI s)), some (.int (nI (swS i j s))), some (.int (nI sh)), z6, z7] [] := by
    intro s h1 h2 h6 h7 K n
    induction n with
    | zero =>
      intro sh hh hq z6 z7 c p hc
      have e : sh = tN τ 29 + 1 := by omega
      subst e
      refine v_iload (i := 5) dX8_areAlike_46 rfl ?_
      refine v_aload_n (i := 0) dX8_areAlike_48 rfl rfl ?_
      refine mg_shores rfl dX8_areAlike_49 ?_
      refine vn_icmp_gt (tgt := 145) dX8_areAlike_52 rfl (by omega) (show gN σ 1 < _ by omega) (fun c52 => ?_) (fun c52 => ?_)
      · exact K (fun _ _ sh hs => hq sh (by omega)) _ z6 z7 c p hc
      · exact absurd (show tN τ 29 + 1 ≤ gN σ 1 from c52) (by omega)
    | succ n ih =>
      intro sh hh hq z6 z7 c p hc
      have K71 : alS τ i j s sh → ∀ (b : Nat) (z7 : Option Value) (c : Nat → Nat) (p : Nat → Int32), Cch (bfT τ) c → V G Γ yX8_areAlike cX8_areAlike 8 (some .boolean) [] 5 (ri fun r η => r = nI (alkB τ i j) ∧ ∃ c p, Cch (bfT τ) c ∧ η = MH m ad (sCP σ c p) η0) 0 0 (MH m ad (sCP σ c p) η0) 139 [some (.ref m), some (.int (nI i)), some (.int (nI j)), some (.int (nI s)), some (.int (nI (swS i j s))), some (.int (nI sh)), some (.int (nI b)), z7] [] := by
        intro hq2 b z7 c p hc
        refine vn_iinc 1 dX8_areAlike_139 rfl k_iconst_1 (by decide) rfl ?_
        refine v_goto (tgt := 46) dX8_areAlike_142 rfl ?_
        exact ih (sh + 1) (by omega) (fun k hk => by by_cases e : k = sh; (rw [e]; exact hq2); exact hq k (by omega)) _ z7 c p hc
      refine v_iload (i := 5) dX8_areAlike_46 rfl ?_
      refine v_aload_n (i := 0) dX8_areAlike_48 rfl rfl ?_
      refine mg_shores rfl dX8_areAlike_49 ?_
      refine vn_icmp_gt (tgt := 145) dX8_areAlike_52 rfl (by omega) (show gN σ 1 < _ by omega) (fun c52 => ?_) (fun c52 => ?_)
      · exact absurd (show gN σ 1 < sh from c52) (by omega)
      · refine v_iload (i := 5) dX8_areAlike_55 rfl ?_
        refine v_aload_n (i := 0) dX8_areAlike_57 rfl rfl ?_
        refine mg_shores rfl dX8_areAlike_58 ?_
        refine vn_icmp_ne (tgt := 68) dX8_areAlike_61 rfl (by omega) (show gN σ 1 < _ by omega) (fun c61 => ?_) (fun c61 => ?_)
        · have c61 : ¬ sh = tN τ 29 := by rw [← hS]; exact c61
          refine v_iconst (v := nI 0) dX8_areAlike_68 k_iconst_0 ?_
          refine v_istore (i := 6) dX8_areAlike_69 (by decide) rfl ?_
          exact L71 s sh h1 h2 (by omega) h6 h7 K71 3 0 rfl (fun e => absurd e c61) (fun k hk => absurd hk (by omega)) z7 c p hc
        · have c61 : sh = tN τ 29 := by rw [← hS]; exact c61
          refine v_iconst (v := nI 1) dX8_areAlike_64 k_iconst_1 ?_
          refine v_goto (tgt := 69) dX8_areAlike_65 rfl ?_
          refine v_istore (i := 6) dX8_areAlike_69 (by decide) rfl ?_
          exact L71 s sh h1 h2 (by omega) h6 h7 K71 2 1 rfl (by omega) (fun k hk hk1 => absurd (hk1 c61) (by omega)) z7 c p hc
  have L2 : ∀ (n s : Nat), s + n = 2 ^ tN τ 30 → 1 ≤ s → (∀ k, 1 ≤ k → k < s → alG τ i j k) → ∀ (z4 z5 z6 z7 : Option Value) (c : Nat → Nat) (p : Nat → Int32), Cch (bfT τ) c → V G Γ yX8_areAlike cX8_areAlike 8 (some .boolean) [] 5 (ri fun r η => r = nI (alkB τ i j) ∧ ∃ c p, Cch (bfT τ) c ∧ η = MH m ad (sCP σ c p) η0) 0 0 (MH m ad (sCP σ c p) η0) 2 [some (.ref m), some (.int (nI i)), some (.int (nI j)), some (.int (nI s)), z4, z5, z6, z7] [] := by
    intro n
    induction n with
    | zero =>
      intro s hs h1 hq z4 z5 z6 z7 c p hc
      have e : s = 2 ^ tN τ 30 := by omega
      subst e
      refine v_iload_n (i := 3) dX8_areAlike_2 rfl rfl ?_
      refine v_aload_n (i := 0) dX8_areAlike_3 rfl rfl ?_
      refine v_callVi (cX_all hap (sCP σ c p) τ hd ld w (hwc c p hc)) (lw_V q2324 q2326 qs82 q136 q2327) iX8_all rfl KX8 MH_m rfl rfl (by decide) (by decide) (Nat.le_of_ble_eq_true rfl) dX8_areAlike_4 ?_
      refine vn_icmp_gt (tgt := 151) dX8_areAlike_7 rfl (by omega) (show 2 ^ tN τ 30 - 1 < _ by omega) (fun c7 => ?_) (fun c7 => ?_)
      · refine v_iconst (v := nI 1) dX8_areAlike_151 k_iconst_1 ?_
        exact v_zret rfl rfl dX8_areAlike_152 ⟨_, rfl, by rw [alkB_1 (fun s g1 g2 => hq s g1 g2)], c, p, hc, rfl⟩
      · exact absurd c7 (by omega)
    | succ n ih =>
      intro s hs h1 hq z4 z5 z6 z7 c p hc
      have hbi : bt s i < 2 := Nat.mod_lt _ (by decide)
      have hbj : bt s j < 2 := Nat.mod_lt _ (by decide)
      have K46 : alG τ i j s → ∀ (z4 z5 z6 z7 : Option Value) (c : Nat → Nat) (p : Nat → Int32), Cch (bfT τ) c → V G Γ yX8_areAlike cX8_areAlike 8 (some .boolean) [] 5 (ri fun r η => r = nI (alkB τ i j) ∧ ∃ c p, Cch (bfT τ) c ∧ η = MH m ad (sCP σ c p) η0) 0 0 (MH m ad (sCP σ c p) η0) 145 [some (.ref m), some (.int (nI i)), some (.int (nI j)), some (.int (nI s)), z4, z5, z6, z7] [] := by
        intro hq2 z4 z5 z6 z7 c p hc
        refine vn_iinc 1 dX8_areAlike_145 rfl k_iconst_1 (by decide) rfl ?_
        refine v_goto (tgt := 2) dX8_areAlike_148 rfl ?_
        exact ih (s + 1) (by omega) (by omega) (fun k hk1 hk => by by_cases e : k = s; (rw [e]; exact hq2); exact hq k hk1 (by omega)) _ _ _ _ c p hc
      refine v_iload_n (i := 3) dX8_areAlike_2 rfl rfl ?_
      refine v_aload_n (i := 0) dX8_areAlike_3 rfl rfl ?_
      refine v_callVi (cX_all hap (sCP σ c p) τ hd ld w (hwc c p hc)) (lw_V q2324 q2326 qs82 q136 q2327) iX8_all rfl KX8 MH_m rfl rfl (by decide) (by decide) (Nat.le_of_ble_eq_true rfl) dX8_areAlike_4 ?_
      refine vn_icmp_gt (tgt := 151) dX8_areAlike_7 rfl (by omega) (show 2 ^ tN τ 30 - 1 < _ by omega) (fun c7 => ?_) (fun c7 => ?_)
      · omega
      · refine v_iload_n (i := 3) dX8_areAlike_10 rfl rfl ?_
        refine v_iload_n (i := 1) dX8_areAlike_11 rfl rfl ?_
        refine vn_ishr (by omega) (by omega) dX8_areAlike_12 ?_
        refine v_iconst (v := nI 1) dX8_areAlike_13 k_iconst_1 ?_
        refine vn_and1 dX8_areAlike_14 ?_
        refine vn_if_eq (tgt := 145) dX8_areAlike_15 rfl (show bt s i < _ by omega) (fun c15 => ?_) (fun c15 => ?_)
        · have c15 : bt s i = 0 := c15
          exact K46 (fun q => absurd c15 q) _ _ _ _ c p hc
        · have c15 : ¬ bt s i = 0 := c15
          refine v_iload_n (i := 3) dX8_areAlike_18 rfl rfl ?_
          refine v_iload_n (i := 2) dX8_areAlike_19 rfl rfl ?_
          refine vn_ishr (by omega) (by omega) dX8_areAlike_20 ?_
          refine v_iconst (v := nI 1) dX8_areAlike_21 k_iconst_1 ?_
          refine vn_and1 dX8_areAlike_22 ?_
          refine v_iconst (v := nI 1) dX8_areAlike_23 k_iconst_1 ?_
          refine vn_icmp_ne (tgt := 30) dX8_areAlike_24 rfl (show bt s j < _ by omega) (by decide) (fun c24 => ?_) (fun c24 => ?_)
          · have c24 : ¬ bt s j = 1 := c24
            refine v_iload_n (i := 3) dX8_areAlike_30 rfl rfl ?_
            refine v_iconst (v := nI 1) dX8_areAlike_31 k_iconst_1 ?_
            refine v_iload_n (i := 1) dX8_areAlike_32 rfl rfl ?_
            refine vn_ishl (by omega) dX8_areAlike_33 ?_
            refine v_iconst (v := -1) dX8_areAlike_34 k_iconst_m1 ?_
            refine v_ixor dX8_areAlike_35 ?_
            refine vn_andc dX8_areAlike_36 ?_
            refine v_iconst (v := nI 1) dX8_areAlike_37 k_iconst_1 ?_
            refine v_iload_n (i := 2) dX8_areAlike_38 rfl rfl ?_
            refine vn_ishl (by omega) dX8_areAlike_39 ?_
            refine vn_ior dX8_areAlike_40 ?_
            refine v_istore (i := 4) dX8_areAlike_41 (by decide) rfl ?_
            refine v_iconst (v := nI 0) dX8_areAlike_43 k_iconst_0 ?_
            refine v_istore (i := 5) dX8_areAlike_44 (by decide) rfl ?_
            exact L46 s h1 (by omega) c15 c24 (fun hq2 z5 z6 z7 c p hc => K46 hq2 _ z5 z6 z7 c p hc) (tN τ 29 + 1) 0 (by omega) (fun k hk => absurd hk (by omega)) _ _ c p hc
          · have c24 : bt s j = 1 := c24
            refine v_goto (tgt := 145) dX8_areAlike_27 rfl ?_
            exact K46 (fun _ q => absurd c24 q) _ _ _ _ c p hc
  refine v_iconst (v := nI 1) dX8_areAlike_0 k_iconst_1 ?_
  refine v_istore_n (i := 3) dX8_areAlike_1 rfl (by decide) rfl ?_
  have L0 := L2 (2 ^ tN τ 30 - 1) 1 (by have := Nat.two_pow_pos (tN τ 30); omega) (by decide) (fun k hk1 hk => absurd hk (by omega)) none none none none (gA σ 50) (gB σ 51) hW.2.2.2.2.2.2.1
  rw [sCP_self] at L0
  exact L0
theorem cA_alike {G : Gl} {m : Nat} {ad : Nat → Nat} {η0 : AH} (hap : Mp m ad) (σ : MS) {rt : Td → Nat} (A : AS) (hG : MG rt σ A) (a : Int32) : Ct G yX8_alike cX8_alike 4 (some .int) 6 0 0 [.ref m, .int a] (MH m ad σ η0) (ap rt m ad η0 (spAlike A a) A) := by
  refine Ct.start rfl rfl (Nat.le_of_ble_eq_true rfl) (fun Γ => ?_)
  have hT := hG.1.1.1
  have hl := hT.1
  have hTh : gN σ 2 = tN A.1 30 := hG.1.1.2.1.2.1
  by_cases hin : inr a (tN A.1 30)
  case neg =>
    refine v_aload_n (i := 0) dX8_alike_0 rfl rfl ?_
    refine v_iconst (v := nI 0) dX8_alike_1 k_iconst_0 ?_
    refine mp_thrown rfl dX8_alike_2 ?_
    refine v_aload_n (i := 0) dX8_alike_5 rfl rfl ?_
    refine v_iload_n (i := 1) dX8_alike_6 rfl rfl ?_
    refine v_if_lt (tgt := 22) dX8_alike_7 rfl (fun c7 => ?_) (fun c7 => ?_)
    · refine v_iconst (v := nI 0) dX8_alike_22 k_iconst_0 ?_
      refine v_iconst (v := nI 1) dX8_alike_23 k_iconst_1 ?_
      refine v_callVi (cM_right0 hap σ) (lw_V q2197 q2199 qs56 q136 q2200) iX8_right rfl KX8 MH_m rfl rfl (by decide) (by decide) (Nat.le_of_ble_eq_true rfl) dX8_alike_24 ?_
      refine vn_if_ne (tgt := 32) dX8_alike_27 rfl (by decide) (fun c27 => ?_) (fun c27 => ?_)
      · exact absurd rfl c27
      · refine v_iconst (v := nI 0) dX8_alike_30 k_iconst_0 ?_
        exact v_iret rfl dX8_alike_31 ⟨_, rfl, sN σ 0 1, rfl, hG, fun _ => rfl, fun v q => (by unfold spAlike at q; rw [nOf_none hin (by omega)] at q; cases q)⟩
    · refine v_iload_n (i := 1) dX8_alike_10 rfl rfl ?_
      refine v_aload_n (i := 0) dX8_alike_11 rfl rfl ?_
      refine mg_things rfl dX8_alike_12 ?_
      refine v_icmp_ge (tgt := 22) dX8_alike_15 rfl (fun c15 => ?_) (fun c15 => ?_)
      · refine v_iconst (v := nI 0) dX8_alike_22 k_iconst_0 ?_
        refine v_iconst (v := nI 1) dX8_alike_23 k_iconst_1 ?_
        refine v_callVi (cM_right0 hap σ) (lw_V q2197 q2199 qs56 q136 q2200) iX8_right rfl KX8 MH_m rfl rfl (by decide) (by decide) (Nat.le_of_ble_eq_true rfl) dX8_alike_24 ?_
        refine vn_if_ne (tgt := 32) dX8_alike_27 rfl (by decide) (fun c27 => ?_) (fun c27 => ?_)
        · exact absurd rfl c27
        · refine v_iconst (v := nI 0) dX8_alike_30 k_iconst_0 ?_
          exact v_iret rfl dX8_alike_31 ⟨_, rfl, sN σ 0 1, rfl, hG, fun _ => rfl, fun v q => (by unfold spAlike at q; rw [nOf_none hin (by omega)] at q; cases q)⟩
      · exact absurd (inr_of c7 (by rw [← hTh]; exact c15) (by omega)) hin
  obtain ⟨t, ht, rfl⟩ := hin
  have hno := nOf_some ht (show tN A.1 30 < 2147483648 by omega)
  have hwt := fun i hi => (hG.1.1.2.2.1 i hi).1
  have hmn := fun i hi => (hG.1.1.2.2.1 i hi).2.1
  have L38 : ∀ (n k v : Nat), k + n = tN A.1 30 → v = alkN A.1 t k → ∀ (c : Nat → Nat) (p : Nat → Int32), Cch (bfT A.1) c → V G Γ yX8_alike cX8_alike 4 (some .int) [] 6 (ap rt m ad η0 (spAlike A (nI t)) A) 0 0 (MH m ad (sCP (sN σ 0 0) c p) η0) 38 [some (.ref m), some (.int (nI t)), some (.int (nI v)), some (.int (nI k))] [] := by
    intro n
    induction n with
    | zero =>
      intro k v hk hv c p hc
      have e : k = tN A.1 30 := by omega
      subst e
      refine v_iload_n (i := 3) dX8_alike_38 rfl rfl ?_
      refine v_aload_n (i := 0) dX8_alike_39 rfl rfl ?_
      refine mg_things rfl dX8_alike_40 ?_
      refine vn_icmp_ge (tgt := 102) dX8_alike_43 rfl (by omega) (show gN σ 2 < _ by omega) (fun c43 => ?_) (fun c43 => ?_)
      · refine v_iload_n (i := 2) dX8_alike_102 rfl rfl ?_
        exact v_iret rfl dX8_alike_103 ⟨_, rfl, sCP (sN σ 0 0) c p, rfl, MG.cp (σ := sN σ 0 0) hG hc, fun q => (by unfold spAlike at q; rw [hno] at q; cases q), fun v q => (by unfold spAlike at q; rw [hno] at q; simp only [Option.map_some] at q; cases q; exact ⟨by rw [hv], rfl⟩)⟩
      · exact absurd (show tN A.1 30 < gN σ 2 from c43) (by omega)
    | succ n ih =>
      intro k v hk hv c p hc
      have hk2 : k < tN A.1 30 := by omega
      have w1 := hwt k hk2
      have w2 := hwt t ht
      have w3 := hmn k hk2
      have w4 := hmn t ht
      have b1 := hT.2.1 k hk2
      have b2 := hT.2.1 t ht
      have hal := alkB_lt A.1 t k
      have hW : WX (sCP (sN σ 0 0) c p) A.1 (tA A.1 41) (tA A.1 42) 0 := WX.of hG.1.1 hc hG.1.2.2.1
      refine v_iload_n (i := 3) dX8_alike_38 rfl rfl ?_
      refine v_aload_n (i := 0) dX8_alike_39 rfl rfl ?_
      refine mg_things rfl dX8_alike_40 ?_
      refine vn_icmp_ge (tgt := 102) dX8_alike_43 rfl (by omega) (show gN σ 2 < _ by omega) (fun c43 => ?_) (fun c43 => ?_)
      · exact absurd (show gN σ 2 ≤ k from c43) (by omega)
      · refine v_iload_n (i := 3) dX8_alike_46 rfl rfl ?_
        refine v_iload_n (i := 1) dX8_alike_47 rfl rfl ?_
        refine vn_icmp_eq (tgt := 96) dX8_alike_48 rfl (by omega) (by omega) (fun c48 => ?_) (fun c48 => ?_)
        · refine vn_iinc 1 dX8_alike_96 rfl k_iconst_1 (by decide) rfl ?_
          refine v_goto (tgt := 38) dX8_alike_99 rfl ?_
          exact ih (k + 1) _ (by omega) (by show _ = if _ then _ else _; rw [if_neg (fun q => q.1 c48), hv]) c p hc
        · refine v_aload_n (i := 0) dX8_alike_51 rfl rfl ?_
          refine mg_weight rfl dX8_alike_52 ?_
          refine v_iload_n (i := 3) dX8_alike_55 rfl rfl ?_
          refine ml_weight hap (show k < 8 by omega) dX8_alike_56 ?_
          refine v_top (show _ = nI (tA A.1 38 k) from congrArg nI w1) ?_
          refine v_aload_n (i := 0) dX8_alike_57 rfl rfl ?_
          refine mg_weight rfl dX8_alike_58 ?_
          refine v_iload_n (i := 1) dX8_alike_61 rfl rfl ?_
          refine ml_weight hap (show t < 8 by omega) dX8_alike_62 ?_
          refine v_top (show _ = nI (tA A.1 38 t) from congrArg nI w2) ?_
          refine vn_icmp_ne (tgt := 96) dX8_alike_63 rfl (by omega) (by omega) (fun c63 => ?_) (fun c63 => ?_)
          · refine vn_iinc 1 dX8_alike_96 rfl k_iconst_1 (by decide) rfl ?_
            refine v_goto (tgt := 38) dX8_alike_99 rfl ?_
            exact ih (k + 1) _ (by omega) (by show _ = if _ then _ else _; rw [if_neg (fun q => c63 q.2.1), hv]) c p hc
          · refine v_aload_n (i := 0) dX8_alike_66 rfl rfl ?_
            refine mg_minutes rfl dX8_alike_67 ?_
            refine v_iload_n (i := 3) dX8_alike_70 rfl rfl ?_
            refine ml_minutes hap (show k < 8 by omega) dX8_alike_71 ?_
            refine v_top (show _ = nI (tA A.1 39 k) from congrArg nI w3) ?_
            refine v_aload_n (i := 0) dX8_alike_72 rfl rfl ?_
            refine mg_minutes rfl dX8_alike_73 ?_
            refine v_iload_n (i := 1) dX8_alike_76 rfl rfl ?_
            refine ml_minutes hap (show t < 8 by omega) dX8_alike_77 ?_
            refine v_top (show _ = nI (tA A.1 39 t) from congrArg nI w4) ?_
            refine vn_icmp_ne (tgt := 96) dX8_alike_78 rfl (by omega) (by omega) (fun c78 => ?_) (fun c78 => ?_)
            · refine vn_iinc 1 dX8_alike_96 rfl k_iconst_1 (by decide) rfl ?_
              refine v_goto (tgt := 38) dX8_alike_99 rfl ?_
              exact ih (k + 1) _ (by omega) (by show _ = if _ then _ else _; rw [if_neg (fun q => c78 q.2.2.1), hv]) c p hc
            · refine v_aload_n (i := 0) dX8_alike_81 rfl rfl ?_
              refine v_iload_n (i := 1) dX8_alike_82 rfl rfl ?_
              refine v_iload_n (i := 3) dX8_alike_83 rfl rfl ?_
              refine v_callVI (kc' := 0) (ks' := 0) (cX_areAlike hap (sCP (sN σ 0 0) c p) A.1 _ _ 0 hW t k (by omega) (by omega)) (lw_V q2362 q2364 qs88 q136 q2365) iX8_areAlike rfl KX8 MH_m rfl rfl (by decide) (by decide) (Nat.le_of_ble_eq_true rfl) (by decide) (by decide) dX8_alike_84 (fun x_ η' h => ?_)
              obtain ⟨rfl, c2, p2, hc2, rfl⟩ := h
              rw [sCP_sCP]
              refine vn_if_eq (tgt := 96) dX8_alike_87 rfl (by omega) (fun c87 => ?_) (fun c87 => ?_)
              · refine vn_iinc 1 dX8_alike_96 rfl k_iconst_1 (by decide) rfl ?_
                refine v_goto (tgt := 38) dX8_alike_99 rfl ?_
                exact ih (k + 1) _ (by omega) (by show _ = if _ then _ else _; rw [if_neg (fun q => q.2.2.2 c87), hv]) c2 p2 hc2
              · refine v_iload_n (i := 2) dX8_alike_90 rfl rfl ?_
                refine v_iconst (v := nI 1) dX8_alike_91 k_iconst_1 ?_
                refine v_iload_n (i := 3) dX8_alike_92 rfl rfl ?_
                refine vn_ishl (by omega) dX8_alike_93 ?_
                refine vn_ior dX8_alike_94 ?_
                refine v_istore_n (i := 2) dX8_alike_95 rfl (by decide) rfl ?_
                refine vn_iinc 1 dX8_alike_96 rfl k_iconst_1 (by decide) rfl ?_
                refine v_goto (tgt := 38) dX8_alike_99 rfl ?_
                exact ih (k + 1) _ (by omega) (by unfold alkN; rw [if_pos ⟨c48, c63, c78, c87⟩, hv]) c2 p2 hc2
  refine v_aload_n (i := 0) dX8_alike_0 rfl rfl ?_
  refine v_iconst (v := nI 0) dX8_alike_1 k_iconst_0 ?_
  refine mp_thrown rfl dX8_alike_2 ?_
  refine v_aload_n (i := 0) dX8_alike_5 rfl rfl ?_
  refine v_iload_n (i := 1) dX8_alike_6 rfl rfl ?_
  refine vn_if_lt (tgt := 22) dX8_alike_7 rfl (by omega) ?_
  refine v_iload_n (i := 1) dX8_alike_10 rfl rfl ?_
  refine v_aload_n (i := 0) dX8_alike_11 rfl rfl ?_
  refine mg_things rfl dX8_alike_12 ?_
  refine vn_icmp_ge (tgt := 22) dX8_alike_15 rfl (by omega) (show gN σ 2 < _ by omega) (fun c15 => ?_) (fun c15 => ?_)
  · exact absurd (show gN σ 2 ≤ t from c15) (by omega)
  · refine v_iconst (v := nI 1) dX8_alike_18 k_iconst_1 ?_
    refine v_goto (tgt := 23) dX8_alike_19 rfl ?_
    refine v_iconst (v := nI 1) dX8_alike_23 k_iconst_1 ?_
    refine v_callVi (cM_right1 hap σ) (lw_V q2197 q2199 qs56 q136 q2200) iX8_right rfl KX8 MH_m rfl rfl (by decide) (by decide) (Nat.le_of_ble_eq_true rfl) dX8_alike_24 ?_
    refine vn_if_ne (tgt := 32) dX8_alike_27 rfl (by decide) (fun c27 => ?_) (fun c27 => ?_)
    · refine v_iconst (v := nI 1) dX8_alike_32 k_iconst_1 ?_
      refine v_iload_n (i := 1) dX8_alike_33 rfl rfl ?_
      refine vn_ishl (by omega) dX8_alike_34 ?_
      refine v_istore_n (i := 2) dX8_alike_35 rfl (by decide) rfl ?_
      refine v_iconst (v := nI 0) dX8_alike_36 k_iconst_0 ?_
      refine v_istore_n (i := 3) dX8_alike_37 rfl (by decide) rfl ?_
      have L0 := L38 (tN A.1 30) 0 _ (by omega) rfl (gA σ 50) (gB σ 51) hG.1.2.1
      rw [show sCP (sN σ 0 0) (gA σ 50) (gB σ 51) = sN σ 0 0 from sCP_self (sN σ 0 0)] at L0
      exact L0
    · exact absurd c27 (by decide)
