set_option maxRecDepth 100000
/-! ===== a row of longs of the frame's own ===== -/
def LG (η : AH) (t a n : Nat) (g : Nat → Nat) : Prop := ∃ f, η a = some (some t, aL n f) ∧ ∀ i, f i = lN (g i)
theorem lN_toInt63 {a : Nat} (h : a < 9223372036854775808) : (lN a).toInt = a := by
  show (BitVec.ofNat 64 a).toInt = a
  rw [BitVec.toInt_ofNat']
  exact Int.bmod_eq_of_le (by omega) (by omega)
theorem lN_i32 {a : Nat} (h : a < 2147483648) : (lN a).toInt32 = nI a := by
  rw [i_eq, nI_toInt h, Int64.toInt_toInt32, lN_toInt63 (by omega)]
  exact Int.bmod_eq_of_le (by omega) (by omega)
theorem lN_min {a b : Nat} (ha : a < 9223372036854775808) (hb : b < 9223372036854775808) : (if lN b < lN a then lN b else lN a) = lN (if b < a then b else a) := by
  have : lN b < lN a ↔ b < a := by rw [Int64.lt_iff_toInt_lt, lN_toInt63 ha, lN_toInt63 hb]; omega
  by_cases c : b < a
  · rw [if_pos c, if_pos (this.mpr c)]
  · rw [if_neg c, if_neg (fun q => c (this.mp q))]
theorem capA_min {a b : Nat} (h : a ≤ 1000000000) : (if a + b < 1000000000 then a + b else 1000000000) = capA a b := by unfold capA; split <;> split <;> omega
section VLG
variable {G : Gl} {Γ : Fx} {mt : MethodName} {cc : ByteArray} {nL : Nat} {ret : Option FieldType} {tb : List ExceptionTableEntry} {d : Nat} {P : Rs → AH → Prop} {kc ks : Nat} {η : AH} {pc : Nat} {lv : List (Option Value)} {rest : List Value} {t a n i v : Nat} {g : Nat → Nat}
theorem lg_ld (h : LG η t a n g) (hi : i < n) (hn : n < 2147483648) (hdg : decode cc pc = .ok (.laload, 1)) (kk : V G Γ mt cc nL ret tb d P kc ks η (pc + 1) lv (.long (lN (g i)) :: rest)) : V G Γ mt cc nL ret tb d P kc ks η pc lv (.int (nI i) :: .ref a :: rest) := by
  obtain ⟨f, h1, h2⟩ := h
  refine v_lald h1 (vp_in_nI hi (by omega)) hdg ?_
  rw [nI_clamp (by omega), h2 i]
  exact kk
theorem lg_sto (h : LG η t a n g) (hi : i < n) (hn : n < 2147483648) (hdg : decode cc pc = .ok (.lastore, 1)) (kk : ∀ η', LG η' t a n (va_up g i v) → Kp t (t + 1) η η' → V G Γ mt cc nL ret tb d P kc ks η' (pc + 1) lv rest) : V G Γ mt cc nL ret tb d P kc ks η pc lv (.long (lN v) :: .int (nI i) :: .ref a :: rest) := by
  obtain ⟨f, h1, h2⟩ := h
  refine v_last h1 (vp_in_nI hi (by omega)) hdg (kk _ ⟨_, up_s, fun j => ?_⟩ (Kp.pt h1 ⟨Nat.le_refl _, Nat.lt_succ_self _⟩))
  rw [nI_clamp (by omega)]
  unfold vp_updL va_up
  by_cases c : j = i
  · rw [if_pos c, if_pos c]
  · rw [if_neg c, if_neg c]; exact h2 j
theorem lg_new (t n : Nat) {kc' ks' : Nat} (hn : n < 60000000) (h1 : kc' + 1 ≤ kc) (h2 : ks' + n ≤ ks) (hdg : decode cc pc = .ok (.newarray .long, 2)) (kk : ∀ q η', η q = none → LG η' t q n (fun _ => 0) → Kp t (t + 1) η η' → V G Γ mt cc nL ret tb d P kc' ks' η' (pc + 2) lv (.ref q :: rest)) : V G Γ mt cc nL ret tb d P kc ks η pc lv (.int (nI n) :: rest) :=
  v_newaT t 1 n rfl (by decide) rfl q915 (by show n * 8 ≤ _; omega) (by omega) h1 h2 hdg (fun q hq => kk q _ hq ⟨_, up_s, fun _ => rfl⟩ (Kp.nw hq))
end VLG
theorem cS_ways {G : Gl} {η0 : AH} {w : Nat} {τ : Td} (hW : Wd G η0 w τ) {t m j q : Nat} {adm : Nat → Nat} {hd ld : Nat → Nat} {wo : Nat} {μ : MS} {X : XT} (hR : MapR η0 t m w j q adm τ hd ld wo X μ) : Ct G yX3_ways cX3_ways 6 (some .int) 7 (4) (2010) [.ref m] η0 (ri fun r η => r = nI (if (dsF X (glT τ X) (Wq τ X 0)) 0 = 0 then 0 else wyF X (dsF X (glT τ X) (Wq τ X 0)) ((dsF X (glT τ X) (Wq τ X 0)) 0 - 1) 0) ∧ ∃ μ2, MapR η t m w j q adm τ hd ld wo X μ2 ∧ Kp t (t + 4) η0 η) := by
  refine Ct.start rfl rfl (Nat.le_of_ble_eq_true rfl) (fun Γ => ?_)
  generalize hRV : (if (dsF X (glT τ X) (Wq τ X 0)) 0 = 0 then 0 else wyF X (dsF X (glT τ X) (Wq τ X 0)) ((dsF X (glT τ X) (Wq τ X 0)) 0 - 1) 0) = RV
  refine v_aload_n (i := 0) dX3_ways_0 rfl rfl ?_
  refine v_callVe (kc' := 1) (ks' := 2000) (cS_left hW hR) (lw_V q798 q770 q771 q124 q772) iX3_left rfl KX3 hR.1.1.rcv rfl rfl (by decide) (by decide) (Nat.le_of_ble_eq_true rfl) (by decide) (by decide) dX3_ways_1 (kr_R (fun x_ η h => ?_)) kx_R
  obtain ⟨rfl, μ2, hR2, h14, h1o, h0⟩ := h
  obtain ⟨hM, hE, g11, hX, hF, hT, g14, g15, r14, r15⟩ := id hR2
  obtain ⟨x1, x2, x3, x4, x5, x6⟩ := id hX
  have hw := hR2.w
  obtain ⟨w1, w2, w3, w4, w5, w6⟩ := id hw
  have hn2 := x3.1
  have hdd := r14 h14
  have hds : ∀ {k}, k < xn X → gA μ2 12 k = (dsF X (glT τ X) (Wq τ X 0)) k := fun hk => hR2.d0 h14 hk
  have hM := hM.1
  have hf0 := hdd.2 0 (by omega)
  have hRV2 : RV = if gA μ2 12 0 = 0 then 0 else wyF X (gA μ2 12) (gA μ2 12 0 - 1) 0 := by
    rw [← hRV, hds (show 0 < xn X by omega)]
    by_cases c : (dsF X (glT τ X) (Wq τ X 0)) 0 = 0
    · rw [if_pos c, if_pos c]
    · rw [if_neg c, if_neg c, wyF_congr hw (fun j hj => (hds hj).symm) (by omega)]
  have KW : ∀ {η η' : AH}, MapR η t m w j q adm τ hd ld wo X μ2 → Kp t (t + 4) η0 η → Kp (t + 3) (t + 3 + 1) η η' → MapR η' t m w j q adm τ hd ld wo X μ2 ∧ Kp t (t + 4) η0 η' := fun h0 h1 h2 => ⟨h0.kp h2 (by omega), h1.th h2 (by omega) (by omega)⟩
  refine v_astore_n (i := 1) dX3_ways_4 rfl (by decide) rfl ?_
  refine v_aload_n (i := 0) dX3_ways_5 rfl rfl ?_
  refine go_get0 hM KX3 9 (by decide) rfl (xn X) x1 q290 dX3_ways_6 ?_
  refine lg_new (kc' := 0) (ks' := 2000 - xn X) (t + 3) (xn X) (by omega) (by decide) (by omega) dX3_ways_9 (fun la η hla hL hk => ?_)
  obtain ⟨hR2, h0⟩ := KW hR2 h0 hk
  have hM := hR2.1.1
  refine v_astore_n (i := 2) dX3_ways_11 rfl (by decide) rfl ?_
  refine v_aload_n (i := 1) dX3_ways_12 rfl rfl ?_
  refine v_iconst (v := nI 0) dX3_ways_13 k_iconst_0 ?_
  refine go_ld11 hM 12 (by decide) rfl (show _ < 2000 from (by omega)) (by decide) _ rfl dX3_ways_14 ?_
  refine v_iconst (v := -1) dX3_ways_15 k_iconst_m1 ?_
  refine vo_icmp_ne (tgt := 21) dX3_ways_16 rfl (by omega) (fun c16 => ?_) (fun c16 => ?_)
  · have L23 : ∀ (n d : Nat) (g : Nat → Nat) (η : AH) (z4 z5 : Option Value), d + n = (gA μ2 12) 0 → LG η (t + 3) la (xn X) g → MapR η t m w j q adm τ hd ld wo X μ2 → Kp t (t + 4) η0 η → (∀ k, k < xn X → (gA μ2 12) k ≠ 0 → (gA μ2 12) k ≤ d → g k = wyF X (gA μ2 12) ((gA μ2 12) k - 1) k) → V G Γ yX3_ways cX3_ways 6 (some .int) [] 7 (ri fun r η => r = nI RV ∧ ∃ μ2, MapR η t m w j q adm τ hd ld wo X μ2 ∧ Kp t (t + 4) η0 η) (0) (2000 - xn X) (η) 23 [some (.ref m), some (.ref (adm 12)), some (.ref la), some (.int (nI d)), z4, z5] [] := by
      intro n
      induction n with
      | zero =>
        intro d g η z4 z5 hdn hL hR2 h0 hg
        have hM := hR2.1.1
        obtain ⟨u, hu⟩ : ∃ u, (gA μ2 12) 0 = u + 1 := ⟨(gA μ2 12) 0 - 1, by omega⟩
        refine v_iload_n (i := 3) dX3_ways_23 rfl rfl ?_
        refine v_aload_n (i := 1) dX3_ways_24 rfl rfl ?_
        refine v_iconst (v := nI 0) dX3_ways_25 k_iconst_0 ?_
        refine go_ld11 hM 12 (by decide) rfl (show _ < 2000 from (by omega)) (by decide) _ hu dX3_ways_26 ?_
        refine vn_icmp_gt (tgt := 150) dX3_ways_27 rfl (by omega) (by omega) (fun c27 => ?_) (fun c27 => ?_)
        · refine v_aload_n (i := 2) dX3_ways_150 rfl rfl ?_
          refine v_iconst (v := nI 0) dX3_ways_151 k_iconst_0 ?_
          refine lg_ld hL (by omega) (by omega) dX3_ways_152 ?_
          refine v_l2i dX3_ways_153 (lN_i32 (a := g 0) (by rw [hg 0 (by omega) (by omega) (by omega)]; exact Nat.lt_of_le_of_lt (wyF_le _ _ _ _) (by decide))) ?_
          exact v_iret rfl dX3_ways_154 ⟨_, rfl, by rw [hRV2, if_neg (by omega), hg 0 (by omega) (by omega) (by omega)], μ2, hR2, h0⟩
        · omega
      | succ n ih =>
        intro d g η z4 z5 hdn hL hR2 h0 hg
        have hM := hR2.1.1
        have L33 : ∀ (qq k : Nat) (g : Nat → Nat) (η : AH) (z5 : Option Value), k + qq = xn X → LG η (t + 3) la (xn X) g → MapR η t m w j q adm τ hd ld wo X μ2 → Kp t (t + 4) η0 η → (∀ j, j < xn X → (gA μ2 12) j ≠ 0 → (gA μ2 12) j ≤ d → g j = wyF X (gA μ2 12) ((gA μ2 12) j - 1) j) → (∀ j, j < k → (gA μ2 12) j = d + 1 → g j = wyF X (gA μ2 12) d j) → V G Γ yX3_ways cX3_ways 6 (some .int) [] 7 (ri fun r η => r = nI RV ∧ ∃ μ2, MapR η t m w j q adm τ hd ld wo X μ2 ∧ Kp t (t + 4) η0 η) (0) (2000 - xn X) (η) 33 [some (.ref m), some (.ref (adm 12)), some (.ref la), some (.int (nI d)), some (.int (nI k)), z5] [] := by
          intro qq
          induction qq with
          | zero =>
            intro k g η z5 hkq hL hR2 h0 hg hg2
            have hM := hR2.1.1
            have ek : k = xn X := by omega
            subst ek
            refine v_iload (i := 4) dX3_ways_33 rfl ?_
            refine v_aload_n (i := 0) dX3_ways_35 rfl rfl ?_
            refine go_get0 hM KX3 9 (by decide) rfl (xn X) x1 q290 dX3_ways_36 ?_
            refine vn_icmp_ge (tgt := 144) dX3_ways_39 rfl (by omega) (by omega) (fun c39 => ?_) (fun c39 => ?_)
            · refine vn_iinc 1 dX3_ways_144 rfl k_iconst_1 (by decide) rfl ?_
              refine v_goto (tgt := 23) dX3_ways_147 rfl ?_
              exact ih (d + 1) g η _ _ (by omega) hL hR2 h0 (fun j hj h1 h2 => by by_cases y : (gA μ2 12) j = d + 1; (rw [y]; exact hg2 j hj y); exact hg j hj h1 (by omega))
            · exact absurd (show xn X < xn X from c39) (by omega)
          | succ qq ihq =>
            intro k g η z5 hkq hL hR2 h0 hg hg2
            have hM := hR2.1.1
            have hk : k < xn X := by omega
            have hfk := hdd.2 k hk
            have hF1 := hF k (by omega)
            have hF2 := hF (k + 1) (by omega)
            have hs1 := w4 k hk
            have hs2 := w5 (k + 1) (by omega)
            have L75 : ∀ (p e a : Nat) (g' : Nat → Nat) (η : AH), e + p = xfs X (k + 1) → xfs X k ≤ e → (gA μ2 12) k = d + 1 → g' k = a → a ≤ 1000000000 → (∀ j, j ≠ k → g' j = g j) → LG η (t + 3) la (xn X) g' → MapR η t m w j q adm τ hd ld wo X μ2 → Kp t (t + 4) η0 η → ((d = 0 ∧ a = 1) ∨ (1 ≤ d ∧ foldE (fun e a => if (gA μ2 12) (xej X e) = d - 1 + 1 then capA a (wyF X (gA μ2 12) (d - 1) (xej X e)) else a) p e a = wyF X (gA μ2 12) d k)) → V G Γ yX3_ways cX3_ways 6 (some .int) [] 7 (ri fun r η => r = nI RV ∧ ∃ μ2, MapR η t m w j q adm τ hd ld wo X μ2 ∧ Kp t (t + 4) η0 η) (0) (2000 - xn X) (η) 75 [some (.ref m), some (.ref (adm 12)), some (.ref la), some (.int (nI d)), some (.int (nI k)), some (.int (nI e))] [] := by
              intro p
              induction p with
              | zero =>
                intro e a g' η hep hle hfd hga ha hgo hL hR2 h0 hfo
                have hM := hR2.1.1
                refine v_iload (i := 5) dX3_ways_75 rfl ?_
                refine v_aload_n (i := 0) dX3_ways_77 rfl rfl ?_
                refine go_getA hM KX3 5 (by decide) (by decide) q284 dX3_ways_78 ?_
                refine v_iload (i := 4) dX3_ways_81 rfl ?_
                refine v_iconst (v := nI 1) dX3_ways_83 k_iconst_1 ?_
                refine vn_iadd dX3_ways_84 ?_
                refine go_ld10 hM 5 (by decide) rfl (show _ < 2001 from (by omega)) (by decide) _ hF2 dX3_ways_85 ?_
                refine vn_icmp_ge (tgt := 138) dX3_ways_86 rfl (by omega) (by omega) (fun c86 => ?_) (fun c86 => ?_)
                · refine vn_iinc 1 dX3_ways_138 rfl k_iconst_1 (by decide) rfl ?_
                  refine v_goto (tgt := 33) dX3_ways_141 rfl ?_
                  exact ihq (k + 1) g' η _ (by omega) hL hR2 h0 (fun j hj2 h1 h2 => by rw [hgo j (fun y => by rw [y] at h2; omega)]; exact hg j hj2 h1 h2) (fun j hj2 h1 => by by_cases y : j = k; (rw [y, hga]; exact (hfo.elim (fun w => by rw [w.1, w.2]; rfl) (fun w => w.2))); (rw [hgo j y]; exact hg2 j (by omega) h1))
                · omega
              | succ p ihp =>
                intro e a g' η hep hle hfd hga ha hgo hL hR2 h0 hfo
                have hM := hR2.1.1
                have he : e < xe X := by omega
                have hj := w6 e he
                have x6e := (x6 e he).1
                have hfj := hdd.2 _ hj
                have hwl := wyF_le X (gA μ2 12) (d - 1) (xej X e)
                refine v_iload (i := 5) dX3_ways_75 rfl ?_
                refine v_aload_n (i := 0) dX3_ways_77 rfl rfl ?_
                refine go_getA hM KX3 5 (by decide) (by decide) q284 dX3_ways_78 ?_
                refine v_iload (i := 4) dX3_ways_81 rfl ?_
                refine v_iconst (v := nI 1) dX3_ways_83 k_iconst_1 ?_
                refine vn_iadd dX3_ways_84 ?_
                refine go_ld10 hM 5 (by decide) rfl (show _ < 2001 from (by omega)) (by decide) _ hF2 dX3_ways_85 ?_
                refine vn_icmp_ge (tgt := 138) dX3_ways_86 rfl (by omega) (by omega) (fun c86 => ?_) (fun c86 => ?_)
                · omega
                · refine v_iload_n (i := 3) dX3_ways_89 rfl rfl ?_
                  refine vn_if_le (tgt := 132) dX3_ways_90 rfl (by omega) (fun c90 => ?_) (fun c90 => ?_)
                  · refine vn_iinc 1 dX3_ways_132 rfl k_iconst_1 (by decide) rfl ?_
                    refine v_goto (tgt := 75) dX3_ways_135 rfl ?_
                    exact ihp (e + 1) a g' η (by omega) (by omega) hfd hga ha hgo hL hR2 h0 (hfo.elim Or.inl (fun w => absurd w.1 (by omega)))
                  · refine v_aload_n (i := 1) dX3_ways_93 rfl rfl ?_
                    refine v_aload_n (i := 0) dX3_ways_94 rfl rfl ?_
                    refine go_getA hM KX3 6 (by decide) (by decide) q285 dX3_ways_95 ?_
                    refine v_iload (i := 5) dX3_ways_98 rfl ?_
                    refine go_ld10 hM 6 (by decide) rfl (show _ < 40000 from (by omega)) (by decide) _ x6e dX3_ways_100 ?_
                    refine go_ld11 hM 12 (by decide) rfl (show _ < 2000 from (by omega)) (by decide) _ rfl dX3_ways_101 ?_
                    refine v_iload_n (i := 3) dX3_ways_102 rfl rfl ?_
                    refine v_iconst (v := nI 1) dX3_ways_103 k_iconst_1 ?_
                    refine vn_isub (by omega) dX3_ways_104 ?_
                    refine von_icmp_ne (tgt := 132) dX3_ways_105 rfl (by omega) (by omega) (fun c105 => ?_) (fun c105 => ?_)
                    · refine vn_iinc 1 dX3_ways_132 rfl k_iconst_1 (by decide) rfl ?_
                      refine v_goto (tgt := 75) dX3_ways_135 rfl ?_
                      have hfo2 := (hfo.resolve_left (fun w => by omega)).2
                      have hfo2 : foldE _ p (e + 1) (if (gA μ2 12) (xej X e) = d - 1 + 1 then capA a (wyF X (gA μ2 12) (d - 1) (xej X e)) else a) = _ := hfo2
                      rw [if_neg (by omega)] at hfo2
                      exact ihp (e + 1) a g' η (by omega) (by omega) hfd hga ha hgo hL hR2 h0 (Or.inr ⟨by omega, hfo2⟩)
                    · have hgj : g' (xej X e) = wyF X (gA μ2 12) (d - 1) (xej X e) := by rw [hgo _ (fun y => by rw [y] at c105; omega), hg _ hj (by omega) (by omega), show (gA μ2 12) (xej X e) - 1 = d - 1 by omega]
                      refine v_aload_n (i := 2) dX3_ways_108 rfl rfl ?_
                      refine v_iload (i := 4) dX3_ways_109 rfl ?_
                      refine v_ldc2 (v := lN 1000000000) q911 dX3_ways_111 ?_
                      refine v_aload_n (i := 2) dX3_ways_114 rfl rfl ?_
                      refine v_iload (i := 4) dX3_ways_115 rfl ?_
                      refine lg_ld hL (by omega) (by omega) dX3_ways_117 ?_
                      rw [hga]
                      refine v_aload_n (i := 2) dX3_ways_118 rfl rfl ?_
                      refine v_aload_n (i := 0) dX3_ways_119 rfl rfl ?_
                      refine go_getA hM KX3 6 (by decide) (by decide) q285 dX3_ways_120 ?_
                      refine v_iload (i := 5) dX3_ways_123 rfl ?_
                      refine go_ld10 hM 6 (by decide) rfl (show _ < 40000 from (by omega)) (by decide) _ x6e dX3_ways_125 ?_
                      refine lg_ld hL (by omega) (by omega) dX3_ways_126 ?_
                      rw [hgj]
                      refine v_ladd dX3_ways_127 ?_
                      rw [lN_add]
                      refine v_mminL q912 (by rw [lN_min (by decide) (by omega), capA_min ha]) (by decide) (Nat.le_of_ble_eq_true rfl) dX3_ways_128 ?_
                      refine lg_sto hL (by omega) (by omega) dX3_ways_131 (fun η hL hk => ?_)
                      obtain ⟨hR2, h0⟩ := KW hR2 h0 hk
                      have hM := hR2.1.1
                      refine vn_iinc 1 dX3_ways_132 rfl k_iconst_1 (by decide) rfl ?_
                      refine v_goto (tgt := 75) dX3_ways_135 rfl ?_
                      have hfo2 := (hfo.resolve_left (fun w => by omega)).2
                      have hfo2 : foldE _ p (e + 1) (if (gA μ2 12) (xej X e) = d - 1 + 1 then capA a (wyF X (gA μ2 12) (d - 1) (xej X e)) else a) = _ := hfo2
                      rw [if_pos (by omega)] at hfo2
                      exact ihp (e + 1) (capA a (wyF X (gA μ2 12) (d - 1) (xej X e))) _ η (by omega) (by omega) hfd va_up_e (capA_le ha) (fun j hj2 => by rw [va_up_n hj2]; exact hgo j hj2) hL hR2 h0 (Or.inr ⟨by omega, hfo2⟩)
            refine v_iload (i := 4) dX3_ways_33 rfl ?_
            refine v_aload_n (i := 0) dX3_ways_35 rfl rfl ?_
            refine go_get0 hM KX3 9 (by decide) rfl (xn X) x1 q290 dX3_ways_36 ?_
            refine vn_icmp_ge (tgt := 144) dX3_ways_39 rfl (by omega) (by omega) (fun c39 => ?_) (fun c39 => ?_)
            · exact absurd (show xn X ≤ k from c39) (by omega)
            · refine v_aload_n (i := 1) dX3_ways_42 rfl rfl ?_
              refine v_iload (i := 4) dX3_ways_43 rfl ?_
              refine go_ld11 hM 12 (by decide) rfl (show _ < 2000 from (by omega)) (by decide) _ rfl dX3_ways_45 ?_
              refine v_iload_n (i := 3) dX3_ways_46 rfl rfl ?_
              refine von_icmp_eq (tgt := 53) dX3_ways_47 rfl (by omega) (by omega) (fun c47 => ?_) (fun c47 => ?_)
              · refine v_aload_n (i := 2) dX3_ways_53 rfl rfl ?_
                refine v_iload (i := 4) dX3_ways_54 rfl ?_
                refine v_iload_n (i := 3) dX3_ways_56 rfl rfl ?_
                refine vn_if_ne (tgt := 64) dX3_ways_57 rfl (by omega) (fun c57 => ?_) (fun c57 => ?_)
                · refine v_lconst (v := lN 0) dX3_ways_64 rfl ?_
                  refine lg_sto hL (by omega) (by omega) dX3_ways_65 (fun η hL hk => ?_)
                  obtain ⟨hR2, h0⟩ := KW hR2 h0 hk
                  have hM := hR2.1.1
                  refine v_aload_n (i := 0) dX3_ways_66 rfl rfl ?_
                  refine go_getA hM KX3 5 (by decide) (by decide) q284 dX3_ways_67 ?_
                  refine v_iload (i := 4) dX3_ways_70 rfl ?_
                  refine go_ld10 hM 5 (by decide) rfl (show _ < 2001 from (by omega)) (by decide) _ hF1 dX3_ways_72 ?_
                  refine v_istore (i := 5) dX3_ways_73 (by decide) rfl ?_
                  exact L75 (xfs X (k + 1) - xfs X k) (xfs X k) 0 (va_up g k 0) η (by omega) (Nat.le_refl _) c47 va_up_e (by decide) (fun j hj2 => va_up_n hj2) hL hR2 h0 (Or.inr ⟨by omega, by have e : d = d - 1 + 1 := (by omega); rw [show wyF X (gA μ2 12) d k = wyF X (gA μ2 12) (d - 1 + 1) k by rw [← e]]; rfl⟩)
                · refine v_lconst (v := lN 1) dX3_ways_60 rfl ?_
                  refine v_goto (tgt := 65) dX3_ways_61 rfl ?_
                  refine lg_sto hL (by omega) (by omega) dX3_ways_65 (fun η hL hk => ?_)
                  obtain ⟨hR2, h0⟩ := KW hR2 h0 hk
                  have hM := hR2.1.1
                  refine v_aload_n (i := 0) dX3_ways_66 rfl rfl ?_
                  refine go_getA hM KX3 5 (by decide) (by decide) q284 dX3_ways_67 ?_
                  refine v_iload (i := 4) dX3_ways_70 rfl ?_
                  refine go_ld10 hM 5 (by decide) rfl (show _ < 2001 from (by omega)) (by decide) _ hF1 dX3_ways_72 ?_
                  refine v_istore (i := 5) dX3_ways_73 (by decide) rfl ?_
                  exact L75 (xfs X (k + 1) - xfs X k) (xfs X k) 1 (va_up g k 1) η (by omega) (Nat.le_refl _) c47 va_up_e (by decide) (fun j hj2 => va_up_n hj2) hL hR2 h0 (Or.inl ⟨by omega, rfl⟩)
              · refine v_goto (tgt := 138) dX3_ways_50 rfl ?_
                refine vn_iinc 1 dX3_ways_138 rfl k_iconst_1 (by decide) rfl ?_
                refine v_goto (tgt := 33) dX3_ways_141 rfl ?_
                exact ihq (k + 1) g η _ (by omega) hL hR2 h0 hg (fun j hj2 h1 => by by_cases y : j = k; (rw [y] at h1; exact absurd h1 c47); exact hg2 j (by omega) h1)
        obtain ⟨u, hu⟩ : ∃ u, (gA μ2 12) 0 = u + 1 := ⟨(gA μ2 12) 0 - 1, by omega⟩
        refine v_iload_n (i := 3) dX3_ways_23 rfl rfl ?_
        refine v_aload_n (i := 1) dX3_ways_24 rfl rfl ?_
        refine v_iconst (v := nI 0) dX3_ways_25 k_iconst_0 ?_
        refine go_ld11 hM 12 (by decide) rfl (show _ < 2000 from (by omega)) (by decide) _ hu dX3_ways_26 ?_
        refine vn_icmp_gt (tgt := 150) dX3_ways_27 rfl (by omega) (by omega) (fun c27 => ?_) (fun c27 => ?_)
        · omega
        · refine v_iconst (v := nI 0) dX3_ways_30 k_iconst_0 ?_
          refine v_istore (i := 4) dX3_ways_31 (by decide) rfl ?_
          exact L33 (xn X) 0 g η _ (by omega) hL hR2 h0 hg (fun j hj => absurd hj (by omega))
    refine v_iconst (v := nI 0) dX3_ways_21 k_iconst_0 ?_
    refine v_istore_n (i := 3) dX3_ways_22 rfl (by decide) rfl ?_
    exact L23 ((gA μ2 12) 0) 0 (fun _ => 0) η none none (by omega) hL hR2 h0 (fun k _ h1 h2 => absurd h2 (by omega))
  · refine v_iconst (v := nI 0) dX3_ways_19 k_iconst_0 ?_
    exact v_iret rfl dX3_ways_20 ⟨_, rfl, by rw [hRV2, if_pos c16], μ2, hR2, h0⟩
