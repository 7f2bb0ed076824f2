theorem tok_c (τ : MS) (w w2 e f : Nat) : sN (sW (sN (sW τ w) 22 e) w2) 22 f = sN (sW τ w2) 22 f := by
  unfold sN sW
  dsimp only
  congr 1
  funext j
  split <;> rfl
theorem sN_3 (τ : MS) (a e b : Nat) : sN (sN (sN τ 26 a) 22 e) 26 b = sN (sN τ 26 b) 22 e := by
  unfold sN
  dsimp only
  congr 1
  funext j
  by_cases h1 : j = 26
  · subst h1; rfl
  · by_cases h2 : j = 22
    · subst h2; rfl
    · simp [h1, h2]
theorem tok_a (σ : MS) (q c : Nat) : sN (sN (sW (sN (sN σ 22 q) 24 q) 0) 26 0) 27 c = sN (sW (sN (sN (sW (sN (sN σ 22 q) 24 q) 0) 26 0) 27 c) 0) 22 q := by
  unfold sN sW
  dsimp only
  congr 1
  funext j
  by_cases h1 : j = 22
  · subst h1; rfl
  · simp [h1]
theorem tok_b (σ : MS) (q c : Nat) : sN (sN (sW (sN (sN σ 22 q) 24 q) 0) 26 0) 27 c = sN (sN (sN (sN (sW (sN (sN σ 22 q) 24 q) 0) 26 0) 27 c) 26 0) 22 q := by
  unfold sN sW
  dsimp only
  congr 1
  funext j
  by_cases h1 : j = 22
  · subst h1; rfl
  · by_cases h2 : j = 26
    · subst h2; rfl
    · simp [h1, h2]
theorem cM_byteAt {G : Gl} {m : Nat} {ad : Nat → Nat} {η0 : AH} (hap : Mp m ad) (σ : MS) (k : Nat) (hk : k < 2147483648) (hz : gN σ 21 ≤ 700) : Ct G yX8_byteAt cX8_byteAt 2 (some .int) 1 0 0 [.ref m, .int (nI k)] (MH m ad σ η0) (re (some (.int (nI (bB (gA σ 17) (gN σ 21) k)))) (MH m ad σ η0)) := by
  refine Ct.start rfl rfl (Nat.le_of_ble_eq_true rfl) (fun Γ => ?_)
  refine v_iload_n (i := 1) dX8_byteAt_0 rfl rfl ?_
  refine v_aload_n (i := 0) dX8_byteAt_1 rfl rfl ?_
  refine mg_size rfl dX8_byteAt_2 ?_
  refine vn_icmp_ge (tgt := 17) dX8_byteAt_5 rfl (by omega) (by omega) (fun c5 => ?_) (fun c5 => ?_)
  · refine v_iconst (v := nI 0) dX8_byteAt_17 k_iconst_0 ?_
    exact v_iret rfl dX8_byteAt_18 ⟨by unfold bB; rw [if_neg (by omega)], rfl⟩
  · refine v_aload_n (i := 0) dX8_byteAt_8 rfl rfl ?_
    refine mg_tape rfl dX8_byteAt_9 ?_
    refine v_iload_n (i := 1) dX8_byteAt_12 rfl rfl ?_
    refine ml_tape hap (by omega) dX8_byteAt_13 ?_
    refine v_goto (tgt := 18) dX8_byteAt_14 rfl ?_
    exact v_iret rfl dX8_byteAt_18 ⟨by unfold bB; rw [if_pos c5], rfl⟩
theorem cM_isLetter {G : Gl} {η : AH} (c : Nat) (hc : c < 2147483648) : Ct G yX8_isLetter cX8_isLetter 1 (some .boolean) 1 0 0 [.int (nI c)] η (re (some (.int (nI (if isL c then 1 else 0)))) η) := by
  refine Ct.start rfl rfl (Nat.le_of_ble_eq_true rfl) (fun Γ => ?_)
  refine v_iload_n (i := 0) dX8_isLetter_0 rfl rfl ?_
  refine v_bipush (v := nI 97) dX8_isLetter_1 k_bipush_97 ?_
  refine vn_icmp_lt (tgt := 16) dX8_isLetter_3 rfl (by omega) (by omega) (fun c3 => ?_) (fun c3 => ?_)
  · refine v_iconst (v := nI 0) dX8_isLetter_16 k_iconst_0 ?_
    exact v_zret rfl rfl dX8_isLetter_17 ⟨by rw [if_neg (by omega)], rfl⟩
  · refine v_iload_n (i := 0) dX8_isLetter_6 rfl rfl ?_
    refine v_bipush (v := nI 122) dX8_isLetter_7 k_bipush_122 ?_
    refine vn_icmp_gt (tgt := 16) dX8_isLetter_9 rfl (by omega) (by omega) (fun c9 => ?_) (fun c9 => ?_)
    · refine v_iconst (v := nI 0) dX8_isLetter_16 k_iconst_0 ?_
      exact v_zret rfl rfl dX8_isLetter_17 ⟨by rw [if_neg (by omega)], rfl⟩
    · refine v_iconst (v := nI 1) dX8_isLetter_12 k_iconst_1 ?_
      refine v_goto (tgt := 17) dX8_isLetter_13 rfl ?_
      exact v_zret rfl rfl dX8_isLetter_17 ⟨by rw [if_pos (by omega)], rfl⟩
theorem cM_isDigit {G : Gl} {η : AH} (c : Nat) (hc : c < 2147483648) : Ct G yX8_isDigit cX8_isDigit 1 (some .boolean) 1 0 0 [.int (nI c)] η (re (some (.int (nI (if isD c then 1 else 0)))) η) := by
  refine Ct.start rfl rfl (Nat.le_of_ble_eq_true rfl) (fun Γ => ?_)
  refine v_iload_n (i := 0) dX8_isDigit_0 rfl rfl ?_
  refine v_bipush (v := nI 48) dX8_isDigit_1 k_bipush_48 ?_
  refine vn_icmp_lt (tgt := 16) dX8_isDigit_3 rfl (by omega) (by omega) (fun c3 => ?_) (fun c3 => ?_)
  · refine v_iconst (v := nI 0) dX8_isDigit_16 k_iconst_0 ?_
    exact v_zret rfl rfl dX8_isDigit_17 ⟨by rw [if_neg (by omega)], rfl⟩
  · refine v_iload_n (i := 0) dX8_isDigit_6 rfl rfl ?_
    refine v_bipush (v := nI 57) dX8_isDigit_7 k_bipush_57 ?_
    refine vn_icmp_gt (tgt := 16) dX8_isDigit_9 rfl (by omega) (by omega) (fun c9 => ?_) (fun c9 => ?_)
    · refine v_iconst (v := nI 0) dX8_isDigit_16 k_iconst_0 ?_
      exact v_zret rfl rfl dX8_isDigit_17 ⟨by rw [if_neg (by omega)], rfl⟩
    · refine v_iconst (v := nI 1) dX8_isDigit_12 k_iconst_1 ?_
      refine v_goto (tgt := 17) dX8_isDigit_13 rfl ?_
      exact v_zret rfl rfl dX8_isDigit_17 ⟨by rw [if_pos (by omega)], rfl⟩
theorem cM_isGood {G : Gl} {m : Nat} {ad : Nat → Nat} {η0 : AH} (hap : Mp m ad) (σ : MS) (h : gN σ 19 < 2147483648) : Ct G yX8_isGood cX8_isGood 1 (some .boolean) 1 0 0 [.ref m] (MH m ad σ η0) (re (some (.int (nI (if gN σ 19 = 0 then 1 else 0)))) (MH m ad σ η0)) := by
  refine Ct.start rfl rfl (Nat.le_of_ble_eq_true rfl) (fun Γ => ?_)
  refine v_aload_n (i := 0) dX8_isGood_0 rfl rfl ?_
  refine mg_faultKind rfl dX8_isGood_1 ?_
  refine vn_if_ne (tgt := 11) dX8_isGood_4 rfl (by omega) (fun c4 => ?_) (fun c4 => ?_)
  · refine v_iconst (v := nI 0) dX8_isGood_11 k_iconst_0 ?_
    exact v_zret rfl rfl dX8_isGood_12 ⟨by simp_all, rfl⟩
  · refine v_iconst (v := nI 1) dX8_isGood_7 k_iconst_1 ?_
    refine v_goto (tgt := 12) dX8_isGood_8 rfl ?_
    exact v_zret rfl rfl dX8_isGood_12 ⟨by simp_all, rfl⟩
theorem cM_wrong {G : Gl} {m : Nat} {ad : Nat → Nat} {η0 : AH} (hap : Mp m ad) (σ : MS) (k : Nat) (h : gN σ 19 < 2147483648) : Ct G yX8_wrong cX8_wrong 2 none 1 0 0 [.ref m, .int (nI k)] (MH m ad σ η0) (re none (MH m ad (if gN σ 19 = 0 then sN (sN σ 19 k) 20 (gN σ 24 + 1) else σ) η0)) := by
  refine Ct.start rfl rfl (Nat.le_of_ble_eq_true rfl) (fun Γ => ?_)
  refine v_aload_n (i := 0) dX8_wrong_0 rfl rfl ?_
  refine mg_faultKind rfl dX8_wrong_1 ?_
  refine vn_if_eq (tgt := 8) dX8_wrong_4 rfl (by omega) (fun c4 => ?_) (fun c4 => ?_)
  · refine v_aload_n (i := 0) dX8_wrong_8 rfl rfl ?_
    refine v_iload_n (i := 1) dX8_wrong_9 rfl rfl ?_
    refine mp_faultKind rfl dX8_wrong_10 ?_
    refine v_aload_n (i := 0) dX8_wrong_13 rfl rfl ?_
    refine v_aload_n (i := 0) dX8_wrong_14 rfl rfl ?_
    refine mg_place rfl dX8_wrong_15 ?_
    refine mp_faultPlace_n rfl dX8_wrong_18 ?_
    exact v_vret rfl dX8_wrong_21 ⟨rfl, by rw [if_pos c4]; rfl⟩
  · exact v_vret rfl dX8_wrong_7 ⟨rfl, by rw [if_neg c4]⟩
theorem cM_isSign {G : Gl} {m : Nat} {ad : Nat → Nat} {η0 : AH} (hap : Mp m ad) (σ : MS) (c : Nat) (hc : c < 2147483648) (h1 : gN σ 23 < 2147483648) (h2 : gN σ 27 < 2147483648) : Ct G yX8_isSign cX8_isSign 2 (some .boolean) 1 0 0 [.ref m, .int (nI c)] (MH m ad σ η0) (re (some (.int (nI (if gN σ 23 = 3 ∧ gN σ 27 = c then 1 else 0)))) (MH m ad σ η0)) := by
  refine Ct.start rfl rfl (Nat.le_of_ble_eq_true rfl) (fun Γ => ?_)
  refine v_aload_n (i := 0) dX8_isSign_0 rfl rfl ?_
  refine mg_sort rfl dX8_isSign_1 ?_
  refine v_iconst (v := nI 3) dX8_isSign_4 k_iconst_3 ?_
  refine vn_icmp_ne (tgt := 20) dX8_isSign_5 rfl (by omega) (by omega) (fun c5 => ?_) (fun c5 => ?_)
  · refine v_iconst (v := nI 0) dX8_isSign_20 k_iconst_0 ?_
    exact v_zret rfl rfl dX8_isSign_21 ⟨by simp_all, rfl⟩
  · refine v_aload_n (i := 0) dX8_isSign_8 rfl rfl ?_
    refine mg_sign rfl dX8_isSign_9 ?_
    refine v_iload_n (i := 1) dX8_isSign_12 rfl rfl ?_
    refine vn_icmp_ne (tgt := 20) dX8_isSign_13 rfl (by omega) (by omega) (fun c13 => ?_) (fun c13 => ?_)
    · refine v_iconst (v := nI 0) dX8_isSign_20 k_iconst_0 ?_
      exact v_zret rfl rfl dX8_isSign_21 ⟨by simp_all, rfl⟩
    · refine v_iconst (v := nI 1) dX8_isSign_16 k_iconst_1 ?_
      refine v_goto (tgt := 21) dX8_isSign_17 rfl ?_
      exact v_zret rfl rfl dX8_isSign_21 ⟨by simp_all, rfl⟩
theorem cM_goes {G : Gl} {m : Nat} {ad : Nat → Nat} {η0 : AH} (hap : Mp m ad) (σ : MS) (hz : gN σ 21 ≤ 700) (hn : gN σ 22 ≤ gN σ 21) (hb : ∀ k, k < 700 → gA σ 17 k < 256) : Ct G yX8_goes cX8_goes 2 none 2 0 0 [.ref m] (MH m ad σ η0) (re none (MH m ad (setTok σ (tk (gA σ 17) (gN σ 21) (gN σ 22))) η0)) := by
  refine Ct.start rfl rfl (Nat.le_of_ble_eq_true rfl) (fun Γ => ?_)
  have hB : ∀ k, bB (gA σ 17) (gN σ 21) k < 256 := fun k => by
    unfold bB
    split
    · exact hb k (by omega)
    · decide
  have J : ∀ (τ : MS) (z : Option Value), gN τ 24 ≤ gN τ 22 → sN τ 25 (gN τ 22 - gN τ 24) = setTok σ (tk (gA σ 17) (gN σ 21) (gN σ 22)) → V G Γ yX8_goes cX8_goes 2 none [] 2 (re none (MH m ad (setTok σ (tk (gA σ 17) (gN σ 21) (gN σ 22))) η0)) 0 0 (MH m ad τ η0) 331 [some (.ref m), z] [] := by
    intro τ z h1 h2
    refine v_aload_n (i := 0) dX8_goes_331 rfl rfl ?_
    refine v_aload_n (i := 0) dX8_goes_332 rfl rfl ?_
    refine mg_next rfl dX8_goes_333 ?_
    refine v_aload_n (i := 0) dX8_goes_336 rfl rfl ?_
    refine mg_place rfl dX8_goes_337 ?_
    refine vn_isub h1 dX8_goes_340 ?_
    refine mp_long0 rfl dX8_goes_341 ?_
    exact v_vret rfl dX8_goes_344 ⟨rfl, by rw [h2]⟩
  have M : ∀ (q : Nat), q ≤ gN σ 21 → skp (gA σ 17) (gN σ 21) (gN σ 22) = q → V G Γ yX8_goes cX8_goes 2 none [] 2 (re none (MH m ad (setTok σ (tk (gA σ 17) (gN σ 21) (gN σ 22))) η0)) 0 0 (MH m ad (sN σ 22 q) η0) 50 [some (.ref m), none] [] := by
    intro q hq hsk
    have hc := hB q
    obtain ⟨c, hce⟩ : ∃ c, c = bB (gA σ 17) (gN σ 21) q := ⟨_, rfl⟩
    rw [← hce] at hc
    have LL : ∀ (n e : Nat), gN σ 21 - e = n → q ≤ e → e ≤ gN σ 21 → lend (gA σ 17) (gN σ 21) q = lend (gA σ 17) (gN σ 21) e → q < gN σ 21 → isL c → V G Γ yX8_goes cX8_goes 2 none [] 2 (re none (MH m ad (setTok σ (tk (gA σ 17) (gN σ 21) (gN σ 22))) η0)) 0 0 (MH m ad (sN (sW (sN (sN (sW (sN (sN σ 22 q) 24 q) 0) 26 0) 27 c) (wdF (gA σ 17) (gN σ 21) q (min (e - q) 7))) 22 (e)) η0) 108 [some (.ref m), some (.int (nI c))] [] := by
      intro n
      induction n using Nat.strongRecOn with
      | _ n ih =>
        intro e hn2 hqe hez hle hqz hcl
        have hbe := hB e
        refine v_aload_n (i := 0) dX8_goes_108 rfl rfl ?_
        refine v_aload_n (i := 0) dX8_goes_109 rfl rfl ?_
        refine mg_next rfl dX8_goes_110 ?_
        refine v_callVi (cM_byteAt hap ((sN (sW (sN (sN (sW (sN (sN σ 22 q) 24 q) 0) 26 0) 27 c) (wdF (gA σ 17) (gN σ 21) q (min (e - q) 7))) 22 (e))) (e) (show e < _ by omega) hz) (lw_V q2205 q2207 qs58 q136 q2208) iX8_byteAt rfl KX8 MH_m rfl rfl (by decide) (by decide) (Nat.le_of_ble_eq_true rfl) dX8_goes_113 ?_
        refine v_callSi (cM_isLetter (bB (gA σ 17) (gN σ 21) e) (show bB (gA σ 17) (gN σ 21) e < _ by omega)) (lw_S q2209 q2210 q136 q2211) iX8_isLetter rfl rfl (by decide) (by decide) (Nat.le_of_ble_eq_true rfl) dX8_goes_116 ?_
        refine vn_if_eq (tgt := 172) dX8_goes_119 rfl (by split <;> decide) (fun c119 => ?_) (fun c119 => ?_)
        · have hno : ¬ isL (bB (gA σ 17) (gN σ 21) e) := fun q => by rw [if_pos q] at c119; exact absurd c119 (by decide)
          refine v_aload_n (i := 0) dX8_goes_172 rfl rfl ?_
          refine v_iconst (v := nI 1) dX8_goes_173 k_iconst_1 ?_
          refine mp_sort rfl dX8_goes_174 ?_
          refine v_goto (tgt := 331) dX8_goes_177 rfl ?_
          have hee : lend (gA σ 17) (gN σ 21) q = e := hle.trans (lend_no _ _ hno)
          refine J _ _ hqe (tok_eq ?_ ?_ ?_ ?_ ?_ ?_ (fun k hk => by simp [gN_sN, gN_sW, show k ≠ 22 by omega, show k ≠ 23 by omega, show k ≠ 24 by omega, show k ≠ 25 by omega, show k ≠ 26 by omega, show k ≠ 27 by omega]) rfl ?_ rfl) <;> (unfold tk; simp only [hsk, ← hce]; rw [if_neg (by omega), if_pos hcl, hee]; rfl)
        · have hye : isL (bB (gA σ 17) (gN σ 21) e) := Classical.not_not.mp fun q => c119 (if_neg q)
          have hlt := bB_lt (show 0 < bB (gA σ 17) (gN σ 21) e by omega)
          refine v_aload_n (i := 0) dX8_goes_122 rfl rfl ?_
          refine mg_next rfl dX8_goes_123 ?_
          refine v_aload_n (i := 0) dX8_goes_126 rfl rfl ?_
          refine mg_place rfl dX8_goes_127 ?_
          refine vn_isub hqe dX8_goes_130 ?_
          refine v_bipush (v := nI 7) dX8_goes_131 k_bipush_7 ?_
          refine vn_icmp_ge (tgt := 159) dX8_goes_133 rfl (show e - q < _ by omega) (by decide) (fun c133 => ?_) (fun c133 => ?_)
          · have c133 : 7 ≤ e - q := c133
            refine v_aload_n (i := 0) dX8_goes_159 rfl rfl ?_
            refine v_dup dX8_goes_160 rfl ?_
            refine mg_next rfl dX8_goes_161 ?_
            refine v_iconst (v := nI 1) dX8_goes_164 k_iconst_1 ?_
            refine vn_iadd dX8_goes_165 ?_
            refine mp_next rfl dX8_goes_166 ?_
            refine v_goto (tgt := 108) dX8_goes_169 rfl ?_
            refine v_eq (congrArg (fun τ => MH m ad τ η0) (sN_sN _ 22 _ _)) ?_
            refine v_eq (congrArg (fun τ => MH m ad τ η0) (show (sN (sW (sN (sN (sW (sN (sN σ 22 q) 24 q) 0) 26 0) 27 c) (wdF (gA σ 17) (gN σ 21) q (min (e - q) 7))) 22 (e + 1)) = (sN (sW (sN (sN (sW (sN (sN σ 22 q) 24 q) 0) 26 0) 27 c) (wdF (gA σ 17) (gN σ 21) q (min (e + 1 - q) 7))) 22 (e + 1)) by rw [show min (e + 1 - q) 7 = min (e - q) 7 by omega])) ?_
            exact ih _ (by omega) (e + 1) rfl (by omega) (by omega) (hle.trans (lend_st _ _ hye)) hqz hcl
          · have c133 : e - q < 7 := c133
            refine v_aload_n (i := 0) dX8_goes_136 rfl rfl ?_
            refine v_aload_n (i := 0) dX8_goes_137 rfl rfl ?_
            refine mg_word rfl dX8_goes_138 ?_
            refine v_iconst (v := nI 5) dX8_goes_141 k_iconst_5 ?_
            refine vl_lshl5 dX8_goes_142 ?_
            refine v_aload_n (i := 0) dX8_goes_143 rfl rfl ?_
            refine v_aload_n (i := 0) dX8_goes_144 rfl rfl ?_
            refine mg_next rfl dX8_goes_145 ?_
            refine v_callVi (cM_byteAt hap ((sN (sW (sN (sN (sW (sN (sN σ 22 q) 24 q) 0) 26 0) 27 c) (wdF (gA σ 17) (gN σ 21) q (min (e - q) 7))) 22 (e))) (e) (show e < _ by omega) hz) (lw_V q2205 q2207 qs58 q136 q2208) iX8_byteAt rfl KX8 MH_m rfl rfl (by decide) (by decide) (Nat.le_of_ble_eq_true rfl) dX8_goes_148 ?_
            refine v_bipush (v := nI 96) dX8_goes_151 k_bipush_96 ?_
            refine vn_isub (show 96 ≤ bB (gA σ 17) (gN σ 21) e by omega) dX8_goes_153 ?_
            refine vl_i2l (show bB (gA σ 17) (gN σ 21) e - 96 < _ by omega) dX8_goes_154 ?_
            refine vl_lor dX8_goes_155 ?_
            refine mp_word rfl dX8_goes_156 ?_
            refine v_aload_n (i := 0) dX8_goes_159 rfl rfl ?_
            refine v_dup dX8_goes_160 rfl ?_
            refine mg_next rfl dX8_goes_161 ?_
            refine v_iconst (v := nI 1) dX8_goes_164 k_iconst_1 ?_
            refine vn_iadd dX8_goes_165 ?_
            refine mp_next rfl dX8_goes_166 ?_
            refine v_goto (tgt := 108) dX8_goes_169 rfl ?_
            refine v_eq (congrArg (fun τ => MH m ad τ η0) (show _ = (sN (sW (sN (sN (sW (sN (sN σ 22 q) 24 q) 0) 26 0) 27 c) (wdF (gA σ 17) (gN σ 21) q (min (e + 1 - q) 7))) 22 (e + 1)) by rw [show min (e + 1 - q) 7 = min (e - q) 7 + 1 by omega]; simp only [wdF]; rw [show q + min (e - q) 7 = e by omega]; exact tok_c _ _ _ _ _)) ?_
            exact ih _ (by omega) (e + 1) rfl (by omega) (by omega) (hle.trans (lend_st _ _ hye)) hqz hcl
    have LD : ∀ (n e : Nat), gN σ 21 - e = n → q ≤ e → e ≤ gN σ 21 → dend (gA σ 17) (gN σ 21) q = dend (gA σ 17) (gN σ 21) e → q < gN σ 21 → ¬ isL c → isD c → V G Γ yX8_goes cX8_goes 2 none [] 2 (re none (MH m ad (setTok σ (tk (gA σ 17) (gN σ 21) (gN σ 22))) η0)) 0 0 (MH m ad (sN (sN (sN (sN (sW (sN (sN σ 22 q) 24 q) 0) 26 0) 27 c) 26 (vlF (gA σ 17) (gN σ 21) q (min (e - q) 3))) 22 (e)) η0) 187 [some (.ref m), some (.int (nI c))] [] := by
      intro n
      induction n using Nat.strongRecOn with
      | _ n ih =>
        intro e hn2 hqe hez hle hqz hcl hcd
        have hbe := hB e
        have hvl := vlF_le (q := q) hB (min (e - q) 3) (by omega)
        refine v_aload_n (i := 0) dX8_goes_187 rfl rfl ?_
        refine v_aload_n (i := 0) dX8_goes_188 rfl rfl ?_
        refine mg_next rfl dX8_goes_189 ?_
        refine v_callVi (cM_byteAt hap ((sN (sN (sN (sN (sW (sN (sN σ 22 q) 24 q) 0) 26 0) 27 c) 26 (vlF (gA σ 17) (gN σ 21) q (min (e - q) 3))) 22 (e))) (e) (show e < _ by omega) hz) (lw_V q2205 q2207 qs58 q136 q2208) iX8_byteAt rfl KX8 MH_m rfl rfl (by decide) (by decide) (Nat.le_of_ble_eq_true rfl) dX8_goes_192 ?_
        refine v_callSi (cM_isDigit (bB (gA σ 17) (gN σ 21) e) (show bB (gA σ 17) (gN σ 21) e < _ by omega)) (lw_S q2212 q2213 q136 q2214) iX8_isDigit rfl rfl (by decide) (by decide) (Nat.le_of_ble_eq_true rfl) dX8_goes_195 ?_
        refine vn_if_eq (tgt := 250) dX8_goes_198 rfl (by split <;> decide) (fun c198 => ?_) (fun c198 => ?_)
        · have hno : ¬ isD (bB (gA σ 17) (gN σ 21) e) := fun q => by rw [if_pos q] at c198; exact absurd c198 (by decide)
          refine v_aload_n (i := 0) dX8_goes_250 rfl rfl ?_
          refine v_iconst (v := nI 2) dX8_goes_251 k_iconst_2 ?_
          refine mp_sort rfl dX8_goes_252 ?_
          refine v_goto (tgt := 331) dX8_goes_255 rfl ?_
          have hee : dend (gA σ 17) (gN σ 21) q = e := hle.trans (dend_no _ _ hno)
          refine J _ _ hqe (tok_eq ?_ ?_ ?_ ?_ ?_ ?_ (fun k hk => by simp [gN_sN, gN_sW, show k ≠ 22 by omega, show k ≠ 23 by omega, show k ≠ 24 by omega, show k ≠ 25 by omega, show k ≠ 26 by omega, show k ≠ 27 by omega]) rfl ?_ rfl) <;> (unfold tk; simp only [hsk, ← hce]; rw [if_neg (by omega), if_neg hcl, if_pos hcd, hee]; rfl)
        · have hye : isD (bB (gA σ 17) (gN σ 21) e) := Classical.not_not.mp fun q => c198 (if_neg q)
          have hlt := bB_lt (show 0 < bB (gA σ 17) (gN σ 21) e by omega)
          refine v_aload_n (i := 0) dX8_goes_201 rfl rfl ?_
          refine mg_next rfl dX8_goes_202 ?_
          refine v_aload_n (i := 0) dX8_goes_205 rfl rfl ?_
          refine mg_place rfl dX8_goes_206 ?_
          refine vn_isub hqe dX8_goes_209 ?_
          refine v_iconst (v := nI 3) dX8_goes_210 k_iconst_3 ?_
          refine vn_icmp_ge (tgt := 237) dX8_goes_211 rfl (show e - q < _ by omega) (by decide) (fun c211 => ?_) (fun c211 => ?_)
          · have c211 : 3 ≤ e - q := c211
            refine v_aload_n (i := 0) dX8_goes_237 rfl rfl ?_
            refine v_dup dX8_goes_238 rfl ?_
            refine mg_next rfl dX8_goes_239 ?_
            refine v_iconst (v := nI 1) dX8_goes_242 k_iconst_1 ?_
            refine vn_iadd dX8_goes_243 ?_
            refine mp_next rfl dX8_goes_244 ?_
            refine v_goto (tgt := 187) dX8_goes_247 rfl ?_
            refine v_eq (congrArg (fun τ => MH m ad τ η0) (sN_sN _ 22 _ _)) ?_
            refine v_eq (congrArg (fun τ => MH m ad τ η0) (show (sN (sN (sN (sN (sW (sN (sN σ 22 q) 24 q) 0) 26 0) 27 c) 26 (vlF (gA σ 17) (gN σ 21) q (min (e - q) 3))) 22 (e + 1)) = (sN (sN (sN (sN (sW (sN (sN σ 22 q) 24 q) 0) 26 0) 27 c) 26 (vlF (gA σ 17) (gN σ 21) q (min (e + 1 - q) 3))) 22 (e + 1)) by rw [show min (e + 1 - q) 3 = min (e - q) 3 by omega])) ?_
            exact ih _ (by omega) (e + 1) rfl (by omega) (by omega) (hle.trans (dend_st _ _ hye)) hqz hcl hcd
          · have c211 : e - q < 3 := c211
            refine v_aload_n (i := 0) dX8_goes_214 rfl rfl ?_
            refine v_bipush (v := nI 10) dX8_goes_215 k_bipush_10 ?_
            refine v_aload_n (i := 0) dX8_goes_217 rfl rfl ?_
            refine mg_value rfl dX8_goes_218 ?_
            refine vn_imul dX8_goes_221 ?_
            refine v_aload_n (i := 0) dX8_goes_222 rfl rfl ?_
            refine v_aload_n (i := 0) dX8_goes_223 rfl rfl ?_
            refine mg_next rfl dX8_goes_224 ?_
            refine v_callVi (cM_byteAt hap ((sN (sN (sN (sN (sW (sN (sN σ 22 q) 24 q) 0) 26 0) 27 c) 26 (vlF (gA σ 17) (gN σ 21) q (min (e - q) 3))) 22 (e))) (e) (show e < _ by omega) hz) (lw_V q2205 q2207 qs58 q136 q2208) iX8_byteAt rfl KX8 MH_m rfl rfl (by decide) (by decide) (Nat.le_of_ble_eq_true rfl) dX8_goes_227 ?_
            refine vn_iadd dX8_goes_230 ?_
            refine v_bipush (v := nI 48) dX8_goes_231 k_bipush_48 ?_
            refine vn_isub (show 48 ≤ 10 * vlF (gA σ 17) (gN σ 21) q (min (e - q) 3) + bB (gA σ 17) (gN σ 21) e by omega) dX8_goes_233 ?_
            refine mp_value rfl dX8_goes_234 ?_
            refine v_eq (congrArg (fun τ => MH m ad τ η0) (show sN (sN (sN (sN (sN (sW (sN (sN σ 22 q) 24 q) 0) 26 0) 27 c) 26 (vlF (gA σ 17) (gN σ 21) q (min (e - q) 3))) 22 e) 26 (10 * vlF (gA σ 17) (gN σ 21) q (min (e - q) 3) + bB (gA σ 17) (gN σ 21) e - 48) = sN (sN (sN (sN (sW (sN (sN σ 22 q) 24 q) 0) 26 0) 27 c) 26 (10 * vlF (gA σ 17) (gN σ 21) q (min (e - q) 3) + bB (gA σ 17) (gN σ 21) e - 48)) 22 e from sN_3 _ _ _ _)) ?_
            refine v_aload_n (i := 0) dX8_goes_237 rfl rfl ?_
            refine v_dup dX8_goes_238 rfl ?_
            refine mg_next rfl dX8_goes_239 ?_
            refine v_iconst (v := nI 1) dX8_goes_242 k_iconst_1 ?_
            refine vn_iadd dX8_goes_243 ?_
            refine mp_next rfl dX8_goes_244 ?_
            refine v_eq (congrArg (fun τ => MH m ad τ η0) (sN_sN _ 22 _ _)) ?_
            refine v_goto (tgt := 187) dX8_goes_247 rfl ?_
            refine v_eq (congrArg (fun τ => MH m ad τ η0) (show sN (sN (sN (sN (sW (sN (sN σ 22 q) 24 q) 0) 26 0) 27 c) 26 (10 * vlF (gA σ 17) (gN σ 21) q (min (e - q) 3) + bB (gA σ 17) (gN σ 21) e - 48)) 22 (e + 1) = (sN (sN (sN (sN (sW (sN (sN σ 22 q) 24 q) 0) 26 0) 27 c) 26 (vlF (gA σ 17) (gN σ 21) q (min (e + 1 - q) 3))) 22 (e + 1)) by
              have hv : vlF (gA σ 17) (gN σ 21) q (min (e + 1 - q) 3) = 10 * vlF (gA σ 17) (gN σ 21) q (min (e - q) 3) + bB (gA σ 17) (gN σ 21) e - 48 := by
                rw [show min (e + 1 - q) 3 = min (e - q) 3 + 1 by omega]
                simp only [vlF]
                rw [show q + min (e - q) 3 = e by omega]
              rw [hv])) ?_
            exact ih _ (by omega) (e + 1) rfl (by omega) (by omega) (hle.trans (dend_st _ _ hye)) hqz hcl hcd
    refine v_aload_n (i := 0) dX8_goes_50 rfl rfl ?_
    refine v_aload_n (i := 0) dX8_goes_51 rfl rfl ?_
    refine mg_next rfl dX8_goes_52 ?_
    refine mp_place rfl dX8_goes_55 ?_
    refine v_aload_n (i := 0) dX8_goes_58 rfl rfl ?_
    refine v_lconst (v := lN 0) dX8_goes_59 rfl ?_
    refine mp_word rfl dX8_goes_60 ?_
    refine v_aload_n (i := 0) dX8_goes_63 rfl rfl ?_
    refine v_iconst (v := nI 0) dX8_goes_64 k_iconst_0 ?_
    refine mp_value rfl dX8_goes_65 ?_
    refine v_aload_n (i := 0) dX8_goes_68 rfl rfl ?_
    refine v_aload_n (i := 0) dX8_goes_69 rfl rfl ?_
    refine mg_next rfl dX8_goes_70 ?_
    refine v_callVi (cM_byteAt hap (sN (sW (sN (sN σ 22 q) 24 q) 0) 26 0) q (by omega) hz) (lw_V q2205 q2207 qs58 q136 q2208) iX8_byteAt rfl KX8 MH_m rfl rfl (by decide) (by decide) (Nat.le_of_ble_eq_true rfl) dX8_goes_73 ?_
    refine v_top (show _ = nI c by rw [hce]; rfl) ?_
    refine v_istore_n (i := 1) dX8_goes_76 rfl (by decide) rfl ?_
    refine v_aload_n (i := 0) dX8_goes_77 rfl rfl ?_
    refine v_iload_n (i := 1) dX8_goes_78 rfl rfl ?_
    refine mp_sign rfl dX8_goes_79 ?_
    refine v_aload_n (i := 0) dX8_goes_82 rfl rfl ?_
    refine mg_next rfl dX8_goes_83 ?_
    refine v_aload_n (i := 0) dX8_goes_86 rfl rfl ?_
    refine mg_size rfl dX8_goes_87 ?_
    refine vn_icmp_lt (tgt := 101) dX8_goes_90 rfl (show q < _ by omega) (show gN σ 21 < _ by omega) (fun c90 => ?_) (fun c90 => ?_)
    · have c90 : q < gN σ 21 := c90
      refine v_iload_n (i := 1) dX8_goes_101 rfl rfl ?_
      refine v_callSi (cM_isLetter c (by omega)) (lw_S q2209 q2210 q136 q2211) iX8_isLetter rfl rfl (by decide) (by decide) (Nat.le_of_ble_eq_true rfl) dX8_goes_102 ?_
      refine vn_if_eq (tgt := 180) dX8_goes_105 rfl (by split <;> decide) (fun c105 => ?_) (fun c105 => ?_)
      · have hcl : ¬ isL c := fun q => by rw [if_pos q] at c105; exact absurd c105 (by decide)
        refine v_iload_n (i := 1) dX8_goes_180 rfl rfl ?_
        refine v_callSi (cM_isDigit c (by omega)) (lw_S q2212 q2213 q136 q2214) iX8_isDigit rfl rfl (by decide) (by decide) (Nat.le_of_ble_eq_true rfl) dX8_goes_181 ?_
        refine vn_if_eq (tgt := 258) dX8_goes_184 rfl (by split <;> decide) (fun c184 => ?_) (fun c184 => ?_)
        · have hcd : ¬ isD c := fun q => by rw [if_pos q] at c184; exact absurd c184 (by decide)
          refine v_aload_n (i := 0) dX8_goes_258 rfl rfl ?_
          refine v_dup dX8_goes_259 rfl ?_
          refine mg_next rfl dX8_goes_260 ?_
          refine v_iconst (v := nI 1) dX8_goes_263 k_iconst_1 ?_
          refine vn_iadd dX8_goes_264 ?_
          refine mp_next rfl dX8_goes_265 ?_
          refine v_aload_n (i := 0) dX8_goes_268 rfl rfl ?_
          refine v_iload_n (i := 1) dX8_goes_269 rfl rfl ?_
          refine v_bipush (v := nI 59) dX8_goes_270 k_bipush_59 ?_
          refine vn_icmp_eq (tgt := 323) dX8_goes_272 rfl (by omega) (by omega) (fun c272 => ?_) (fun c272 => ?_)
          · refine v_iconst (v := nI 3) dX8_goes_323 k_iconst_3 ?_
            refine v_goto (tgt := 328) dX8_goes_324 rfl ?_
            refine mp_sort rfl dX8_goes_328 ?_
            have hg : isG c := by omega
            refine J _ _ (Nat.le_succ q) (tok_eq ?_ ?_ ?_ ?_ ?_ ?_ (fun k hk => by simp [gN_sN, gN_sW, show k ≠ 22 by omega, show k ≠ 23 by omega, show k ≠ 24 by omega, show k ≠ 25 by omega, show k ≠ 26 by omega, show k ≠ 27 by omega]) rfl ?_ rfl) <;> (unfold tk; simp only [hsk, ← hce]; rw [if_neg (by omega), if_neg hcl, if_neg hcd, if_pos hg]; rfl)
          · refine v_iload_n (i := 1) dX8_goes_275 rfl rfl ?_
            refine v_bipush (v := nI 40) dX8_goes_276 k_bipush_40 ?_
            refine vn_icmp_eq (tgt := 323) dX8_goes_278 rfl (by omega) (by omega) (fun c278 => ?_) (fun c278 => ?_)
            · refine v_iconst (v := nI 3) dX8_goes_323 k_iconst_3 ?_
              refine v_goto (tgt := 328) dX8_goes_324 rfl ?_
              refine mp_sort rfl dX8_goes_328 ?_
              have hg : isG c := by omega
              refine J _ _ (Nat.le_succ q) (tok_eq ?_ ?_ ?_ ?_ ?_ ?_ (fun k hk => by simp [gN_sN, gN_sW, show k ≠ 22 by omega, show k ≠ 23 by omega, show k ≠ 24 by omega, show k ≠ 25 by omega, show k ≠ 26 by omega, show k ≠ 27 by omega]) rfl ?_ rfl) <;> (unfold tk; simp only [hsk, ← hce]; rw [if_neg (by omega), if_neg hcl, if_neg hcd, if_pos hg]; rfl)
            · refine v_iload_n (i := 1) dX8_goes_281 rfl rfl ?_
              refine v_bipush (v := nI 41) dX8_goes_282 k_bipush_41 ?_
              refine vn_icmp_eq (tgt := 323) dX8_goes_284 rfl (by omega) (by omega) (fun c284 => ?_) (fun c284 => ?_)
              · refine v_iconst (v := nI 3) dX8_goes_323 k_iconst_3 ?_
                refine v_goto (tgt := 328) dX8_goes_324 rfl ?_
                refine mp_sort rfl dX8_goes_328 ?_
                have hg : isG c := by omega
                refine J _ _ (Nat.le_succ q) (tok_eq ?_ ?_ ?_ ?_ ?_ ?_ (fun k hk => by simp [gN_sN, gN_sW, show k ≠ 22 by omega, show k ≠ 23 by omega, show k ≠ 24 by omega, show k ≠ 25 by omega, show k ≠ 26 by omega, show k ≠ 27 by omega]) rfl ?_ rfl) <;> (unfold tk; simp only [hsk, ← hce]; rw [if_neg (by omega), if_neg hcl, if_neg hcd, if_pos hg]; rfl)
              · refine v_iload_n (i := 1) dX8_goes_287 rfl rfl ?_
                refine v_bipush (v := nI 43) dX8_goes_288 k_bipush_43 ?_
                refine vn_icmp_eq (tgt := 323) dX8_goes_290 rfl (by omega) (by omega) (fun c290 => ?_) (fun c290 => ?_)
                · refine v_iconst (v := nI 3) dX8_goes_323 k_iconst_3 ?_
                  refine v_goto (tgt := 328) dX8_goes_324 rfl ?_
                  refine mp_sort rfl dX8_goes_328 ?_
                  have hg : isG c := by omega
                  refine J _ _ (Nat.le_succ q) (tok_eq ?_ ?_ ?_ ?_ ?_ ?_ (fun k hk => by simp [gN_sN, gN_sW, show k ≠ 22 by omega, show k ≠ 23 by omega, show k ≠ 24 by omega, show k ≠ 25 by omega, show k ≠ 26 by omega, show k ≠ 27 by omega]) rfl ?_ rfl) <;> (unfold tk; simp only [hsk, ← hce]; rw [if_neg (by omega), if_neg hcl, if_neg hcd, if_pos hg]; rfl)
                · refine v_iload_n (i := 1) dX8_goes_293 rfl rfl ?_
                  refine v_bipush (v := nI 45) dX8_goes_294 k_bipush_45 ?_
                  refine vn_icmp_eq (tgt := 323) dX8_goes_296 rfl (by omega) (by omega) (fun c296 => ?_) (fun c296 => ?_)
                  · refine v_iconst (v := nI 3) dX8_goes_323 k_iconst_3 ?_
                    refine v_goto (tgt := 328) dX8_goes_324 rfl ?_
                    refine mp_sort rfl dX8_goes_328 ?_
                    have hg : isG c := by omega
                    refine J _ _ (Nat.le_succ q) (tok_eq ?_ ?_ ?_ ?_ ?_ ?_ (fun k hk => by simp [gN_sN, gN_sW, show k ≠ 22 by omega, show k ≠ 23 by omega, show k ≠ 24 by omega, show k ≠ 25 by omega, show k ≠ 26 by omega, show k ≠ 27 by omega]) rfl ?_ rfl) <;> (unfold tk; simp only [hsk, ← hce]; rw [if_neg (by omega), if_neg hcl, if_neg hcd, if_pos hg]; rfl)
                  · refine v_iload_n (i := 1) dX8_goes_299 rfl rfl ?_
                    refine v_bipush (v := nI 42) dX8_goes_300 k_bipush_42 ?_
                    refine vn_icmp_eq (tgt := 323) dX8_goes_302 rfl (by omega) (by omega) (fun c302 => ?_) (fun c302 => ?_)
                    · refine v_iconst (v := nI 3) dX8_goes_323 k_iconst_3 ?_
                      refine v_goto (tgt := 328) dX8_goes_324 rfl ?_
                      refine mp_sort rfl dX8_goes_328 ?_
                      have hg : isG c := by omega
                      refine J _ _ (Nat.le_succ q) (tok_eq ?_ ?_ ?_ ?_ ?_ ?_ (fun k hk => by simp [gN_sN, gN_sW, show k ≠ 22 by omega, show k ≠ 23 by omega, show k ≠ 24 by omega, show k ≠ 25 by omega, show k ≠ 26 by omega, show k ≠ 27 by omega]) rfl ?_ rfl) <;> (unfold tk; simp only [hsk, ← hce]; rw [if_neg (by omega), if_neg hcl, if_neg hcd, if_pos hg]; rfl)
                    · refine v_iload_n (i := 1) dX8_goes_305 rfl rfl ?_
                      refine v_bipush (v := nI 47) dX8_goes_306 k_bipush_47 ?_
                      refine vn_icmp_eq (tgt := 323) dX8_goes_308 rfl (by omega) (by omega) (fun c308 => ?_) (fun c308 => ?_)
                      · refine v_iconst (v := nI 3) dX8_goes_323 k_iconst_3 ?_
                        refine v_goto (tgt := 328) dX8_goes_324 rfl ?_
                        refine mp_sort rfl dX8_goes_328 ?_
                        have hg : isG c := by omega
                        refine J _ _ (Nat.le_succ q) (tok_eq ?_ ?_ ?_ ?_ ?_ ?_ (fun k hk => by simp [gN_sN, gN_sW, show k ≠ 22 by omega, show k ≠ 23 by omega, show k ≠ 24 by omega, show k ≠ 25 by omega, show k ≠ 26 by omega, show k ≠ 27 by omega]) rfl ?_ rfl) <;> (unfold tk; simp only [hsk, ← hce]; rw [if_neg (by omega), if_neg hcl, if_neg hcd, if_pos hg]; rfl)
                      · refine v_iload_n (i := 1) dX8_goes_311 rfl rfl ?_
                        refine v_bipush (v := nI 60) dX8_goes_312 k_bipush_60 ?_
                        refine vn_icmp_eq (tgt := 323) dX8_goes_314 rfl (by omega) (by omega) (fun c314 => ?_) (fun c314 => ?_)
                        · refine v_iconst (v := nI 3) dX8_goes_323 k_iconst_3 ?_
                          refine v_goto (tgt := 328) dX8_goes_324 rfl ?_
                          refine mp_sort rfl dX8_goes_328 ?_
                          have hg : isG c := by omega
                          refine J _ _ (Nat.le_succ q) (tok_eq ?_ ?_ ?_ ?_ ?_ ?_ (fun k hk => by simp [gN_sN, gN_sW, show k ≠ 22 by omega, show k ≠ 23 by omega, show k ≠ 24 by omega, show k ≠ 25 by omega, show k ≠ 26 by omega, show k ≠ 27 by omega]) rfl ?_ rfl) <;> (unfold tk; simp only [hsk, ← hce]; rw [if_neg (by omega), if_neg hcl, if_neg hcd, if_pos hg]; rfl)
                        · refine v_iload_n (i := 1) dX8_goes_317 rfl rfl ?_
                          refine v_bipush (v := nI 61) dX8_goes_318 k_bipush_61 ?_
                          refine vn_icmp_ne (tgt := 327) dX8_goes_320 rfl (by omega) (by omega) (fun c320 => ?_) (fun c320 => ?_)
                          · refine v_iconst (v := nI 4) dX8_goes_327 k_iconst_4 ?_
                            refine mp_sort rfl dX8_goes_328 ?_
                            have hg : ¬ isG c := by omega
                            refine J _ _ (Nat.le_succ q) (tok_eq ?_ ?_ ?_ ?_ ?_ ?_ (fun k hk => by simp [gN_sN, gN_sW, show k ≠ 22 by omega, show k ≠ 23 by omega, show k ≠ 24 by omega, show k ≠ 25 by omega, show k ≠ 26 by omega, show k ≠ 27 by omega]) rfl ?_ rfl) <;> (unfold tk; simp only [hsk, ← hce]; rw [if_neg (by omega), if_neg hcl, if_neg hcd, if_neg hg]; rfl)
                          · refine v_iconst (v := nI 3) dX8_goes_323 k_iconst_3 ?_
                            refine v_goto (tgt := 328) dX8_goes_324 rfl ?_
                            refine mp_sort rfl dX8_goes_328 ?_
                            have hg : isG c := by omega
                            refine J _ _ (Nat.le_succ q) (tok_eq ?_ ?_ ?_ ?_ ?_ ?_ (fun k hk => by simp [gN_sN, gN_sW, show k ≠ 22 by omega, show k ≠ 23 by omega, show k ≠ 24 by omega, show k ≠ 25 by omega, show k ≠ 26 by omega, show k ≠ 27 by omega]) rfl ?_ rfl) <;> (unfold tk; simp only [hsk, ← hce]; rw [if_neg (by omega), if_neg hcl, if_neg hcd, if_pos hg]; rfl)
        · have hcd : isD c := Classical.not_not.mp fun q => c184 (if_neg q)
          refine v_eq (congrArg (fun τ => MH m ad τ η0) (show _ = (sN (sN (sN (sN (sW (sN (sN σ 22 q) 24 q) 0) 26 0) 27 c) 26 (vlF (gA σ 17) (gN σ 21) q (min (q - q) 3))) 22 (q)) by rw [Nat.sub_self]; exact tok_b σ q c)) ?_
          exact LD _ q rfl (Nat.le_refl _) hq rfl c90 hcl hcd
      · have hcl : isL c := Classical.not_not.mp fun q => c105 (if_neg q)
        refine v_eq (congrArg (fun τ => MH m ad τ η0) (show _ = (sN (sW (sN (sN (sW (sN (sN σ 22 q) 24 q) 0) 26 0) 27 c) (wdF (gA σ 17) (gN σ 21) q (min (q - q) 7))) 22 (q)) by rw [Nat.sub_self]; exact tok_a σ q c)) ?_
        exact LL _ q rfl (Nat.le_refl _) hq rfl c90 hcl
    · have c90 : gN σ 21 ≤ q := c90
      refine v_aload_n (i := 0) dX8_goes_93 rfl rfl ?_
      refine v_iconst (v := nI 0) dX8_goes_94 k_iconst_0 ?_
      refine mp_sort rfl dX8_goes_95 ?_
      refine v_goto (tgt := 331) dX8_goes_98 rfl ?_
      refine J _ _ (Nat.le_refl q) (tok_eq ?_ ?_ ?_ ?_ ?_ ?_ (fun k hk => by simp [gN_sN, gN_sW, show k ≠ 22 by omega, show k ≠ 23 by omega, show k ≠ 24 by omega, show k ≠ 25 by omega, show k ≠ 26 by omega, show k ≠ 27 by omega]) rfl ?_ rfl) <;> (unfold tk; simp only [hsk, ← hce]; rw [if_pos c90]; rfl)
  have L : ∀ (n q : Nat), gN σ 21 - q = n → q ≤ gN σ 21 → skp (gA σ 17) (gN σ 21) (gN σ 22) = skp (gA σ 17) (gN σ 21) q → V G Γ yX8_goes cX8_goes 2 none [] 2 (re none (MH m ad (setTok σ (tk (gA σ 17) (gN σ 21) (gN σ 22))) η0)) 0 0 (MH m ad (sN σ 22 q) η0) 0 [some (.ref m), none] [] := by
    intro n
    induction n using Nat.strongRecOn with
    | _ n ih =>
      intro q hn2 hq hsk
      have hbq := hB q
      refine v_aload_n (i := 0) dX8_goes_0 rfl rfl ?_
      refine mg_next rfl dX8_goes_1 ?_
      refine v_aload_n (i := 0) dX8_goes_4 rfl rfl ?_
      refine mg_size rfl dX8_goes_5 ?_
      refine vn_icmp_ge (tgt := 50) dX8_goes_8 rfl (show q < _ by omega) (show gN σ 21 < _ by omega) (fun c8 => ?_) (fun c8 => ?_)
      · have c8 : gN σ 21 ≤ q := c8
        exact M q hq (hsk.trans (skN_no _ _ (fun z => absurd z.1 (by omega))))
      · have c8 : q < gN σ 21 := c8
        refine v_aload_n (i := 0) dX8_goes_11 rfl rfl ?_
        refine v_aload_n (i := 0) dX8_goes_12 rfl rfl ?_
        refine mg_next rfl dX8_goes_13 ?_
        refine v_callVi (cM_byteAt hap (sN σ 22 q) (q) (show q < _ by omega) hz) (lw_V q2205 q2207 qs58 q136 q2208) iX8_byteAt rfl KX8 MH_m rfl rfl (by decide) (by decide) (Nat.le_of_ble_eq_true rfl) dX8_goes_16 ?_
        refine v_bipush (v := nI 32) dX8_goes_19 k_bipush_32 ?_
        refine vn_icmp_eq (tgt := 37) dX8_goes_21 rfl (show bB (gA σ 17) (gN σ 21) q < _ by omega) (by decide) (fun c21 => ?_) (fun c21 => ?_)
        · refine v_aload_n (i := 0) dX8_goes_37 rfl rfl ?_
          refine v_dup dX8_goes_38 rfl ?_
          refine mg_next rfl dX8_goes_39 ?_
          refine v_iconst (v := nI 1) dX8_goes_42 k_iconst_1 ?_
          refine vn_iadd dX8_goes_43 ?_
          refine mp_next rfl dX8_goes_44 ?_
          refine v_goto (tgt := 0) dX8_goes_47 rfl ?_
          rw [sN_sN]
          exact ih _ (by omega) (q + 1) rfl (by omega) (hsk.trans (skN_st _ _ ⟨c8, Or.inl c21⟩))
        · refine v_aload_n (i := 0) dX8_goes_24 rfl rfl ?_
          refine v_aload_n (i := 0) dX8_goes_25 rfl rfl ?_
          refine mg_next rfl dX8_goes_26 ?_
          refine v_callVi (cM_byteAt hap (sN σ 22 q) (q) (show q < _ by omega) hz) (lw_V q2205 q2207 qs58 q136 q2208) iX8_byteAt rfl KX8 MH_m rfl rfl (by decide) (by decide) (Nat.le_of_ble_eq_true rfl) dX8_goes_29 ?_
          refine v_bipush (v := nI 10) dX8_goes_32 k_bipush_10 ?_
          refine vn_icmp_ne (tgt := 50) dX8_goes_34 rfl (show bB (gA σ 17) (gN σ 21) q < _ by omega) (by decide) (fun c34 => ?_) (fun c34 => ?_)
          · exact M q hq (hsk.trans (skN_no _ _ (fun z => z.2.elim c21 c34)))
          · refine v_aload_n (i := 0) dX8_goes_37 rfl rfl ?_
            refine v_dup dX8_goes_38 rfl ?_
            refine mg_next rfl dX8_goes_39 ?_
            refine v_iconst (v := nI 1) dX8_goes_42 k_iconst_1 ?_
            refine vn_iadd dX8_goes_43 ?_
            refine mp_next rfl dX8_goes_44 ?_
            refine v_goto (tgt := 0) dX8_goes_47 rfl ?_
            rw [sN_sN]
            exact ih _ (by omega) (q + 1) rfl (by omega) (hsk.trans (skN_st _ _ ⟨c8, Or.inr c34⟩))
  have L0 := L _ (gN σ 22) rfl hn rfl
  rw [sN_self] at L0
  exact L0
