def F7 (σ σ2 : MS) : Prop := (∀ k, k ≠ 70 → k ≠ 71 → gN σ2 k = gN σ k) ∧ (∀ k, k < 72 ∨ 76 < k → gA σ2 k = gA σ k) ∧ (∀ k, gB σ2 k = gB σ k)
theorem F7.rf (σ : MS) : F7 σ σ := ⟨fun _ _ _ => rfl, fun _ _ => rfl, fun _ => rfl⟩
theorem F7.n {σ σ2 : MS} (h : F7 σ σ2) {k v : Nat} (hk : k = 70 ∨ k = 71) : F7 σ (sN σ2 k v) := ⟨fun j h1 h2 => by rw [gN_sN, if_neg (by omega)]; exact h.1 j h1 h2, h.2.1, h.2.2⟩
theorem F7.a {σ σ2 : MS} (h : F7 σ σ2) {k i v : Nat} (hk : 72 ≤ k ∧ k ≤ 76) : F7 σ (sA σ2 k i v) := ⟨h.1, fun j hj => by rw [gA_sA, if_neg (by omega)]; exact h.2.1 j hj, h.2.2⟩
theorem F7.kep {σ σ2 : MS} (h : F7 σ σ2) {K b to s mn y : Nat} : F7 σ (kepM σ2 K b to s mn y) := (((((h.a (by decide)).a (by decide)).a (by decide)).a (by decide)).n (by decide)).a (by decide)
theorem F7.wx {σ σ2 : MS} (h : F7 σ σ2) {τ : Td} {hd ld : Nat → Nat} {w : Nat} (hW : WX σ τ hd ld w) : WX σ2 τ hd ld w := by
  have n : ∀ k, k < 54 → gN σ2 k = gN σ k := fun k a => h.1 k (by omega) (by omega)
  have a : ∀ k, k < 51 → gA σ2 k = gA σ k := fun k a => h.2.1 k (by omega)
  obtain ⟨h1, h2, h3, h4, h5, h6, h7, h8, h9⟩ := hW
  refine ⟨h1, ?_, ?_, ?_, ?_, ?_, by rw [a 50 (by decide)]; exact h7, by rw [n 52 (by decide)]; exact h8, h9⟩
  · rw [n 1 (by decide), n 2 (by decide), n 3 (by decide), n 4 (by decide), n 5 (by decide), n 13 (by decide)]
    exact h2
  · rw [a 6 (by decide), a 7 (by decide)]
    exact h3
  · rw [a 9 (by decide), a 10 (by decide), a 11 (by decide)]
    exact h4
  · rw [a 12 (by decide)]
    exact h5
  · unfold BarO
    rw [n 1 (by decide), n 2 (by decide), n 4 (by decide), a 6 (by decide), a 7 (by decide), a 15 (by decide), a 16 (by decide), h.2.2 14]
    exact h6
theorem F7.mf {σ σ2 : MS} (h : F7 σ σ2) {τ : Td} (hM : MF σ τ) : MF σ2 τ := by
  have n : ∀ k, k < 70 → gN σ2 k = gN σ k := fun k a => h.1 k (by omega) (by omega)
  have a : ∀ k, k < 72 → gA σ2 k = gA σ k := fun k a => h.2.1 k (by omega)
  obtain ⟨⟨h1, h2, h3, h4, h5, h6⟩, m2, m3, m4, m5, m6⟩ := hM
  refine ⟨⟨h1, ?_, ?_, ?_, ?_, ?_⟩, by rw [a 50 (by decide)]; exact m2, by rw [n 52 (by decide)]; exact m3, by rw [n 67 (by decide)]; exact m4, by rw [n 66 (by decide)]; exact m5, ?_⟩
  · rw [n 1 (by decide), n 2 (by decide), n 3 (by decide), n 4 (by decide), n 5 (by decide), n 13 (by decide)]
    exact h2
  · rw [a 6 (by decide), a 7 (by decide), a 8 (by decide)]
    exact h3
  · rw [a 9 (by decide), a 10 (by decide), a 11 (by decide)]
    exact h4
  · rw [a 12 (by decide)]
    exact h5
  · unfold BarO
    rw [n 1 (by decide), n 2 (by decide), n 4 (by decide), a 6 (by decide), a 7 (by decide), a 15 (by decide), a 16 (by decide), h.2.2 14]
    exact h6
  · unfold FD XM FSA
    rw [n 67 (by decide), n 66 (by decide), n 54 (by decide), n 55 (by decide), a 56 (by decide), a 57 (by decide), a 58 (by decide), a 59 (by decide), a 60 (by decide), a 61 (by decide), a 62 (by decide), a 63 (by decide), a 64 (by decide)]
    exact m6
theorem MG.kept {rt : Td → Nat} {σ σ2 : MS} {A : AS} (h : MG rt σ A) (hf : F7 σ σ2) {l : List Mv} (hK : KPm σ2 A.1 l) : MG rt σ2 (A.1, A.2.1, A.2.2.1, A.2.2.2.1, some l, A.2.2.2.2.2) := by
  obtain ⟨m, ⟨b1, b2, b3, b4, b5⟩, ⟨c1, c2⟩, d, e, f, g, p, i, j⟩ := h
  have n : ∀ k, k ≠ 70 → k ≠ 71 → gN σ2 k = gN σ k := hf.1
  have a : ∀ k, k < 72 ∨ 76 < k → gA σ2 k = gA σ k := hf.2.1
  refine ⟨hf.mf m, ⟨(a 17 (by decide)).trans b1, (n 18 (by decide) (by decide)).trans b2, b3, b4, fun t ht => by rw [a 40 (by decide)]; exact b5 t ht⟩, ⟨(n 20 (by decide) (by decide)).trans c1, c2⟩, hK, ?_, ?_, ?_, ?_, (n 85 (by decide) (by decide)).trans i, j⟩
  · unfold LK
    rw [n 78 (by decide) (by decide), n 79 (by decide) (by decide), n 80 (by decide) (by decide)]
    exact e
  · unfold SKn
    rw [a 81 (by decide)]
    exact f
  · unfold RK
    rw [n 82 (by decide) (by decide)]
    exact g
  · unfold PL
    rw [n 84 (by decide) (by decide), a 86 (by decide), a 87 (by decide)]
    exact p
theorem fstB_ge (P : Nat → Bool) : ∀ n e, e ≤ fstB P n e
  | 0, e => Nat.le_refl _
  | n + 1, e => by
    unfold fstB
    have := fstB_ge P n (e + 1)
    split
    · exact Nat.le_refl _
    · omega
def XTo (τ : Td) (X : XT) : Prop := ∀ e, e < xe X → xet X e < tN τ 29 ∧ xeb X e < tN τ 31
theorem xStep_t {τ : Td} {X Y : XT} {k b to s y : Nat} (hb : b < tN τ 31) (ht : to < tN τ 29) (h : xStep X k b to s y = some Y) (hX : XTo τ X) : XTo τ Y := by
  unfold xStep at h
  split at h
  · cases h
  · split at h
    · cases h
    · cases h
      intro e he
      have e0 : xe (if ixN (xst X) y (xn X) = xn X then xAdd X (xfar X k + 1) y else X) = xe X := by split <;> rfl
      have e1 : xeb (if ixN (xst X) y (xn X) = xn X then xAdd X (xfar X k + 1) y else X) = xeb X := by split <;> rfl
      have e2 : xet (if ixN (xst X) y (xn X) = xn X then xAdd X (xfar X k + 1) y else X) = xet X := by split <;> rfl
      unfold xEdge at he ⊢
      rw [e0] at he ⊢
      rw [e1, e2]
      have he : e < xe X + 1 := he
      show va_up (xet X) (xe X) to e < _ ∧ va_up (xeb X) (xe X) b e < _
      by_cases c : e = xe X
      · rw [c, va_up_e, va_up_e]; exact ⟨ht, hb⟩
      · rw [va_up_n c, va_up_n c]; exact hX e (by omega)
theorem xF_t {τ : Td} {q : Nat → Bool} {stp : Nat → XT → Option XT} (hs : ∀ s X Y, stp s X = some Y → XTo τ X → XTo τ Y) : ∀ {l : List Nat} {X Y : XT}, xF q stp l X = some Y → XTo τ X → XTo τ Y
  | [], X, Y, h, hX => by cases h; exact hX
  | s :: l, X, Y, h, hX => by
    have h : (if q s = true then (stp s X).bind (xF q stp l) else xF q stp l X) = some Y := h
    split at h
    · obtain ⟨Z, h1, h2⟩ := obind_some h
      exact xF_t hs h2 (hs s X Z h1 hX)
    · exact xF_t hs h hX
theorem xTo_t {c : Wc} {k x b : Nat} (hb : b < tN c.1 31) : ∀ {n to : Nat} {X Y : XT}, to + n ≤ tN c.1 29 → xTo c k x b n to X = some Y → XTo c.1 X → XTo c.1 Y
  | 0, to, X, Y, _, h, hX => by cases h; exact hX
  | n + 1, to, X, Y, hn, h, hX => by
    obtain ⟨Z, h1, h2⟩ := obind_some (show (if canG c.1 x b to then xSets c k x b to X else some X).bind (xTo c k x b n (to + 1)) = some Y from h)
    refine xTo_t hb (by omega) h2 ?_
    split at h1
    · exact xF_t (fun s X Y h => xStep_t hb (by omega) h) h1 hX
    · cases h1; exact hX
theorem xBo_t {c : Wc} {k x : Nat} : ∀ {n b : Nat} {X Y : XT}, b + n ≤ tN c.1 31 → xBo c k x n b X = some Y → XTo c.1 X → XTo c.1 Y
  | 0, b, X, Y, _, h, hX => by cases h; exact hX
  | n + 1, b, X, Y, hn, h, hX => by
    obtain ⟨Z, h1, h2⟩ := obind_some (show (xTo c k x b (tN c.1 29) 0 X).bind (xBo c k x n (b + 1)) = some Y from h)
    exact xBo_t (by omega) h2 (xTo_t (by omega) (by omega) h1 hX)
theorem xK_t {c : Wc} : ∀ {n k : Nat} {X Y : XT}, xK c n k X = some Y → XTo c.1 X → XTo c.1 Y
  | 0, k, X, Y, h, _ => by cases h
  | n + 1, k, X, Y, h, hX => by
    have h : (if k < xn X then (if bsT c.1 c.2.2.2 (stT c.1) 0 0 0 = 0 then xBo c k (xst X k) (tN c.1 31) 0 (xFst X k) else some (xFst X k)).bind (xK c n (k + 1)) else some (xFst X (xn X))) = some Y := h
    split at h
    · obtain ⟨Z, g1, g2⟩ := obind_some h
      refine xK_t g2 ?_
      split at g1
      · exact xBo_t (by omega) g1 hX
      · cases g1; exact hX
    · cases h; exact hX
theorem expl_t {c : Wc} {X : XT} (h : expl c = some X) : XTo c.1 X := xK_t h (fun e he => absurd he (by show ¬ e < 0; omega))
theorem cA_fewest {G : Gl} {m : Nat} {ad : Nat → Nat} {η0 : AH} (hap : Mp m ad) (σ : MS) {rt : Td → Nat} (A : AS) (hG : MG rt σ A) : Ct G yX8_fewest cX8_fewest 3 (some .int) 9 0 0 [.ref m] (MH m ad σ η0) (ap rt m ad η0 (some (spFewest A).1) (spFewest A).2) := by
  refine Ct.start rfl rfl (Nat.le_of_ble_eq_true rfl) (fun Γ => ?_)
  refine v_aload_n (i := 0) dX8_fewest_0 rfl rfl ?_
  refine v_iconst (v := nI 0) dX8_fewest_1 k_iconst_0 ?_
  refine mp_thrown rfl dX8_fewest_2 ?_
  refine v_aload_n (i := 0) dX8_fewest_5 rfl rfl ?_
  refine v_callVI (kc' := 0) (ks' := 0) (cM_finds hap (sN σ 0 0) A.1 hG.1) (lw_V q2390 q2392 qs90 q136 q2393) iX8_finds rfl KX8 MH_m rfl rfl (by decide) (by decide) (Nat.le_of_ble_eq_true rfl) (by decide) (by decide) dX8_fewest_6 (fun x_ η' h => ?_)
  obtain ⟨σ2, rfl, g1, g2, g3, g4, g5, g6, g7, g8⟩ := h
  have hMF2 : MF σ2 A.1 := ⟨g1.mi hG.1.1, g3, g2, by omega, g5, fun _ => g6⟩
  have hG2 : MG rt σ2 A := MG.keep (σ := sN σ 0 0) hG hMF2 g1.q
  have h00 : gN σ2 0 = 0 := g1.1 0 (by decide) (by decide) (by decide) (by decide) (by decide)
  cases hx : expl (c0T A.1)
  · obtain rfl := g7 hx
    refine vn_if_ne (tgt := 15) dX8_fewest_9 rfl (by decide) (fun c9 => ?_) (fun c9 => ?_)
    · exact absurd rfl c9
    · refine v_bipush (v := -2) dX8_fewest_12 k_bipush_m2 ?_
      exact v_iret rfl dX8_fewest_14 (by
          have E : spFewest A = (-2, A) := by unfold spFewest; rw [hx]
          rw [E]
          exact ⟨_, rfl, σ2, rfl, hG2, fun q => (by cases q), fun v q => (by cases q; exact ⟨rfl, h00⟩)⟩)
  · rename_i X
    obtain rfl := g8 X hx
    have hw := expl_w hx
    obtain ⟨f1, hX, hF, hEQ, hf3⟩ := g6.2 X hx
    have hds : ∀ k, k < xn X → gA σ2 59 k = d0T A.1 X k := fun k hk => dsF_eq hw (fun _ => by decide) hEQ hk
    have hn2 := hw.2.1
    have hn1 := hw.1
    have hne := hw.2.2.1
    have h54 := hX.1
    refine vn_if_ne (tgt := 15) dX8_fewest_9 rfl (by decide) (fun c9 => ?_) (fun c9 => ?_)
    · refine v_aload_n (i := 0) dX8_fewest_15 rfl rfl ?_
      refine mg_toGoal rfl dX8_fewest_16 ?_
      refine v_iconst (v := nI 0) dX8_fewest_19 k_iconst_0 ?_
      refine ml_toGoal hap (by decide) dX8_fewest_20 ?_
      refine v_iconst (v := -1) dX8_fewest_21 k_iconst_m1 ?_
      refine vo_icmp_ne (tgt := 27) dX8_fewest_22 rfl (show gA σ2 59 0 < _ by have := hf3 0 (by omega); omega) (fun c22 => ?_) (fun c22 => ?_)
      · have c22 : ¬ gA σ2 59 0 = 0 := c22
        have hs := expl_s hx
        have hTB := hG.1.1.1
        have h0 := (hX.2.2.2.2.1 0 (by omega)).1
        have hW2 := hMF2.wx
        have hK0 : KPm (sA (sN (sN σ2 70 1) 71 (gN σ2 2)) 76 0 (xst X 0)) A.1 [] := ⟨rfl, by simp, hMF2.1.2.1.2.1, fun i hi => absurd hi (by simp), fun i hi => (by have e : i = 0 := (by simpa using hi); subst e; exact ⟨by show va_up (gA σ2 76) 0 _ 0 = _; rw [va_up_e]; exact hs.1, stT_lt hTB⟩), fun z hz => (by cases hz)⟩
        have hF0 : F7 σ2 (sA (sN (sN σ2 70 1) 71 (gN σ2 2)) 76 0 (xst X 0)) := (((F7.rf σ2).n (by decide)).n (by decide)).a (by decide)
        generalize hf : gA σ2 59 = f at *
        generalize hTL : pathL X f (fun _ => 1) (f 0) 0 = TL
        have hlen : TL.length + 1 ≤ 2000 := by rw [← hTL]; exact pathL_le hEQ hw (fun _ => by decide) (by omega)
        have hlen2 : TL.length = f 0 - 1 := by
          have e1 := pathE_sum hEQ hw (fun _ => by decide) (n := f 0) (k := 0) (by omega) c22 (Nat.le_refl _)
          rw [sumW_1] at e1
          rw [← hTL, pathE_L, List.length_map]
          omega
        have hE : spFewest A = (nI (f 0 - 1), (A.1, A.2.1, A.2.2.1, A.2.2.2.1, some TL, A.2.2.2.2.2)) := by
          unfold spFewest
          rw [hx]
          dsimp only
          rw [if_neg (by rw [← hds 0 (by omega)]; exact c22), ← hds 0 (by omega), ← hTL, pathL_congr hEQ hw hds (by omega)]
        rw [hE]
        have L39 : ∀ (n k : Nat) (pre : List Mv) (σ3 : MS) (z2 : Option Value), pre ++ pathL X f (fun _ => 1) n k = TL → k < xn X → f k ≤ n → f k ≠ 0 → stL A.1 pre = xst X k → KPm σ3 A.1 pre → F7 σ2 σ3 → V G Γ yX8_fewest cX8_fewest 3 (some .int) [] 9 (ap rt m ad η0 (some (nI (f 0 - 1))) (A.1, A.2.1, A.2.2.1, A.2.2.2.1, some TL, A.2.2.2.2.2)) 0 0 (MH m ad σ3 η0) 39 [some (.ref m), some (.int (nI k)), z2] [] := by
          intro n
          induction n with
          | zero => intro k pre σ3 z2 h1 h2 h3 h4; omega
          | succ n ih =>
            intro k pre σ3 z2 hpre hk hfn hf0 hst hK hF3
            have e59 : gA σ3 59 = f := (hF3.2.1 59 (by decide)).trans hf
            have e57 := hF3.2.1 57 (by decide)
            have e64 := hF3.2.1 64 (by decide)
            have hfk := hf3 k hk
            have hF1 := hF k (by omega)
            have hpre : pre ++ (if f k ≤ 1 then [] else mvE X (bestE X f (fun _ => 1) k) :: pathL X f (fun _ => 1) n (xej X (bestE X f (fun _ => 1) k))) = TL := hpre
            refine v_aload_n (i := 0) dX8_fewest_39 rfl rfl ?_
            refine mg_toGoal rfl dX8_fewest_40 ?_
            refine v_iload_n (i := 1) dX8_fewest_43 rfl rfl ?_
            refine ml_toGoal hap (show k < 2001 by omega) dX8_fewest_44 ?_
            refine v_top (show _ = oI (f k) from congrArg oI (congrFun e59 k)) ?_
            refine vo_if_le (tgt := 98) dX8_fewest_45 rfl (show f k < _ by omega) (fun c45 => ?_) (fun c45 => ?_)
            · rw [if_pos c45, List.append_nil] at hpre
              subst hpre
              refine v_aload_n (i := 0) dX8_fewest_98 rfl rfl ?_
              refine mg_keptMany rfl dX8_fewest_99 ?_
              refine v_top (show _ = nI (f 0 - 1) by show oI (gN σ3 70) = _; rw [hK.1, ← hlen2]; rfl) ?_
              exact v_iret rfl dX8_fewest_102 ⟨_, rfl, σ3, rfl, hG2.kept hF3 hK, fun q => (by cases q), fun v q => (by cases q; exact ⟨rfl, (hF3.1 0 (by decide) (by decide)).trans h00⟩)⟩
            · rw [if_neg (by omega)] at hpre
              obtain ⟨y1, y2, y3, y4, y5⟩ := bestE_ok hEQ hw hk c45
              have L55 : ∀ (q e : Nat), fstB (goodE X f (fun _ => 1) k) q e = bestE X f (fun _ => 1) k → e + q = xfs X (k + 1) → xfs X k ≤ e → e ≤ bestE X f (fun _ => 1) k → V G Γ yX8_fewest cX8_fewest 3 (some .int) [] 9 (ap rt m ad η0 (some (nI (f 0 - 1))) (A.1, A.2.1, A.2.2.1, A.2.2.2.1, some TL, A.2.2.2.2.2)) 0 0 (MH m ad σ3 η0) 55 [some (.ref m), some (.int (nI k)), some (.int (nI e))] [] := by
                intro q
                induction q with
                | zero => intro e h1 h2 h3 h4; omega
                | succ q ihq =>
                  intro e h1 h2 h3 h4
                  have he : e < xe X := by have := hw.2.2.2.2.1 (k + 1) (by omega); omega
                  have hj := hw.2.2.2.2.2 e he
                  obtain ⟨s1, s2, s3, s4, s5, s6, s7, s8⟩ := hX.2.2.2.2.2 e he
                  have hfj := hf3 _ hj
                  have h1 : (if goodE X f (fun _ => 1) k e = true then e else fstB (goodE X f (fun _ => 1) k) q (e + 1)) = bestE X f (fun _ => 1) k := h1
                  refine v_aload_n (i := 0) dX8_fewest_55 rfl rfl ?_
                  refine mg_toGoal rfl dX8_fewest_56 ?_
                  refine v_aload_n (i := 0) dX8_fewest_59 rfl rfl ?_
                  refine mg_edgeState rfl dX8_fewest_60 ?_
                  refine v_iload_n (i := 2) dX8_fewest_63 rfl rfl ?_
                  refine ml_edgeState hap (show e < 40001 by omega) dX8_fewest_64 ?_
                  refine v_top (show _ = nI (xej X e) from congrArg nI ((congrFun e64 e).trans s4)) ?_
                  refine ml_toGoal hap (show xej X e < 2001 by omega) dX8_fewest_65 ?_
                  refine v_top (show _ = oI (f (xej X e)) from congrArg oI (congrFun e59 _)) ?_
                  refine v_aload_n (i := 0) dX8_fewest_66 rfl rfl ?_
                  refine mg_toGoal rfl dX8_fewest_67 ?_
                  refine v_iload_n (i := 1) dX8_fewest_70 rfl rfl ?_
                  refine ml_toGoal hap (show k < 2001 by omega) dX8_fewest_71 ?_
                  refine v_top (show _ = nI (f k - 1) by show oI (gA σ3 59 k) = _; rw [e59]; exact oI_n (by omega)) ?_
                  refine v_iconst (v := nI 1) dX8_fewest_72 k_iconst_1 ?_
                  refine vn_isub (by omega) dX8_fewest_73 ?_
                  refine von_icmp_eq (tgt := 83) dX8_fewest_74 rfl (show f (xej X e) < _ by omega) (by omega) (fun c74 => ?_) (fun c74 => ?_)
                  · have hgood : goodE X f (fun _ => 1) k e = true := by unfold goodE; rw [decide_eq_true_eq]; exact ⟨by omega, by show f (xej X e) + 1 = f k; omega⟩
                    rw [if_pos hgood] at h1
                    refine v_aload_n (i := 0) dX8_fewest_83 rfl rfl ?_
                    refine v_iload_n (i := 2) dX8_fewest_84 rfl rfl ?_
                    refine v_callVv (cM_keepsEdge hap σ3 A.1 _ _ 0 (hF3.wx hW2) pre.length e (xeb X e) (xet X e) (xes X e) (xej X e) (xst X (xej X e)) hK.1 (by rw [← h1] at hpre; have := congrArg List.length hpre; simp at this; omega) (by omega) ((congrFun (hF3.2.1 61 (by decide)) e).trans s1) ((congrFun (hF3.2.1 62 (by decide)) e).trans s2) ((congrFun (hF3.2.1 63 (by decide)) e).trans s3) ((congrFun e64 e).trans s4) (by omega) ((congrFun (hF3.2.1 56 (by decide)) _).trans (hX.2.2.2.2.1 _ hj).1) s8) (lw_V q2451 q2453 qs103 q136 q2454) iX8_keepsEdge rfl KX8 MH_m rfl rfl (by decide) (by decide) (Nat.le_of_ble_eq_true rfl) dX8_fewest_85 ?_
                    refine v_aload_n (i := 0) dX8_fewest_88 rfl rfl ?_
                    refine mg_edgeState rfl dX8_fewest_89 ?_
                    refine v_iload_n (i := 2) dX8_fewest_92 rfl rfl ?_
                    refine ml_edgeState hap (show e < 40001 by omega) dX8_fewest_93 ?_
                    refine v_top (show _ = nI (xej X e) from congrArg nI ((congrFun e64 e).trans s4)) ?_
                    refine v_istore_n (i := 1) dX8_fewest_94 rfl (by decide) rfl ?_
                    refine v_goto (tgt := 39) dX8_fewest_95 rfl ?_
                    rw [← h1] at hpre y2 y4
                    have hsd := hs.2 k hk e h3 y2
                    have hmo : mvOk A.1 (xeb X e, xet X e, xes X e) := ⟨s6, (expl_t hx e he).1, s8⟩
                    have hK2 := hK.add (b := xeb X e) (to := xet X e) (s := xes X e) (by have := congrArg List.length hpre; simp at this; omega) hmo hTB
                    rw [hst, ← hsd] at hK2
                    exact ih (xej X e) (pre ++ [mvE X e]) _ _ (by rw [List.append_assoc]; exact hpre) hj (by omega) (by omega) (by rw [stL_add, hst]; exact hsd.symm) hK2 hF3.kep
                  · have hgood : ¬ goodE X f (fun _ => 1) k e = true := by unfold goodE; rw [decide_eq_true_eq]; exact fun w => c74 (by have w2 : f (xej X e) + 1 = f k := w.2; omega)
                    rw [if_neg hgood] at h1
                    refine vn_iinc 1 dX8_fewest_77 rfl k_iconst_1 (by decide) rfl ?_
                    refine v_goto (tgt := 55) dX8_fewest_80 rfl ?_
                    exact ihq (e + 1) h1 (by omega) (by omega) (by have := fstB_ge (goodE X f (fun _ => 1) k) q (e + 1); omega)
              refine v_aload_n (i := 0) dX8_fewest_48 rfl rfl ?_
              refine mg_firstOf rfl dX8_fewest_49 ?_
              refine v_iload_n (i := 1) dX8_fewest_52 rfl rfl ?_
              refine ml_firstOf hap (show k < 2002 by omega) dX8_fewest_53 ?_
              refine v_top (show _ = nI (xfs X k) from congrArg nI ((congrFun e57 k).trans hF1)) ?_
              refine v_istore_n (i := 2) dX8_fewest_54 rfl (by decide) rfl ?_
              exact L55 (xfs X (k + 1) - xfs X k) (xfs X k) rfl (by have := hw.2.2.2.1 k hk; omega) (Nat.le_refl _) y1
        refine v_aload_n (i := 0) dX8_fewest_27 rfl rfl ?_
        refine v_aload_n (i := 0) dX8_fewest_28 rfl rfl ?_
        refine mg_stateOf rfl dX8_fewest_29 ?_
        refine v_iconst (v := nI 0) dX8_fewest_32 k_iconst_0 ?_
        refine ml_stateOf hap (by decide) dX8_fewest_33 ?_
        refine v_top (show _ = nI (xst X 0) from congrArg nI h0) ?_
        refine v_callVv (cM_startsWay hap σ2 (xst X 0)) (lw_V q2447 q2449 qs102 q136 q2450) iX8_startsWay rfl KX8 MH_m rfl rfl (by decide) (by decide) (Nat.le_of_ble_eq_true rfl) dX8_fewest_34 ?_
        refine v_iconst (v := nI 0) dX8_fewest_37 k_iconst_0 ?_
        refine v_istore_n (i := 1) dX8_fewest_38 rfl (by decide) rfl ?_
        exact L39 (f 0) 0 [] _ _ hTL (by omega) (Nat.le_refl _) c22 hs.1.symm hK0 hF0
      · have c22 : gA σ2 59 0 = 0 := c22
        refine v_iconst (v := -1) dX8_fewest_25 k_iconst_m1 ?_
        exact v_iret rfl dX8_fewest_26 (by
            have E : spFewest A = (-1, A) := by unfold spFewest; rw [hx]; dsimp only; rw [if_pos (by rw [← hds 0 (by omega)]; exact c22)]
            rw [E]
            exact ⟨_, rfl, σ2, rfl, hG2, fun q => (by cases q), fun v q => (by cases q; exact ⟨rfl, h00⟩)⟩)
    · exact absurd c9 (by decide)
