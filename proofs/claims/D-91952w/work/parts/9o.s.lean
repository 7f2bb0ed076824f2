set_option maxRecDepth 100000
/-- the rounds' object as it is made -/
def R00 (η : AH) (t o : Nat) (w : Nat) (τ : Td) : Prop := ∃ adr jj qq pp tt na nb ρ gn gx, RB η t o adr w τ jj qq pp tt (t + 5) (t + 6) na nb ρ gn gx ∧ (∀ j, gA ρ 3 j = 0) ∧ P0 η (t + 3) pp w ∧ P0 η (t + 4) tt w
theorem R00.rcv {η : AH} {t o w : Nat} {τ : Td} (h : R00 η t o w τ) : ∃ z : Option Nat × (Nat → Value), η o = some (z.1, ob 22 z.2) := by
  obtain ⟨adr, jj, qq, pp, tt, na, nb, ρ, gn, gx, ⟨h1, -⟩, -⟩ := h
  exact h1.rcv
theorem RAd.found {τ : Td} (hT : tN τ 30 ≤ 8) (hlm : tN τ 33 = 0) (hst : VL τ (stT τ)) {ra : Nat → Nat} {d : Nat} {D : Nat → Prop} (h : RAd τ ra d D) {x : Nat} (hx : VL τ x) (e : ra (smT τ x) = d + 1) (hg : goalT τ x) : roundT τ = d + 1 := by
  obtain ⟨-, z, z1, z2, z3⟩ := h.1 _ (smT_lt hT hx) (by omega)
  rw [e, sm_inj hT z1 hx z2] at z3
  refine roundT_y ⟨x, z3, hg⟩ fun e2 he2 => ?_
  rintro ⟨y, hy, hgy⟩
  obtain ⟨y1, y2, y3⟩ := h.k0.near hlm hst e2 (by omega) y hy
  exact (h.2.2 y y1 y2 (Or.inl (by omega))).1 hgy
theorem UpR.at_ {τ : Td} {v : Nat} {Q : Nat → Prop} {ra rb : Nat → Nat} (h : UpR τ v Q ra rb) {j u : Nat} (hu : u ≠ 0) (hj : ra j = u) : rb j = u := by
  rcases h j with a | ⟨a, -⟩
  · rw [a, hj]
  · rw [hj] at a; exact absurd a hu
theorem UpR.bk {τ : Td} {v : Nat} {Q : Nat → Prop} {ra rb : Nat → Nat} (h : UpR τ v Q ra rb) {j u : Nat} (hu : u ≠ v) (hj : rb j = u) : ra j = u := by
  rcases h j with a | ⟨-, a, -⟩
  · rw [← a, hj]
  · rw [hj] at a; exact absurd a hu
theorem cR_run {G : Gl} {η0 : AH} {w : Nat} {τ : Td} (hW : Wd G η0 w τ) {t o : Nat} (hR : R00 η0 t o w τ) (hS2 : tN τ 29 = 2) (hB2 : tN τ 31 = 2) (hlm : tN τ 33 = 0) (hh0 : tA τ 41 0 ≤ 3) : Ct G yX18_run cX18_run 4 (some .int) 10 (0) (0) [.ref o] η0 (ri fun r η => r = oI (roundT τ) ∧ Kp t (t + 7) η0 η) := by
  refine Ct.start rfl rfl (Nat.le_of_ble_eq_true rfl) (fun Γ => ?_)
  have hTB := hW.tb
  obtain ⟨⟨wb1, wb2, wb3, wb4, wb5, wb6, wb7⟩, -, wb8, -⟩ := id hTB
  have hst : VL τ (stT τ) := VL.st hlm hB2 (fun b hb => by have := (wb8 b (by omega)).2.2.2; omega)
  obtain ⟨adr, jj, qq, pp, tt, na, nb, ρ, gn, gx, ⟨hRo, r0, r1, r2, r4, r5, hJ, hQ, hN, hX, hab⟩, hz, hP, hT⟩ := hR
  have h0 : Kp t (t + 7) η0 η0 := Kp.rf
  have L66 : ∀ (M d ta tb na nb : Nat) (η : AH) (ρ : MS) (ra gn gx : Nat → Nat) (z2 z3 : Option Value), d + M ≤ 3000 → Wd G η w τ → RB η t o adr w τ jj qq pp tt ta tb na nb ρ gn gx → Kp t (t + 7) η0 η → P0 η (t + 3) pp w → P0 η (t + 4) tt w → (gN ρ 6 = 0 ∨ 1025 ≤ M + cntN ra 1024) → (∃ c, RIv τ ra (d + 1) c (gA ρ 3) (gN ρ 6) gn) → RAd τ ra d (fun _ => False) → (∀ j, j < 1024 → ra j ≤ d + 1) → V G Γ yX18_run cX18_run 4 (some .int) [] 10 (ri fun r η => r = oI (roundT τ) ∧ Kp t (t + 7) η0 η) (0) (0) (η) 66 [some (.ref o), some (.int (nI d)), z2, z3] [] := by
    intro M
    induction M with
    | zero =>
      intro d ta tb na nb η ρ ra gn gx z2 z3 hdM hW hB h0 hP hT hM hI hA hle
      obtain ⟨hRo, r0, r1, r2, r4, r5, hJ, hQ, hN, hX, hab⟩ := id hB
      have hm : gN ρ 6 = 0 := hM.elim id (fun z => absurd (cntN_le ra 1024) (by omega))
      refine v_aload_n (i := 0) dX18_run_66 rfl rfl ?_
      refine go_get0 hRo KX18 6 (by decide) rfl (0) hm q937 dX18_run_67 ?_
      refine vn_if_le (tgt := 198) dX18_run_70 rfl (by decide) (fun c70 => ?_) (fun c70 => ?_)
      · refine v_iconst (v := -1) dX18_run_198 k_iconst_m1 ?_
        exact v_iret rfl dX18_run_199 (by
          obtain ⟨cc0, hI⟩ := hI
          rw [hm] at hI
          have hz : roundT τ = 0 := hA.k0.done wb3 hlm hst (fun j hj => by
            have h1 := hle j hj
            by_cases c : ra j = d + 1
            · obtain ⟨-, x, x1, x2, -⟩ := hA.1 j hj (by omega)
              obtain ⟨-, -, -, nx, -, h5⟩ := hI
              obtain ⟨i, hi, -⟩ := h5 x x1 (by rw [x2]; exact c)
              exact absurd hi (by omega)
            · omega)
          rw [hz]
          exact ⟨_, rfl, rfl, h0⟩)
      · exact absurd c70 (by decide)
    | succ M ihM =>
      intro d ta tb na nb η ρ ra gn gx z2 z3 hdM hW hB h0 hP hT hM hI hA hle
      obtain ⟨hRo, r0, r1, r2, r4, r5, hJ, hQ, hN, hX, hab⟩ := id hB
      by_cases hm : gN ρ 6 = 0
      · refine v_aload_n (i := 0) dX18_run_66 rfl rfl ?_
        refine go_get0 hRo KX18 6 (by decide) rfl (0) hm q937 dX18_run_67 ?_
        refine vn_if_le (tgt := 198) dX18_run_70 rfl (by decide) (fun c70 => ?_) (fun c70 => ?_)
        · refine v_iconst (v := -1) dX18_run_198 k_iconst_m1 ?_
          exact v_iret rfl dX18_run_199 (by
            obtain ⟨cc0, hI⟩ := hI
            rw [hm] at hI
            have hz : roundT τ = 0 := hA.k0.done wb3 hlm hst (fun j hj => by
              have h1 := hle j hj
              by_cases c : ra j = d + 1
              · obtain ⟨-, x, x1, x2, -⟩ := hA.1 j hj (by omega)
                obtain ⟨-, -, -, nx, -, h5⟩ := hI
                obtain ⟨i, hi, -⟩ := h5 x x1 (by rw [x2]; exact c)
                exact absurd hi (by omega)
              · omega)
            rw [hz]
            exact ⟨_, rfl, rfl, h0⟩)
        · exact absurd c70 (by decide)
      have hM := hM.resolve_left hm
      obtain ⟨cc0, hI⟩ := hI
      have hlev := hI.lev (gz := gx) hle wb3
      obtain ⟨-, -, hnc, nx, hn1, hn2⟩ := hI
      obtain ⟨md, hmd⟩ : ∃ md, md = gN ρ 6 := ⟨_, rfl⟩
      obtain ⟨c0, hc0⟩ : ∃ c0, c0 = cntN ra 1024 := ⟨_, rfl⟩
      rw [← hc0] at hlev
      rw [← hmd] at hn1 hn2
      have hmd2 : md ≤ 1024 := by have := cntN_le ra 1024; omega
      have L80 : ∀ (n i : Nat) (η : AH) (rb : Nat → Nat) (z3 : Option Value), i + n = md → Wd G η w τ → RSt η t o adr w τ jj qq pp tt ta tb na nb c0 (d + 2) gn md rb → Kp t (t + 7) η0 η → P0 η (t + 3) pp w → P0 η (t + 4) tt w → (∀ i, i < md → VL τ (nx i) ∧ gn i = cdT τ (nx i) ∧ rb (smT τ (nx i)) = d + 1) → (∀ x, VL τ x → rb (smT τ x) = d + 1 → ∃ i, i < md ∧ nx i = x) → RAd τ rb d (fun j => ∃ k, k < i ∧ smT τ (nx k) = j) → V G Γ yX18_run cX18_run 4 (some .int) [] 10 (ri fun r η => r = oI (roundT τ) ∧ Kp t (t + 7) η0 η) (0) (0) (η) 80 [some (.ref o), some (.int (nI d)), some (.int (nI i)), z3] [] := by
        intro n
        induction n with
        | zero =>
          intro i η rb z3 hin hW hR h0 hP hT hx1 hx2 hA
          have ei : i = md := by omega
          subst ei
          obtain ⟨ρ, gx, ⟨hRo, r0, r1, r2, r4, r5, hJ, hQ, hN, hX, hab⟩, rm, hI⟩ := id hR
          refine v_iload_n (i := 2) dX18_run_80 rfl rfl ?_
          refine v_aload_n (i := 0) dX18_run_81 rfl rfl ?_
          refine go_get0 hRo KX18 6 (by decide) rfl (i) rm q937 dX18_run_82 ?_
          refine vn_icmp_ge (tgt := 166) dX18_run_85 rfl (by omega) (by omega) (fun c85 => ?_) (fun c85 => ?_)
          · refine v_aload_n (i := 0) dX18_run_166 rfl rfl ?_
            refine go_get3 hRo KX18 4 (by decide) rfl (na) r4 q935 dX18_run_167 ?_
            refine v_astore_n (i := 2) dX18_run_170 rfl (by decide) rfl ?_
            refine v_aload_n (i := 0) dX18_run_171 rfl rfl ?_
            refine v_aload_n (i := 0) dX18_run_172 rfl rfl ?_
            refine go_get3 hRo KX18 5 (by decide) rfl (nb) r5 q936 dX18_run_173 ?_
            refine go_put3 hRo KX18 4 (by decide) rfl q935 rfl rfl rfl dX18_run_176 (fun η hRo hk => ?_)
            have h0 := h0.th hk (by omega) (by omega)
            have hW := hW.kp hk
            have hP := hP.kp hk (by omega)
            have hT := hT.kp hk (by omega)
            have hQ := hQ.kp hk (by omega)
            obtain ⟨lw, hJ⟩ := hJ
            have hJ := hJ.kp hk (by omega)
            have hJ : ∃ lw, Jd _ (t + 1) jj qq w τ (tA τ 41) (tA τ 42) 0 lw := ⟨lw, hJ⟩
            have hN := hN.kp hk (by omega)
            have hX := hX.kp hk (by omega)
            refine v_aload_n (i := 0) dX18_run_179 rfl rfl ?_
            refine v_aload_n (i := 2) dX18_run_180 rfl rfl ?_
            refine go_put3 hRo KX18 5 (by decide) rfl q936 rfl rfl rfl dX18_run_181 (fun η hRo hk => ?_)
            have h0 := h0.th hk (by omega) (by omega)
            have hW := hW.kp hk
            have hP := hP.kp hk (by omega)
            have hT := hT.kp hk (by omega)
            have hQ := hQ.kp hk (by omega)
            obtain ⟨lw, hJ⟩ := hJ
            have hJ := hJ.kp hk (by omega)
            have hJ : ∃ lw, Jd _ (t + 1) jj qq w τ (tA τ 41) (tA τ 42) 0 lw := ⟨lw, hJ⟩
            have hN := hN.kp hk (by omega)
            have hX := hX.kp hk (by omega)
            refine v_aload_n (i := 0) dX18_run_184 rfl rfl ?_
            refine v_aload_n (i := 0) dX18_run_185 rfl rfl ?_
            refine go_get0 hRo KX18 7 (by decide) rfl (gN _ 7) rfl q938 dX18_run_186 ?_
            refine go_put0 hRo KX18 6 (by decide) rfl q937 rfl rfl rfl dX18_run_189 (fun η hRo hk => ?_)
            have h0 := h0.th hk (by omega) (by omega)
            have hW := hW.kp hk
            have hP := hP.kp hk (by omega)
            have hT := hT.kp hk (by omega)
            have hQ := hQ.kp hk (by omega)
            obtain ⟨lw, hJ⟩ := hJ
            have hJ := hJ.kp hk (by omega)
            have hJ : ∃ lw, Jd _ (t + 1) jj qq w τ (tA τ 41) (tA τ 42) 0 lw := ⟨lw, hJ⟩
            have hN := hN.kp hk (by omega)
            have hX := hX.kp hk (by omega)
            refine vn_iinc 1 dX18_run_192 rfl k_iconst_1 (by decide) rfl ?_
            refine v_goto (tgt := 66) dX18_run_195 rfl ?_
            have hnx := hA.next (fun x x1 x2 => by
              obtain ⟨k, k1, k2⟩ := hx2 x x1 x2
              exact ⟨k, k1, by rw [k2]⟩)
            have hle2 : ∀ j, j < 1024 → rb j ≤ d + 1 + 1 := fun j hj => by
              by_cases c : rb j = 0
              · omega
              · exact (hA.1 j hj c).1
            have hmo := hI.2.2.1
            refine ihM (d + 1) tb ta nb na η _ rb gx gn _ _ (by omega) hW ⟨hRo, r0, r1, r2, rfl, rfl, hJ, hQ, hX, hN, by omega⟩ h0 hP hT ?_ ⟨_, hI⟩ hnx hle2
            show gN ρ 7 = 0 ∨ 1025 ≤ M + cntN rb 1024
            omega
          · exact absurd (show i < i from c85) (by omega)
        | succ n ih =>
          intro i η rb z3 hin hW hR h0 hP hT hx1 hx2 hA
          obtain ⟨y1, y2, y3⟩ := hx1 i (by omega)
          have K160 : ∀ (η : AH) (rc : Nat → Nat) (z3 : Option Value), Wd G η w τ → RSt η t o adr w τ jj qq pp tt ta tb na nb c0 (d + 2) gn md rc → Kp t (t + 7) η0 η → Pl η (t + 3) pp w τ (nx i) → P0 η (t + 4) tt w → ¬ goalT τ (nx i) → UpR τ (d + 2) (fun y => rdS τ (nx i) y) rb rc → (∀ y, rdS τ (nx i) y → rc (smT τ y) ≠ 0) → V G Γ yX18_run cX18_run 4 (some .int) [] 10 (ri fun r η => r = oI (roundT τ) ∧ Kp t (t + 7) η0 η) (0) (0) (η) 160 [some (.ref o), some (.int (nI d)), some (.int (nI i)), z3] [] := by
            intro η rc z3 hW hR h0 hP hT hg hU hd
            refine vn_iinc 1 dX18_run_160 rfl k_iconst_1 (by decide) rfl ?_
            refine v_goto (tgt := 80) dX18_run_163 rfl ?_
            refine ih (i + 1) η rc _ (by omega) hW hR h0 hP.p0 hT (fun k hk => ?_) (fun x x1 x2 => hx2 x x1 (hU.bk (by omega) x2)) ((hA.step wb3 hlm y1 y3 hg hU hd).weak (fun j q => ?_))
            · obtain ⟨k1, k2, k3⟩ := hx1 k hk
              exact ⟨k1, k2, hU.at_ (by omega) k3⟩
            · obtain ⟨k, k1, k2⟩ := q
              by_cases c : k = i
              · right; rw [← k2, c]
              · exact Or.inl ⟨k, by omega, k2⟩
          have L128 : ∀ (n b : Nat) (η : AH) (rc : Nat → Nat), b + n = 2 → Wd G η w τ → RSt η t o adr w τ jj qq pp tt ta tb na nb c0 (d + 2) gn md rc → Kp t (t + 7) η0 η → Pl η (t + 3) pp w τ (nx i) → P0 η (t + 4) tt w → ¬ goalT τ (nx i) → bsT τ 0 (stT τ) 0 0 0 = 0 → UpR τ (d + 2) (fun y => rdS τ (nx i) y) rb rc → (∀ b2, b2 < b → ∀ s, R0 τ (nx i) b2 s → bsT τ 0 (nx i) s (1 * 2 ^ b2) 1 = 0 → bsT τ 0 (Y1 τ (nx i) b2 s) 0 0 0 = 0 → rc (smT τ (Y1 τ (nx i) b2 s)) ≠ 0) → V G Γ yX18_run cX18_run 4 (some .int) [] 10 (ri fun r η => r = oI (roundT τ) ∧ Kp t (t + 7) η0 η) (0) (0) (η) 128 [some (.ref o), some (.int (nI d)), some (.int (nI i)), some (.int (nI b))] [] := by
            intro n
            induction n with
            | zero =>
              intro b η rc hbn hW hR h0 hP hT hg hbs hU hd
              have eb : b = 2 := by omega
              subst eb
              obtain ⟨ρ, gx, ⟨hRo, r0, r1, r2, r4, r5, hJ, hQ, hN, hX, hab⟩, rm, hI⟩ := id hR
              refine v_iload_n (i := 3) dX18_run_128 rfl rfl ?_
              refine v_iconst (v := nI 2) dX18_run_129 k_iconst_2 ?_
              refine vn_icmp_ge (tgt := 150) dX18_run_130 rfl (by omega) (by decide) (fun c130 => ?_) (fun c130 => ?_)
              · refine v_aload_n (i := 0) dX18_run_150 rfl rfl ?_
                refine v_aload_n (i := 0) dX18_run_151 rfl rfl ?_
                refine go_get3 hRo KX18 4 (by decide) rfl (na) r4 q935 dX18_run_152 ?_
                refine v_iload_n (i := 2) dX18_run_155 rfl rfl ?_
                refine ag_ld hN (show i < 1024 by omega) (by decide) y2 dX18_run_156 ?_
                refine v_callVe (cR_pair hW hR hS2 hB2 hlm hbs hP hT y1 (by omega) hh0) (lw_V q977 q979 qs17 q159 q980) iX18_pair rfl KX18 hR.rcv rfl rfl (by decide) (by decide) (Nat.le_of_ble_eq_true rfl) (Nat.le_refl _) (Nat.le_refl _) dX18_run_157 (kr_W (fun η h => ?_)) kx_W
                obtain ⟨re, hR, hk, hP, hT, hU2, hd2⟩ := h
                have hW := hW.kp hk
                have h0 := h0.tr hk
                exact K160 η re _ hW hR h0 hP hT hg (hU.trans (by omega) hU2) (fun y hy => by
                  obtain ⟨g1, g2, g3⟩ := hy
                  rcases g3 with ⟨b, s, q1, q2, q3, q4, q5, q6, rfl⟩ | ⟨s, q, q1, q2, q3, q4, q5, q6, q7, q8, q9, q10, rfl⟩
                  · exact hU2.keep (hd b q1 s ⟨q2, q3, q4, q5⟩ q6 g2)
                  · exact hd2 s q ⟨⟨q1, q2, q3, q4⟩, ⟨⟨q5, q6, q7, q9⟩, q8, q10⟩, g2⟩)
              · exact absurd c130 (by omega)
            | succ n ihn =>
              intro b η rc hbn hW hR h0 hP hT hg hbs hU hd
              obtain ⟨ρ, gx, ⟨hRo, r0, r1, r2, r4, r5, hJ, hQ, hN, hX, hab⟩, rm, hI⟩ := id hR
              refine v_iload_n (i := 3) dX18_run_128 rfl rfl ?_
              refine v_iconst (v := nI 2) dX18_run_129 k_iconst_2 ?_
              refine vn_icmp_ge (tgt := 150) dX18_run_130 rfl (by omega) (by decide) (fun c130 => ?_) (fun c130 => ?_)
              · exact absurd c130 (by omega)
              · refine v_aload_n (i := 0) dX18_run_133 rfl rfl ?_
                refine v_aload_n (i := 0) dX18_run_134 rfl rfl ?_
                refine go_get3 hRo KX18 4 (by decide) rfl (na) r4 q935 dX18_run_135 ?_
                refine v_iload_n (i := 2) dX18_run_138 rfl rfl ?_
                refine ag_ld hN (show i < 1024 by omega) (by decide) y2 dX18_run_139 ?_
                refine v_iload_n (i := 3) dX18_run_140 rfl rfl ?_
                refine v_callVe (cR_single hW hR hS2 hB2 hlm hbs hP hT y1 (by omega) (show b < 2 by omega)) (lw_V q967 q969 qs15 q159 q970) iX18_single rfl KX18 hR.rcv rfl rfl (by decide) (by decide) (Nat.le_of_ble_eq_true rfl) (Nat.le_refl _) (Nat.le_refl _) dX18_run_141 (kr_W (fun η h => ?_)) kx_W
                obtain ⟨re, hR, hk, hP, hT, hU2, hd2⟩ := h
                have hW := hW.kp hk
                have h0 := h0.tr hk
                refine vn_iinc 1 dX18_run_144 rfl k_iconst_1 (by decide) rfl ?_
                refine v_goto (tgt := 128) dX18_run_147 rfl ?_
                exact ihn (b + 1) η re (by omega) hW hR h0 hP hT hg hbs (hU.trans (by omega) hU2) (fun b2 hb2 s g1 g2 g3 => by
                  by_cases c : b2 = b
                  · subst c; exact hd2 s g1 g2 g3
                  · exact hU2.keep (hd b2 (by omega) s g1 g2 g3))
          obtain ⟨ρ, gx, ⟨hRo, r0, r1, r2, r4, r5, hJ, hQ, hN, hX, hab⟩, rm, hI⟩ := id hR
          refine v_iload_n (i := 2) dX18_run_80 rfl rfl ?_
          refine v_aload_n (i := 0) dX18_run_81 rfl rfl ?_
          refine go_get0 hRo KX18 6 (by decide) rfl (md) rm q937 dX18_run_82 ?_
          refine vn_icmp_ge (tgt := 166) dX18_run_85 rfl (by omega) (by omega) (fun c85 => ?_) (fun c85 => ?_)
          · exact absurd (show md ≤ i from c85) (by omega)
          · refine v_aload_n (i := 0) dX18_run_88 rfl rfl ?_
            refine go_get3 hRo KX18 1 (by decide) rfl (pp) r1 q932 dX18_run_89 ?_
            refine v_aload_n (i := 0) dX18_run_92 rfl rfl ?_
            refine go_get3 hRo KX18 4 (by decide) rfl (na) r4 q935 dX18_run_93 ?_
            refine v_iload_n (i := 2) dX18_run_96 rfl rfl ?_
            refine ag_ld hN (show i < 1024 by omega) (by decide) y2 dX18_run_97 ?_
            refine v_callVe (cP_read hW hP (nx i)) (lw_V q965 q706 q707 q135 q708) iX7_read rfl KX7 hP.rcv rfl rfl (by decide) (by decide) (Nat.le_of_ble_eq_true rfl) (Nat.le_refl _) (Nat.le_refl _) dX18_run_98 (kr_W (fun η h => ?_)) kx_W
            obtain ⟨hP, hk⟩ := h
            have h0 := h0.th hk (by omega) (by omega)
            have hW := hW.kp hk
            have hT := hT.kp hk (by omega)
            have hR := hR.kp hk (by omega)
            have hRo := hRo.kpS hk (by omega)
            obtain ⟨lw, hJ⟩ := hJ
            have hJ := hJ.kp hk (by omega)
            have hJ : ∃ lw, Jd _ (t + 1) jj qq w τ (tA τ 41) (tA τ 42) 0 lw := ⟨lw, hJ⟩
            refine v_aload_n (i := 0) dX18_run_101 rfl rfl ?_
            refine go_get3 hRo KX18 1 (by decide) rfl (pp) r1 q932 dX18_run_102 ?_
            refine v_callVe (cP_isGoal hW hP) (lw_V q966 q778 q779 q135 q780) iX7_isGoal rfl KX7 hP.rcv rfl rfl (by decide) (by decide) (Nat.le_of_ble_eq_true rfl) (Nat.le_refl _) (Nat.le_refl _) dX18_run_105 (kr_ei ?_) kx_e
            refine vn_if_eq (tgt := 113) dX18_run_108 rfl (by split <;> decide) (fun c108 => ?_) (fun c108 => ?_)
            · have hg : ¬ goalT τ (nx i) := fun hg => absurd ((if_pos hg).symm.trans c108) (by decide)
              refine v_aload_n (i := 0) dX18_run_113 rfl rfl ?_
              obtain ⟨lw, adj, θ, hJo, j0, j7, hhd, hld, j3, j4, j5, j6, j8⟩ := hJ
              refine go_get3 hRo KX18 0 (by decide) rfl (jj) r0 q931 dX18_run_114 ?_
              refine go_get0N hJo KX17 4 (by decide) rfl (if bsT τ 0 (stT τ) 0 0 0 = 0 then 1 else 0) j4 q667 dX18_run_117 ?_
              refine vn_if_ne (tgt := 126) dX18_run_120 rfl (by split <;> decide) (fun c120 => ?_) (fun c120 => ?_)
              · have hbs : bsT τ 0 (stT τ) 0 0 0 = 0 := Decidable.byContradiction (fun z => c120 (if_neg z))
                refine v_iconst (v := nI 0) dX18_run_126 k_iconst_0 ?_
                refine v_istore_n (i := 3) dX18_run_127 rfl (by decide) rfl ?_
                exact L128 2 0 η rb (by omega) hW hR h0 hP hT hg hbs UpR.rf (fun b2 hb2 => absurd hb2 (by omega))
              · have hbs : ¬ bsT τ 0 (stT τ) 0 0 0 = 0 := fun z => absurd ((if_pos z).symm.trans c120) (by decide)
                refine v_goto (tgt := 160) dX18_run_123 rfl ?_
                exact K160 η rb _ hW hR h0 hP hT hg UpR.rf (fun y hy => absurd hy.1 hbs)
            · have hg : goalT τ (nx i) := Decidable.byContradiction (fun hg => c108 (if_neg hg))
              refine v_iload_n (i := 1) dX18_run_111 rfl rfl ?_
              exact v_iret rfl dX18_run_112 (by
                have hf := hA.found wb3 hlm hst y1 y3 hg
                rw [hf]
                exact ⟨_, rfl, rfl, h0⟩)
      refine v_aload_n (i := 0) dX18_run_66 rfl rfl ?_
      refine go_get0 hRo KX18 6 (by decide) rfl (md) hmd.symm q937 dX18_run_67 ?_
      refine vn_if_le (tgt := 198) dX18_run_70 rfl (by omega) (fun c70 => ?_) (fun c70 => ?_)
      · exact absurd c70 (by omega)
      · refine v_aload_n (i := 0) dX18_run_73 rfl rfl ?_
        refine v_iconst (v := nI 0) dX18_run_74 k_iconst_0 ?_
        refine go_put0 hRo KX18 7 (by decide) rfl q938 rfl rfl rfl dX18_run_75 (fun η hRo hk => ?_)
        have h0 := h0.th hk (by omega) (by omega)
        have hW := hW.kp hk
        have hP := hP.kp hk (by omega)
        have hT := hT.kp hk (by omega)
        have hQ := hQ.kp hk (by omega)
        obtain ⟨lw, hJ⟩ := hJ
        have hJ := hJ.kp hk (by omega)
        have hJ : ∃ lw, Jd _ (t + 1) jj qq w τ (tA τ 41) (tA τ 42) 0 lw := ⟨lw, hJ⟩
        have hN := hN.kp hk (by omega)
        have hX := hX.kp hk (by omega)
        refine v_iconst (v := nI 0) dX18_run_78 k_iconst_0 ?_
        refine v_istore_n (i := 2) dX18_run_79 rfl (by decide) rfl ?_
        exact L80 md 0 η ra _ (by omega) hW ⟨_, gx, ⟨hRo, r0, r1, r2, r4, r5, hJ, hQ, hN, hX, hab⟩, hmd.symm, hlev⟩ h0 hP hT hn1 hn2 (hA.weak (fun j q => by obtain ⟨k, k1, -⟩ := q; omega))
  refine v_aload_n (i := 0) dX18_run_0 rfl rfl ?_
  refine go_get3 hRo KX18 1 (by decide) rfl (pp) r1 q932 dX18_run_1 ?_
  refine v_callVe (cP_start hW hP) (lw_V q963 q533 q534 q135 q535) iX7_start rfl KX7 hP.rcv rfl rfl (by decide) (by decide) (Nat.le_of_ble_eq_true rfl) (Nat.le_refl _) (Nat.le_refl _) dX18_run_4 (kr_W (fun η h => ?_)) kx_W
  obtain ⟨hP, hk⟩ := h
  have h0 := h0.th hk (by omega) (by omega)
  have hW := hW.kp hk
  have hT := hT.kp hk (by omega)
  have hQ := hQ.kp hk (by omega)
  obtain ⟨lw, hJ⟩ := hJ
  have hJ := hJ.kp hk (by omega)
  have hJ : ∃ lw, Jd _ (t + 1) jj qq w τ (tA τ 41) (tA τ 42) 0 lw := ⟨lw, hJ⟩
  have hN := hN.kp hk (by omega)
  have hX := hX.kp hk (by omega)
  have hRo := hRo.kpS hk (by omega)
  refine v_aload_n (i := 0) dX18_run_7 rfl rfl ?_
  refine go_get3 hRo KX18 4 (by decide) rfl (na) r4 q935 dX18_run_8 ?_
  refine v_iconst (v := nI 0) dX18_run_11 k_iconst_0 ?_
  refine v_aload_n (i := 0) dX18_run_12 rfl rfl ?_
  refine go_get3 hRo KX18 1 (by decide) rfl (pp) r1 q932 dX18_run_13 ?_
  refine v_callVe (cP_code hW hP) (lw_V q964 q644 q645 q135 q646) iX7_code rfl KX7 hP.rcv rfl rfl (by decide) (by decide) (Nat.le_of_ble_eq_true rfl) (Nat.le_refl _) (Nat.le_refl _) dX18_run_16 (kr_ei ?_) kx_e
  refine ag_sto hN (show 0 < 1024 by decide) (by decide) dX18_run_19 (fun η hN hk => ?_)
  have h0 := h0.th hk (by omega) (by omega)
  have hW := hW.kp hk
  have hT := hT.kp hk (by omega)
  have hP := hP.kp hk (by omega)
  have hQ := hQ.kp hk (by omega)
  obtain ⟨lw, hJ⟩ := hJ
  have hJ := hJ.kp hk (by omega)
  have hJ : ∃ lw, Jd _ (t + 1) jj qq w τ (tA τ 41) (tA τ 42) 0 lw := ⟨lw, hJ⟩
  have hX := hX.kp hk (by omega)
  have hRo := hRo.kpS hk (by omega)
  refine v_aload_n (i := 0) dX18_run_20 rfl rfl ?_
  refine v_iconst (v := nI 1) dX18_run_21 k_iconst_1 ?_
  refine go_put0 hRo KX18 6 (by decide) rfl q937 rfl rfl rfl dX18_run_22 (fun η hRo hk => ?_)
  have h0 := h0.th hk (by omega) (by omega)
  have hW := hW.kp hk
  have hP := hP.kp hk (by omega)
  have hT := hT.kp hk (by omega)
  have hQ := hQ.kp hk (by omega)
  obtain ⟨lw, hJ⟩ := hJ
  have hJ := hJ.kp hk (by omega)
  have hJ : ∃ lw, Jd _ (t + 1) jj qq w τ (tA τ 41) (tA τ 42) 0 lw := ⟨lw, hJ⟩
  have hN := hN.kp hk (by omega)
  have hX := hX.kp hk (by omega)
  refine v_aload_n (i := 0) dX18_run_25 rfl rfl ?_
  refine go_getA hRo KX18 3 (by decide) (by decide) q934 dX18_run_26 ?_
  obtain ⟨adp, π, hPo, p0, p3, p1, p2⟩ := id hP
  have b0 := (hst.b2 0).1
  have b1 := (hst.b2 1).1
  have hix := ixT_lt wb3 hst
  refine v_aload_n (i := 0) dX18_run_29 rfl rfl ?_
  refine go_get3 hRo KX18 1 (by decide) rfl (pp) r1 q932 dX18_run_30 ?_
  refine go_getAN hPo KX7 2 (by decide) (by decide) q515 dX18_run_33 ?_
  refine v_iconst (v := nI 1) dX18_run_36 k_iconst_1 ?_
  refine go_ld10 hPo 2 (by decide) rfl (show _ < 4 from (by decide)) (by decide) _ (p2 _ (by omega)) dX18_run_37 ?_
  refine v_iconst (v := nI 2) dX18_run_38 k_iconst_2 ?_
  refine vn_ishl (by decide) dX18_run_39 ?_
  refine v_aload_n (i := 0) dX18_run_40 rfl rfl ?_
  refine go_get3 hRo KX18 1 (by decide) rfl (pp) r1 q932 dX18_run_41 ?_
  refine go_getAN hPo KX7 1 (by decide) (by decide) q510 dX18_run_44 ?_
  refine v_iconst (v := nI 0) dX18_run_47 k_iconst_0 ?_
  refine go_ld10 hPo 1 (by decide) rfl (show _ < 2 from (by omega)) (by decide) _ (p1 _ (by omega)) dX18_run_48 ?_
  refine v_iconst (v := nI 1) dX18_run_49 k_iconst_1 ?_
  refine vn_ishl (by decide) dX18_run_50 ?_
  refine vn_ior dX18_run_51 ?_
  refine v_aload_n (i := 0) dX18_run_52 rfl rfl ?_
  refine go_get3 hRo KX18 1 (by decide) rfl (pp) r1 q932 dX18_run_53 ?_
  refine go_getAN hPo KX7 1 (by decide) (by decide) q510 dX18_run_56 ?_
  refine v_iconst (v := nI 1) dX18_run_59 k_iconst_1 ?_
  refine go_ld10 hPo 1 (by decide) rfl (show _ < 2 from (by omega)) (by decide) _ (p1 _ (by omega)) dX18_run_60 ?_
  refine vn_ior dX18_run_61 ?_
  refine v_iconst (v := nI 1) dX18_run_62 k_iconst_1 ?_
  refine go_st12 hRo 3 (by decide) rfl (show _ < 1024 from hix) (by decide) (by decide) dX18_run_63 (fun η hRo hk => ?_)
  have h0 := h0.th hk (by omega) (by omega)
  have hW := hW.kp hk
  have hP := hP.kp hk (by omega)
  have hT := hT.kp hk (by omega)
  have hQ := hQ.kp hk (by omega)
  obtain ⟨lw, hJ⟩ := hJ
  have hJ := hJ.kp hk (by omega)
  have hJ : ∃ lw, Jd _ (t + 1) jj qq w τ (tA τ 41) (tA τ 42) 0 lw := ⟨lw, hJ⟩
  have hN := hN.kp hk (by omega)
  have hX := hX.kp hk (by omega)
  refine v_iconst (v := nI 0) dX18_run_64 k_iconst_0 ?_
  refine v_istore_n (i := 1) dX18_run_65 rfl (by decide) rfl ?_
  have hI0 : RIv τ (fun _ => 0) 1 0 (gA ρ 3) 0 gn := ⟨fun x _ => hz _, fun j => by rw [hz]; decide, Nat.zero_le _, fun _ => 0, fun i hi => absurd hi (by omega), fun x _ z => absurd (show (0 : Nat) = 1 from z) (by decide)⟩
  have hI1 := hI0.put wb3 (by decide) hst rfl
  have hc1 : cntN (va_up (fun _ => 0) (smT τ (stT τ)) 1) 1024 = 1 := by rw [cntN_up (by decide) rfl (smT_lt wb3 hst), cntN_0 (fun _ _ => rfl)]
  refine L66 1024 0 (t + 5) (t + 6) na nb η _ (va_up (fun _ => 0) (smT τ (stT τ)) 1) (va_up gn 0 (cdT τ (stT τ))) gx none none (by omega) hW ⟨hRo, r0, r1, r2, r4, r5, hJ, hQ, hN, hX, hab⟩ h0 hP.p0 hT (Or.inr (by omega)) ⟨0, hI1⟩ (RAd.of (RAk.base hst (fun j _ hj => va_up_n hj) va_up_e)) (fun j hj => ?_)
  by_cases c : j = smT τ (stT τ)
  · rw [c, va_up_e]; omega
  · rw [va_up_n c]; omega
