theorem cM_signT {G : Gl} {m : Nat} {ad : Nat → Nat} {η0 : AH} (hap : Mp m ad) (σ : MS) (hP : PO σ) (p : Nat) (hp : p ≤ gN σ 21) (c : Nat) (hc : c < 2147483648) : Ct G yX8_isSign cX8_isSign 2 (some .boolean) 1 0 0 [.ref m, .int (nI c)] (MH m ad (TS σ p) η0) (re (some (.int (nI (if isS (tq σ p) c then 1 else 0)))) (MH m ad (TS σ p) η0)) := by
  obtain ⟨b22, b23, b24, b25, b26, b27, b28⟩ := tq_b hP hp
  exact cM_isSign (G := G) (η0 := η0) hap (TS σ p) c hc (show tq σ p 23 < _ by omega) (show tq σ p 27 < _ by omega)
theorem cM_kwS {G : Gl} {m : Nat} {ad : Nat → Nat} {η0 : AH} (hap : Mp m ad) (σ : MS) (hP : PO σ) (p : Nat) (hp : p ≤ gN σ 21) : Ct G yX8_knownWord cX8_knownWord 2 (some .int) 3 0 0 [.ref m] (MH m ad (TS σ p) η0) (re (some (.int (oI (kwT (tq σ p))))) (MH m ad (TS σ p) η0)) := by
  obtain ⟨b22, b23, b24, b25, b26, b27, b28⟩ := tq_b hP hp
  exact cM_knownWord (G := G) (η0 := η0) hap (TS σ p) (show tq σ p 23 < _ by omega) (show tq σ p 25 < _ by omega) b28
theorem tq_TKg {σ : MS} (hP : PO σ) : TKg (tq σ) (gN σ 21) := fun _ hp => ⟨nx_ge hP hp, (tq_b hP hp).1⟩
theorem eNeed_e {T : Nat → Nat → Nat} {k p : Nat} {e : Nat × Nat} (h : eNeed T k p = .error e) : 1 ≤ e.1 ∧ e.1 ≤ 5 := by
  unfold eNeed at h
  split at h
  · cases h
  · cases h; exact ⟨by dsimp only; decide, by dsimp only; decide⟩
theorem eNum_e {T : Nat → Nat → Nat} {lo hi p : Nat} {e : Nat × Nat} (h : eNum T lo hi p = .error e) : 1 ≤ e.1 ∧ e.1 ≤ 5 := by
  unfold eNum at h
  have := numE_le (T p) lo hi
  split at h
  · cases h
  · cases h; exact ⟨by dsimp only; omega, by dsimp only; omega⟩
theorem eSh_e {T : Nat → Nat → Nat} {S o p : Nat} {e : Nat × Nat} (h : eSh T S o p = .error e) : 1 ≤ e.1 ∧ e.1 ≤ 5 := by
  unfold eSh at h
  have := shE_le (T p) S o
  split at h
  · cases h
  · cases h; exact ⟨by dsimp only; omega, by dsimp only; omega⟩
theorem andT_e {α β : Type} {x : Er α} {f : α → Er β} {e : Nat × Nat} {Q : Nat × Nat → Prop} (h : andT x f = .error e) (h1 : ∀ e, x = .error e → Q e) (h2 : ∀ a e, f a = .error e → Q e) : Q e := by
  cases x with
  | ok a => exact h2 a e h
  | error e' => cases h; exact h1 _ rfl
theorem thingE_e {T : Nat → Nat → Nat} {lt : Nat → Nat} {n p : Nat} {e : Nat × Nat} (h : thingE T lt n p = .error e) : 1 ≤ e.1 ∧ e.1 ≤ 5 := by
  unfold thingE at h
  split at h
  · cases h; exact ⟨by dsimp only; decide, by dsimp only; decide⟩
  · dsimp only at h
    split at h
    · cases h; exact ⟨by dsimp only; decide, by dsimp only; decide⟩
    · split at h
      · cases h; exact ⟨by dsimp only; decide, by dsimp only; decide⟩
      · refine andT_e (Q := fun e => 1 ≤ e.1 ∧ e.1 ≤ 5) h (fun _ h => eNeed_e h) (fun _ e h => andT_e (Q := fun e => 1 ≤ e.1 ∧ e.1 ≤ 5) h (fun _ h => eNum_e h) (fun a e h => ?_))
        obtain ⟨w, q⟩ := a
        dsimp only at h
        split at h
        · exact andT_e (Q := fun e => 1 ≤ e.1 ∧ e.1 ≤ 5) h (fun _ h => eNum_e h) (fun _ _ h => by cases h)
        · cases h
theorem boatE_e {T : Nat → Nat → Nat} {S B p : Nat} {e : Nat × Nat} (h : boatE T S B p = .error e) : 1 ≤ e.1 ∧ e.1 ≤ 5 := by
  unfold boatE at h
  split at h
  · cases h; exact ⟨by dsimp only; decide, by dsimp only; decide⟩
  · exact andT_e (Q := fun e => 1 ≤ e.1 ∧ e.1 ≤ 5) h (fun _ h => eNeed_e h) (fun _ _ h => andT_e (Q := fun e => 1 ≤ e.1 ∧ e.1 ≤ 5) h (fun _ h => eNum_e h) (fun _ _ h => andT_e (Q := fun e => 1 ≤ e.1 ∧ e.1 ≤ 5) h (fun _ h => eNeed_e h) (fun _ _ h => andT_e (Q := fun e => 1 ≤ e.1 ∧ e.1 ≤ 5) h (fun _ h => eNum_e h) (fun _ _ h => andT_e (Q := fun e => 1 ≤ e.1 ∧ e.1 ≤ 5) h (fun _ h => eNeed_e h) (fun _ _ h => andT_e (Q := fun e => 1 ≤ e.1 ∧ e.1 ≤ 5) h (fun _ h => eSh_e h) (fun _ _ h => by cases h))))))
theorem waterE_e {T : Nat → Nat → Nat} {S p : Nat} {e : Nat × Nat} (h : waterE T S p = .error e) : 1 ≤ e.1 ∧ e.1 ≤ 5 :=
  andT_e (Q := fun e => 1 ≤ e.1 ∧ e.1 ≤ 5) h (fun _ h => eSh_e h) (fun _ _ h => andT_e (Q := fun e => 1 ≤ e.1 ∧ e.1 ≤ 5) h (fun _ h => eSh_e h) (fun _ _ h => by cases h))
theorem lampE_e {T : Nat → Nat → Nat} {S l p : Nat} {e : Nat × Nat} (h : lampE T S l p = .error e) : 1 ≤ e.1 ∧ e.1 ≤ 5 := by
  unfold lampE at h
  split at h
  · cases h; exact ⟨by dsimp only; decide, by dsimp only; decide⟩
  · exact andT_e (Q := fun e => 1 ≤ e.1 ∧ e.1 ≤ 5) h (fun _ h => eNeed_e h) (fun _ _ h => eSh_e h)
theorem va_upQ {f : Nat → Nat} {P : Nat → Prop} {n i v : Nat} (h : P (f i)) (hv : P v) : P (va_up f n v i) := by
  by_cases c : i = n
  · subst c
    rw [va_up_e]
    exact hv
  · rw [va_up_n c]
    exact h
theorem cM_clause {G : Gl} {m : Nat} {ad : Nat → Nat} {η0 : AH} (hap : Mp m ad) (σ : MS) (hP : PO σ) (p : Nat) (hp : p ≤ gN σ 21) (hg : gN σ 19 = 0) (τ : Td) (hRD : RD σ τ) (hHL : HL σ) (hlo : 2 * gN σ 34 ≤ 3 * p) : Ct G yX8_clause cX8_clause 2 none 8 0 0 [.ref m] (MH m ad (TS σ p) η0) (rv fun η => (∀ p2 τ2, clauseE (tq σ) τ p = .ok (p2, τ2) → p2 ≤ gN σ 21 ∧ ∃ σ2, η = MH m ad (TS σ2 p2) η0 ∧ RD σ2 τ2 ∧ HL σ2 ∧ RO σ σ2 ∧ gN σ2 19 = 0 ∧ gN σ2 20 = gN σ 20 ∧ 2 * gN σ2 34 ≤ 3 * p2) ∧ ∀ k q, clauseE (tq σ) τ p = .error (k, q) → k < 2147483648 ∧ ¬ k = 0 ∧ ∃ σ2, η = MH m ad σ2 η0 ∧ RO σ σ2 ∧ HL σ2 ∧ gN σ2 19 = k ∧ gN σ2 20 = tq σ q 24 + 1) := by
  refine Ct.start rfl rfl (Nat.le_of_ble_eq_true rfl) (fun Γ => ?_)
  generalize hC : clauseE (tq σ) τ p = C
  have hTK := tq_TKo hP
  have hTg := tq_TKg hP
  have hl : ∀ t, t < 8 → gA σ 40 t < 2147483648 := fun t ht => by have := hHL t ht; omega
  obtain ⟨⟨a1, a2, a3, a4, a5, a6⟩, ⟨d1, d2, d3, d4, d5, d6, d7⟩, c1, c2, -⟩ := id hRD
  have bk := kwT_le (tq σ p)
  have L96 : ∀ (σ2 : MS) (p2 : Nat) (τ2 : Td) (z1 : Option Value), RO σ σ2 → gN σ2 19 = 0 → gN σ2 20 = gN σ 20 → p2 ≤ gN σ 21 → RD σ2 τ2 → HL σ2 → 2 * gN σ2 34 ≤ 3 * p2 + 3 → C = semiE (tq σ) p2 τ2 → V G Γ yX8_clause cX8_clause 2 none [] 8 (rv fun η => (∀ p2 τ2, C = .ok (p2, τ2) → p2 ≤ gN σ 21 ∧ ∃ σ2, η = MH m ad (TS σ2 p2) η0 ∧ RD σ2 τ2 ∧ HL σ2 ∧ RO σ σ2 ∧ gN σ2 19 = 0 ∧ gN σ2 20 = gN σ 20 ∧ 2 * gN σ2 34 ≤ 3 * p2) ∧ ∀ k q, C = .error (k, q) → k < 2147483648 ∧ ¬ k = 0 ∧ ∃ σ2, η = MH m ad σ2 η0 ∧ RO σ σ2 ∧ HL σ2 ∧ gN σ2 19 = k ∧ gN σ2 20 = tq σ q 24 + 1) 0 0 (MH m ad (TS σ2 p2) η0) 96 [some (.ref m), z1] [] := by
    intro σ2 p2 τ2 z1 hro hg2 hg3 hp2 hR2 hH2 hb2 hC2
    have hP2 := hro.po hP
    have e21 : gN σ2 21 = gN σ 21 := hro.1 21 (by decide)
    have etq := hro.tqe
    refine v_aload_n (i := 0) dX8_clause_96 rfl rfl ?_
    refine v_callVi (cM_goodG hap (TS σ2 p2) hg2) (lw_V q2229 q2231 qs61 q136 q2232) iX8_isGood rfl KX8 MH_m rfl rfl (by decide) (by decide) (Nat.le_of_ble_eq_true rfl) dX8_clause_97 ?_
    refine vn_if_eq (tgt := 117) dX8_clause_100 rfl (by decide) (fun c100 => ?_) (fun c100 => ?_)
    · exact absurd c100 (by decide)
    · refine v_aload_n (i := 0) dX8_clause_103 rfl rfl ?_
      refine v_bipush (v := nI 59) dX8_clause_104 k_bipush_59 ?_
      refine v_callVi (cM_signT hap σ2 hP2 p2 (by omega) 59 (by decide)) (lw_V q2237 q2239 qs63 q136 q2240) iX8_isSign rfl KX8 MH_m rfl rfl (by decide) (by decide) (Nat.le_of_ble_eq_true rfl) dX8_clause_106 ?_
      by_cases h106 : isS (tq σ2 p2) 59
      · rw [if_pos h106]
        refine vn_if_ne (tgt := 117) dX8_clause_109 rfl (by decide) (fun c109 => ?_) (fun c109 => ?_)
        · refine v_aload_n (i := 0) dX8_clause_117 rfl rfl ?_
          refine v_callVi (cM_goodG hap (TS σ2 p2) hg2) (lw_V q2229 q2231 qs61 q136 q2232) iX8_isGood rfl KX8 MH_m rfl rfl (by decide) (by decide) (Nat.le_of_ble_eq_true rfl) dX8_clause_118 ?_
          refine vn_if_eq (tgt := 128) dX8_clause_121 rfl (by decide) (fun c121 => ?_) (fun c121 => ?_)
          · exact absurd c121 (by decide)
          · refine v_aload_n (i := 0) dX8_clause_124 rfl rfl ?_
            refine v_callVv (cM_goesT hap σ2 hP2 p2 (by omega)) (lw_V q2201 q2203 qs57 q136 q2204) iX8_goes rfl KX8 MH_m rfl rfl (by decide) (by decide) (Nat.le_of_ble_eq_true rfl) dX8_clause_125 ?_
            exact v_vret rfl dX8_clause_128 (by
                  have hs : isS (tq σ p2) 59 := by rw [← etq]; exact h106
                  have E : C = .ok (tq σ p2 22, τ2) := hC2.trans (if_pos hs)
                  have en : nx σ2 p2 = tq σ p2 22 := by unfold nx; rw [etq]
                  have hg := nx_gt hP hp2 (by omega)
                  have hg : p2 < tq σ p2 22 := hg
                  exact ⟨rfl, fun _ _ e => (by rw [E] at e; cases e; exact ⟨(tq_b hP hp2).1, σ2, by rw [en], hR2, hH2, hro, hg2, hg3, by omega⟩), fun k q e => (by rw [E] at e; cases e)⟩)
        · exact absurd c109 (by decide)
      · rw [if_neg h106]
        refine vn_if_ne (tgt := 117) dX8_clause_109 rfl (by decide) (fun c109 => ?_) (fun c109 => ?_)
        · exact absurd rfl c109
        · refine v_aload_n (i := 0) dX8_clause_112 rfl rfl ?_
          refine v_iconst (v := nI 1) dX8_clause_113 k_iconst_1 ?_
          refine v_callVv (cM_wrongG hap (TS σ2 p2) 1 hg2) (lw_V q2233 q2235 qs62 q136 q2236) iX8_wrong rfl KX8 MH_m rfl rfl (by decide) (by decide) (Nat.le_of_ble_eq_true rfl) dX8_clause_114 ?_
          refine v_aload_n (i := 0) dX8_clause_117 rfl rfl ?_
          refine v_callVi (cM_goodB hap (flt (TS σ2 p2) 1 (gN (TS σ2 p2) 24)) (show ¬ 1 = 0 by decide) (show 1 < 2147483648 by decide)) (lw_V q2229 q2231 qs61 q136 q2232) iX8_isGood rfl KX8 MH_m rfl rfl (by decide) (by decide) (Nat.le_of_ble_eq_true rfl) dX8_clause_118 ?_
          refine vn_if_eq (tgt := 128) dX8_clause_121 rfl (by decide) (fun c121 => ?_) (fun c121 => ?_)
          · exact v_vret rfl dX8_clause_128 (by
                  have E : C = .error (1, p2) := hC2.trans (if_neg (by rw [← etq]; exact h106))
                  exact ⟨rfl, fun _ _ e => (by rw [E] at e; cases e), fun k q e => (by rw [E] at e; cases e; exact ⟨by decide, by decide, _, rfl, hro.ts_.flt, hH2, rfl, by rw [← etq]; rfl⟩)⟩)
          · exact absurd rfl c121
  have LB : ∀ (σ2 : MS) (k q : Nat) (z1 : Option Value), C = .error (k, q) → RO σ σ2 → HL σ2 → gN σ2 19 = k → gN σ2 20 = tq σ q 24 + 1 → k < 2147483648 → ¬ k = 0 → V G Γ yX8_clause cX8_clause 2 none [] 8 (rv fun η => (∀ p2 τ2, C = .ok (p2, τ2) → p2 ≤ gN σ 21 ∧ ∃ σ2, η = MH m ad (TS σ2 p2) η0 ∧ RD σ2 τ2 ∧ HL σ2 ∧ RO σ σ2 ∧ gN σ2 19 = 0 ∧ gN σ2 20 = gN σ 20 ∧ 2 * gN σ2 34 ≤ 3 * p2) ∧ ∀ k q, C = .error (k, q) → k < 2147483648 ∧ ¬ k = 0 ∧ ∃ σ2, η = MH m ad σ2 η0 ∧ RO σ σ2 ∧ HL σ2 ∧ gN σ2 19 = k ∧ gN σ2 20 = tq σ q 24 + 1) 0 0 (MH m ad σ2 η0) 96 [some (.ref m), z1] [] := by
    intro σ2 k q z1 hC2 hro hH2 hk1 hk2 hk3 hk4
    refine v_aload_n (i := 0) dX8_clause_96 rfl rfl ?_
    refine v_callVi (cM_goodB hap σ2 (by omega) (by omega)) (lw_V q2229 q2231 qs61 q136 q2232) iX8_isGood rfl KX8 MH_m rfl rfl (by decide) (by decide) (Nat.le_of_ble_eq_true rfl) dX8_clause_97 ?_
    refine vn_if_eq (tgt := 117) dX8_clause_100 rfl (by decide) (fun c100 => ?_) (fun c100 => ?_)
    · refine v_aload_n (i := 0) dX8_clause_117 rfl rfl ?_
      refine v_callVi (cM_goodB hap σ2 (by omega) (by omega)) (lw_V q2229 q2231 qs61 q136 q2232) iX8_isGood rfl KX8 MH_m rfl rfl (by decide) (by decide) (Nat.le_of_ble_eq_true rfl) dX8_clause_118 ?_
      refine vn_if_eq (tgt := 128) dX8_clause_121 rfl (by decide) (fun c121 => ?_) (fun c121 => ?_)
      · exact v_vret rfl dX8_clause_128 ⟨rfl, fun _ _ e => (by rw [hC2] at e; cases e), fun k' q' e => (by rw [hC2] at e; cases e; exact ⟨hk3, hk4, _, rfl, hro, hH2, hk1, hk2⟩)⟩
      · exact absurd rfl c121
    · exact absurd rfl c100
  refine v_aload_n (i := 0) dX8_clause_0 rfl rfl ?_
  refine v_callVi (cM_kwS hap σ hP p hp) (lw_V q2215 q2217 qs59 q136 q2218) iX8_knownWord rfl KX8 MH_m rfl rfl (by decide) (by decide) (Nat.le_of_ble_eq_true rfl) dX8_clause_1 ?_
  refine v_istore_n (i := 1) dX8_clause_4 rfl (by decide) rfl ?_
  refine v_iload_n (i := 1) dX8_clause_5 rfl rfl ?_
  refine v_iconst (v := nI 1) dX8_clause_6 k_iconst_1 ?_
  refine von_icmp_lt (tgt := 16) dX8_clause_7 rfl (by omega) (by decide) (fun c7 => ?_) (fun c7 => ?_)
  · refine v_aload_n (i := 0) dX8_clause_16 rfl rfl ?_
    refine v_iconst (v := nI 1) dX8_clause_17 k_iconst_1 ?_
    refine v_callVv (cM_wrongG hap (TS σ p) 1 hg) (lw_V q2233 q2235 qs62 q136 q2236) iX8_wrong rfl KX8 MH_m rfl rfl (by decide) (by decide) (Nat.le_of_ble_eq_true rfl) dX8_clause_18 ?_
    refine v_aload_n (i := 0) dX8_clause_21 rfl rfl ?_
    refine v_callVi (cM_goodB hap (flt (TS σ p) 1 (gN (TS σ p) 24)) (show ¬ 1 = 0 by decide) (show 1 < 2147483648 by decide)) (lw_V q2229 q2231 qs61 q136 q2232) iX8_isGood rfl KX8 MH_m rfl rfl (by decide) (by decide) (Nat.le_of_ble_eq_true rfl) dX8_clause_22 ?_
    refine vn_if_ne (tgt := 29) dX8_clause_25 rfl (by decide) (fun c25 => ?_) (fun c25 => ?_)
    · exact absurd rfl c25
    · exact v_vret rfl dX8_clause_28 (by
          have E : C = .error (1, p) := hC.symm.trans ((if_neg (by omega)).trans ((if_neg (by omega)).trans ((if_neg (by omega)).trans ((if_neg (by omega)).trans (if_neg (by omega))))))
          exact ⟨rfl, fun _ _ e => (by rw [E] at e; cases e), fun k q e => (by rw [E] at e; cases e; exact ⟨by decide, by decide, _, rfl, (RO.rfl' σ).ts_.flt, hHL, rfl, rfl⟩)⟩)
  · refine v_iload_n (i := 1) dX8_clause_10 rfl rfl ?_
    refine v_bipush (v := nI 6) dX8_clause_11 k_bipush_6 ?_
    refine von_icmp_le (tgt := 21) dX8_clause_13 rfl (by omega) (by decide) (fun c13 => ?_) (fun c13 => ?_)
    · refine v_aload_n (i := 0) dX8_clause_21 rfl rfl ?_
      refine v_callVi (cM_goodG hap (TS σ p) hg) (lw_V q2229 q2231 qs61 q136 q2232) iX8_isGood rfl KX8 MH_m rfl rfl (by decide) (by decide) (Nat.le_of_ble_eq_true rfl) dX8_clause_22 ?_
      refine vn_if_ne (tgt := 29) dX8_clause_25 rfl (by decide) (fun c25 => ?_) (fun c25 => ?_)
      · refine v_iload_n (i := 1) dX8_clause_29 rfl rfl ?_
        refine v_iconst (v := nI 1) dX8_clause_30 k_iconst_1 ?_
        refine von_icmp_ne (tgt := 41) dX8_clause_31 rfl (by omega) (by decide) (fun c31 => ?_) (fun c31 => ?_)
        · refine v_iload_n (i := 1) dX8_clause_41 rfl rfl ?_
          refine v_iconst (v := nI 2) dX8_clause_42 k_iconst_2 ?_
          refine von_icmp_ne (tgt := 53) dX8_clause_43 rfl (by omega) (by decide) (fun c43 => ?_) (fun c43 => ?_)
          · refine v_iload_n (i := 1) dX8_clause_53 rfl rfl ?_
            refine v_iconst (v := nI 3) dX8_clause_54 k_iconst_3 ?_
            refine von_icmp_eq (tgt := 63) dX8_clause_55 rfl (by omega) (by decide) (fun c55 => ?_) (fun c55 => ?_)
            · refine v_aload_n (i := 0) dX8_clause_63 rfl rfl ?_
              refine v_iload_n (i := 1) dX8_clause_64 rfl rfl ?_
              refine v_iconst (v := nI 3) dX8_clause_65 k_iconst_3 ?_
              refine von_icmp_ne (tgt := 73) dX8_clause_66 rfl (by omega) (by decide) (fun c66 => ?_) (fun c66 => ?_)
              · refine v_iconst (v := nI 0) dX8_clause_73 k_iconst_0 ?_
                refine v_callVW (kc' := 0) (ks' := 0) (cM_water hap σ hP p hp hg (by omega) 0 (by decide)) (lw_V q2265 q2267 qs70 q136 q2268) iX8_water rfl KX8 MH_m rfl rfl (by decide) (by decide) (Nat.le_of_ble_eq_true rfl) (by decide) (by decide) dX8_clause_74 (fun η' h => ?_)
                obtain ⟨hn, hy⟩ := h
                by_cases h74 : ∃ z, waterE (tq σ) (gN σ 29) p = .ok z
                · obtain ⟨⟨z1, z2, z3⟩, hz⟩ := h74
                  have e := hy z1 z2 z3 hz
                  subst e
                  refine v_eq (congrArg (fun τ => MH m ad τ η0) (show _ = TS (waterM σ 0 z1 z2) z3 by unfold waterM; rw [if_pos rfl, if_pos rfl, TS_sN _ _ _ _ (by decide), TS_sA _ _ _ _ _ (by decide)])) ?_
                  obtain ⟨g1, g2, g3, g4⟩ := waterE_b hz
                  have g4 := g4 _ hTg hp
                  have hz2 : waterE (tq σ) (tN τ 29) p = .ok (z1, z2, z3) := by rw [← a1]; exact hz
                  refine v_goto (tgt := 96) dX8_clause_77 rfl ?_
                  exact L96 (waterM σ 0 z1 z2) z3 (waterU τ 0 z1 z2) _ (((RO.rfl' σ).sN (by decide)).sA (by decide)) hg rfl g4.2 (hRD.water _ _ _ (by rw [← a1]; exact g1) (by rw [← a1]; exact g2) g3) hHL (by show 2 * gN σ 34 ≤ _; have : p ≤ z3 := g4.1; omega) (hC.symm.trans (((if_neg (show ¬ kwT (tq σ p) = 2 by omega)).trans ((if_neg (show ¬ kwT (tq σ p) = 3 by omega)).trans (if_pos (show kwT (tq σ p) = 4 ∨ kwT (tq σ p) = 5 by omega)))).trans ((andT_ok hz2).trans (by rw [if_neg (show ¬ kwT (tq σ p) = 4 by omega)]))))
                · obtain ⟨k, q, hz⟩ := er_of h74
                  have e := hn k q hz
                  subst e
                  refine v_goto (tgt := 96) dX8_clause_77 rfl ?_
                  have hz2 : waterE (tq σ) (tN τ 29) p = .error (k, q) := by rw [← a1]; exact hz
                  have ge := waterE_e hz2
                  exact LB _ k q _ (hC.symm.trans (((if_neg (show ¬ kwT (tq σ p) = 2 by omega)).trans ((if_neg (show ¬ kwT (tq σ p) = 3 by omega)).trans (if_pos (show kwT (tq σ p) = 4 ∨ kwT (tq σ p) = 5 by omega)))).trans (andT_er hz2))) ((RO.rfl' σ).ts_.flt) hHL rfl rfl (by dsimp only at ge; omega) (by dsimp only at ge; omega)
              · refine v_iconst (v := nI 1) dX8_clause_69 k_iconst_1 ?_
                refine v_goto (tgt := 74) dX8_clause_70 rfl ?_
                refine v_callVW (kc' := 0) (ks' := 0) (cM_water hap σ hP p hp hg (by omega) 1 (by decide)) (lw_V q2265 q2267 qs70 q136 q2268) iX8_water rfl KX8 MH_m rfl rfl (by decide) (by decide) (Nat.le_of_ble_eq_true rfl) (by decide) (by decide) dX8_clause_74 (fun η' h => ?_)
                obtain ⟨hn, hy⟩ := h
                by_cases h74 : ∃ z, waterE (tq σ) (gN σ 29) p = .ok z
                · obtain ⟨⟨z1, z2, z3⟩, hz⟩ := h74
                  have e := hy z1 z2 z3 hz
                  subst e
                  refine v_eq (congrArg (fun τ => MH m ad τ η0) (show _ = TS (waterM σ 1 z1 z2) z3 by unfold waterM; rw [if_neg (by decide), if_neg (by decide), TS_sN _ _ _ _ (by decide), TS_sA _ _ _ _ _ (by decide), TS_sA _ _ _ _ _ (by decide)])) ?_
                  obtain ⟨g1, g2, g3, g4⟩ := waterE_b hz
                  have g4 := g4 _ hTg hp
                  have hz2 : waterE (tq σ) (tN τ 29) p = .ok (z1, z2, z3) := by rw [← a1]; exact hz
                  refine v_goto (tgt := 96) dX8_clause_77 rfl ?_
                  exact L96 (waterM σ 1 z1 z2) z3 (waterU τ 1 z1 z2) _ ((((RO.rfl' σ).sN (by decide)).sA (by decide)).sA (by decide)) hg rfl g4.2 (hRD.water _ _ _ (by rw [← a1]; exact g1) (by rw [← a1]; exact g2) g3) hHL (by show 2 * gN σ 34 ≤ _; have : p ≤ z3 := g4.1; omega) (hC.symm.trans (((if_neg (show ¬ kwT (tq σ p) = 2 by omega)).trans ((if_neg (show ¬ kwT (tq σ p) = 3 by omega)).trans (if_pos (show kwT (tq σ p) = 4 ∨ kwT (tq σ p) = 5 by omega)))).trans ((andT_ok hz2).trans (by rw [if_pos (show kwT (tq σ p) = 4 by omega)]))))
                · obtain ⟨k, q, hz⟩ := er_of h74
                  have e := hn k q hz
                  subst e
                  refine v_goto (tgt := 96) dX8_clause_77 rfl ?_
                  have hz2 : waterE (tq σ) (tN τ 29) p = .error (k, q) := by rw [← a1]; exact hz
                  have ge := waterE_e hz2
                  exact LB _ k q _ (hC.symm.trans (((if_neg (show ¬ kwT (tq σ p) = 2 by omega)).trans ((if_neg (show ¬ kwT (tq σ p) = 3 by omega)).trans (if_pos (show kwT (tq σ p) = 4 ∨ kwT (tq σ p) = 5 by omega)))).trans (andT_er hz2))) ((RO.rfl' σ).ts_.flt) hHL rfl rfl (by dsimp only at ge; omega) (by dsimp only at ge; omega)
            · refine v_iload_n (i := 1) dX8_clause_58 rfl rfl ?_
              refine v_iconst (v := nI 4) dX8_clause_59 k_iconst_4 ?_
              refine von_icmp_ne (tgt := 80) dX8_clause_60 rfl (by omega) (by decide) (fun c60 => ?_) (fun c60 => ?_)
              · refine v_iload_n (i := 1) dX8_clause_80 rfl rfl ?_
                refine v_iconst (v := nI 5) dX8_clause_81 k_iconst_5 ?_
                refine von_icmp_ne (tgt := 92) dX8_clause_82 rfl (by omega) (by decide) (fun c82 => ?_) (fun c82 => ?_)
                · refine v_aload_n (i := 0) dX8_clause_92 rfl rfl ?_
                  refine v_callVW (kc' := 0) (ks' := 0) (cM_never hap σ hP p hp hg (by omega) (by omega) (by omega) hl hlo) (lw_V q2273 q2275 qs72 q136 q2276) iX8_never rfl KX8 MH_m rfl rfl (by decide) (by decide) (Nat.le_of_ble_eq_true rfl) (by decide) (by decide) dX8_clause_93 (fun η' h => ?_)
                  obtain ⟨hy, hn⟩ := h
                  by_cases h93 : ∃ z, neverE (tq σ) (gA σ 40) (gN σ 30) (gN σ 29) (gN σ 32) p = .ok z
                  · obtain ⟨⟨z1, z2, z3⟩, hz⟩ := h93
                    obtain ⟨g1, g2, rd, r, wt, wn, dp, td, e, g3, g4, g5, g6⟩ := hy z1 z2 z3 hz
                    subst e
                    obtain ⟨g7, g8, -, -⟩ := neverE_b hTK hTg hp hz
                    refine v_eq (congrArg (fun τ => MH m ad τ η0) (show _ = TS (neverM (XU σ rd (gN σ 34 + r.length + 1) wt wn dp td) (gN σ 34) z3) z1 by rw [XS_TS, TS_sB, TS_sA _ _ _ _ _ (by decide), TS_sN _ _ _ _ (by decide)]; rfl)) ?_
                    have hz2 : neverE (tq σ) (tA τ 40) (tN τ 30) (tN τ 29) (tN τ 32) p = .ok (z1, z2, z3) := by rw [← a1, ← a2, ← a4, neverE_congr (g := gA σ 40) (by rw [a2]; exact (fun i hi => ((c1 i hi).2.2.1).symm))]; exact hz
                    exact L96 (neverM (XU σ rd (gN σ 34 + r.length + 1) wt wn dp td) (gN σ 34) z3) z1 (neverU τ z2 z3) _ (((RO.rfl' σ).XU.sB.sA (by decide)).sN (by decide)) hg rfl g1 (hRD.never z2 z3 (by rw [← a4]; exact g7) g2 g3 g4 g5) hHL g6 (hC.symm.trans (((if_neg (show ¬ kwT (tq σ p) = 2 by omega)).trans ((if_neg (show ¬ kwT (tq σ p) = 3 by omega)).trans ((if_neg (show ¬ (kwT (tq σ p) = 4 ∨ kwT (tq σ p) = 5) by omega)).trans ((if_neg (show ¬ kwT (tq σ p) = 6 by omega)).trans (if_pos (show kwT (tq σ p) = 7 by omega)))))).trans (andT_ok hz2)))
                  · obtain ⟨k, q, hz⟩ := er_of h93
                    obtain ⟨g1, g2, g3, rd, tp, wt, wn, dp, td, e⟩ := hn k q hz
                    subst e
                    have hz2 : neverE (tq σ) (tA τ 40) (tN τ 30) (tN τ 29) (tN τ 32) p = .error (k, q) := by rw [← a1, ← a2, ← a4, neverE_congr (g := gA σ 40) (by rw [a2]; exact (fun i hi => ((c1 i hi).2.2.1).symm))]; exact hz
                    exact LB _ k q _ (hC.symm.trans (((if_neg (show ¬ kwT (tq σ p) = 2 by omega)).trans ((if_neg (show ¬ kwT (tq σ p) = 3 by omega)).trans ((if_neg (show ¬ (kwT (tq σ p) = 4 ∨ kwT (tq σ p) = 5) by omega)).trans ((if_neg (show ¬ kwT (tq σ p) = 6 by omega)).trans (if_pos (show kwT (tq σ p) = 7 by omega)))))).trans (andT_er hz2))) ((RO.rfl' σ).flt.XS) hHL rfl rfl g1 g2
                · refine v_aload_n (i := 0) dX8_clause_85 rfl rfl ?_
                  refine v_callVW (kc' := 0) (ks' := 0) (cM_lamp hap σ hP p hp hg (by omega) (by omega)) (lw_V q2269 q2271 qs71 q136 q2272) iX8_lamp rfl KX8 MH_m rfl rfl (by decide) (by decide) (Nat.le_of_ble_eq_true rfl) (by decide) (by decide) dX8_clause_86 (fun η' h => ?_)
                  obtain ⟨hn, hy⟩ := h
                  by_cases h86 : ∃ z, lampE (tq σ) (gN σ 29) (gN σ 33) p = .ok z
                  · obtain ⟨⟨z1, z2⟩, hz⟩ := h86
                    have e := hy z1 z2 hz
                    subst e
                    refine v_eq (congrArg (fun τ => MH m ad τ η0) (show _ = TS (sN σ 33 (z1 + 1)) z2 by rw [TS_sN _ _ _ _ (by decide)])) ?_
                    obtain ⟨g1, g2, g3⟩ := lampE_b hz
                    have g3 := g3 _ hTg hp
                    have hz2 : lampE (tq σ) (tN τ 29) (tN τ 33) p = .ok (z1, z2) := by rw [← a1, ← a5]; exact hz
                    refine v_goto (tgt := 96) dX8_clause_89 rfl ?_
                    exact L96 (sN σ 33 (z1 + 1)) z2 (uN τ 33 (z1 + 1)) _ ((RO.rfl' σ).sN (by decide)) hg rfl g3.2 (hRD.lamp _ (by rw [← a1]; exact g2)) hHL (by show 2 * gN σ 34 ≤ _; have : p ≤ z2 := g3.1; omega) (hC.symm.trans (((if_neg (show ¬ kwT (tq σ p) = 2 by omega)).trans ((if_neg (show ¬ kwT (tq σ p) = 3 by omega)).trans ((if_neg (show ¬ (kwT (tq σ p) = 4 ∨ kwT (tq σ p) = 5) by omega)).trans (if_pos (show kwT (tq σ p) = 6 by omega))))).trans (andT_ok hz2)))
                  · obtain ⟨k, q, hz⟩ := er_of h86
                    have e := hn k q hz
                    subst e
                    refine v_goto (tgt := 96) dX8_clause_89 rfl ?_
                    have hz2 : lampE (tq σ) (tN τ 29) (tN τ 33) p = .error (k, q) := by rw [← a1, ← a5]; exact hz
                    have ge := lampE_e hz2
                    exact LB _ k q _ (hC.symm.trans (((if_neg (show ¬ kwT (tq σ p) = 2 by omega)).trans ((if_neg (show ¬ kwT (tq σ p) = 3 by omega)).trans ((if_neg (show ¬ (kwT (tq σ p) = 4 ∨ kwT (tq σ p) = 5) by omega)).trans (if_pos (show kwT (tq σ p) = 6 by omega))))).trans (andT_er hz2))) ((RO.rfl' σ).ts_.flt) hHL rfl rfl (by dsimp only at ge; omega) (by dsimp only at ge; omega)
              · refine v_aload_n (i := 0) dX8_clause_63 rfl rfl ?_
                refine v_iload_n (i := 1) dX8_clause_64 rfl rfl ?_
                refine v_iconst (v := nI 3) dX8_clause_65 k_iconst_3 ?_
                refine von_icmp_ne (tgt := 73) dX8_clause_66 rfl (by omega) (by decide) (fun c66 => ?_) (fun c66 => ?_)
                · refine v_iconst (v := nI 0) dX8_clause_73 k_iconst_0 ?_
                  refine v_callVW (kc' := 0) (ks' := 0) (cM_water hap σ hP p hp hg (by omega) 0 (by decide)) (lw_V q2265 q2267 qs70 q136 q2268) iX8_water rfl KX8 MH_m rfl rfl (by decide) (by decide) (Nat.le_of_ble_eq_true rfl) (by decide) (by decide) dX8_clause_74 (fun η' h => ?_)
                  obtain ⟨hn, hy⟩ := h
                  by_cases h74 : ∃ z, waterE (tq σ) (gN σ 29) p = .ok z
                  · obtain ⟨⟨z1, z2, z3⟩, hz⟩ := h74
                    have e := hy z1 z2 z3 hz
                    subst e
                    refine v_eq (congrArg (fun τ => MH m ad τ η0) (show _ = TS (waterM σ 0 z1 z2) z3 by unfold waterM; rw [if_pos rfl, if_pos rfl, TS_sN _ _ _ _ (by decide), TS_sA _ _ _ _ _ (by decide)])) ?_
                    obtain ⟨g1, g2, g3, g4⟩ := waterE_b hz
                    have g4 := g4 _ hTg hp
                    have hz2 : waterE (tq σ) (tN τ 29) p = .ok (z1, z2, z3) := by rw [← a1]; exact hz
                    refine v_goto (tgt := 96) dX8_clause_77 rfl ?_
                    exact L96 (waterM σ 0 z1 z2) z3 (waterU τ 0 z1 z2) _ (((RO.rfl' σ).sN (by decide)).sA (by decide)) hg rfl g4.2 (hRD.water _ _ _ (by rw [← a1]; exact g1) (by rw [← a1]; exact g2) g3) hHL (by show 2 * gN σ 34 ≤ _; have : p ≤ z3 := g4.1; omega) (hC.symm.trans (((if_neg (show ¬ kwT (tq σ p) = 2 by omega)).trans ((if_neg (show ¬ kwT (tq σ p) = 3 by omega)).trans (if_pos (show kwT (tq σ p) = 4 ∨ kwT (tq σ p) = 5 by omega)))).trans ((andT_ok hz2).trans (by rw [if_neg (show ¬ kwT (tq σ p) = 4 by omega)]))))
                  · obtain ⟨k, q, hz⟩ := er_of h74
                    have e := hn k q hz
                    subst e
                    refine v_goto (tgt := 96) dX8_clause_77 rfl ?_
                    have hz2 : waterE (tq σ) (tN τ 29) p = .error (k, q) := by rw [← a1]; exact hz
                    have ge := waterE_e hz2
                    exact LB _ k q _ (hC.symm.trans (((if_neg (show ¬ kwT (tq σ p) = 2 by omega)).trans ((if_neg (show ¬ kwT (tq σ p) = 3 by omega)).trans (if_pos (show kwT (tq σ p) = 4 ∨ kwT (tq σ p) = 5 by omega)))).trans (andT_er hz2))) ((RO.rfl' σ).ts_.flt) hHL rfl rfl (by dsimp only at ge; omega) (by dsimp only at ge; omega)
                · refine v_iconst (v := nI 1) dX8_clause_69 k_iconst_1 ?_
                  refine v_goto (tgt := 74) dX8_clause_70 rfl ?_
                  refine v_callVW (kc' := 0) (ks' := 0) (cM_water hap σ hP p hp hg (by omega) 1 (by decide)) (lw_V q2265 q2267 qs70 q136 q2268) iX8_water rfl KX8 MH_m rfl rfl (by decide) (by decide) (Nat.le_of_ble_eq_true rfl) (by decide) (by decide) dX8_clause_74 (fun η' h => ?_)
                  obtain ⟨hn, hy⟩ := h
                  by_cases h74 : ∃ z, waterE (tq σ) (gN σ 29) p = .ok z
                  · obtain ⟨⟨z1, z2, z3⟩, hz⟩ := h74
                    have e := hy z1 z2 z3 hz
                    subst e
                    refine v_eq (congrArg (fun τ => MH m ad τ η0) (show _ = TS (waterM σ 1 z1 z2) z3 by unfold waterM; rw [if_neg (by decide), if_neg (by decide), TS_sN _ _ _ _ (by decide), TS_sA _ _ _ _ _ (by decide), TS_sA _ _ _ _ _ (by decide)])) ?_
                    obtain ⟨g1, g2, g3, g4⟩ := waterE_b hz
                    have g4 := g4 _ hTg hp
                    have hz2 : waterE (tq σ) (tN τ 29) p = .ok (z1, z2, z3) := by rw [← a1]; exact hz
                    refine v_goto (tgt := 96) dX8_clause_77 rfl ?_
                    exact L96 (waterM σ 1 z1 z2) z3 (waterU τ 1 z1 z2) _ ((((RO.rfl' σ).sN (by decide)).sA (by decide)).sA (by decide)) hg rfl g4.2 (hRD.water _ _ _ (by rw [← a1]; exact g1) (by rw [← a1]; exact g2) g3) hHL (by show 2 * gN σ 34 ≤ _; have : p ≤ z3 := g4.1; omega) (hC.symm.trans (((if_neg (show ¬ kwT (tq σ p) = 2 by omega)).trans ((if_neg (show ¬ kwT (tq σ p) = 3 by omega)).trans (if_pos (show kwT (tq σ p) = 4 ∨ kwT (tq σ p) = 5 by omega)))).trans ((andT_ok hz2).trans (by rw [if_pos (show kwT (tq σ p) = 4 by omega)]))))
                  · obtain ⟨k, q, hz⟩ := er_of h74
                    have e := hn k q hz
                    subst e
                    refine v_goto (tgt := 96) dX8_clause_77 rfl ?_
                    have hz2 : waterE (tq σ) (tN τ 29) p = .error (k, q) := by rw [← a1]; exact hz
                    have ge := waterE_e hz2
                    exact LB _ k q _ (hC.symm.trans (((if_neg (show ¬ kwT (tq σ p) = 2 by omega)).trans ((if_neg (show ¬ kwT (tq σ p) = 3 by omega)).trans (if_pos (show kwT (tq σ p) = 4 ∨ kwT (tq σ p) = 5 by omega)))).trans (andT_er hz2))) ((RO.rfl' σ).ts_.flt) hHL rfl rfl (by dsimp only at ge; omega) (by dsimp only at ge; omega)
          · refine v_aload_n (i := 0) dX8_clause_46 rfl rfl ?_
            refine v_callVW (kc' := 0) (ks' := 0) (cM_boat hap σ hP p hp hg (by omega) (by omega)) (lw_V q2257 q2259 qs68 q136 q2260) iX8_boat rfl KX8 MH_m rfl rfl (by decide) (by decide) (Nat.le_of_ble_eq_true rfl) (by decide) (by decide) dX8_clause_47 (fun η' h => ?_)
            obtain ⟨hn, hy⟩ := h
            by_cases h47 : ∃ z, boatE (tq σ) (gN σ 29) (gN σ 31) p = .ok z
            · obtain ⟨⟨z1, z2, z3, z4⟩, hz⟩ := h47
              have e := hy z1 z2 z3 z4 hz
              subst e
              refine v_eq (congrArg (fun τ => MH m ad τ η0) (show _ = TS (boatM σ (z1, z2, z3, z4)) z4 by rw [TS_sA _ _ _ _ _ (by decide), TS_sA _ _ _ _ _ (by decide), TS_sA _ _ _ _ _ (by decide), TS_sN _ _ _ _ (by decide)]; rfl)) ?_
              obtain ⟨g1, g2, g3, g4, g5, g6⟩ := boatE_b hz
              have g6 := g6 _ hTg hp
              have hz2 : boatE (tq σ) (tN τ 29) (tN τ 31) p = .ok (z1, z2, z3, z4) := by rw [← a1, ← a3]; exact hz
              refine v_goto (tgt := 96) dX8_clause_50 rfl ?_
              exact L96 (boatM σ (z1, z2, z3, z4)) z4 (boatU τ (z1, z2, z3, z4)) _ ((((RO.rfl' σ).sA (by decide)).sA (by decide)).sA (by decide) |>.sN (by decide)) hg rfl g6.2 (hRD.boat _ (by rw [← a3]; exact g1) g2 g3 g4 (by rw [← a1]; exact g5)) hHL (by show 2 * gN σ 34 ≤ _; have : p ≤ z4 := g6.1; omega) (hC.symm.trans (((if_neg (show ¬ kwT (tq σ p) = 2 by omega)).trans (if_pos (show kwT (tq σ p) = 3 by omega))).trans (andT_ok hz2)))
            · obtain ⟨k, q, hz⟩ := er_of h47
              have e := hn k q hz
              subst e
              refine v_goto (tgt := 96) dX8_clause_50 rfl ?_
              have hz2 : boatE (tq σ) (tN τ 29) (tN τ 31) p = .error (k, q) := by rw [← a1, ← a3]; exact hz
              have ge := boatE_e hz2
              exact LB _ k q _ (hC.symm.trans (((if_neg (show ¬ kwT (tq σ p) = 2 by omega)).trans (if_pos (show kwT (tq σ p) = 3 by omega))).trans (andT_er hz2))) ((RO.rfl' σ).ts_.flt) hHL rfl rfl (by dsimp only at ge; omega) (by dsimp only at ge; omega)
        · refine v_aload_n (i := 0) dX8_clause_34 rfl rfl ?_
          refine v_callVW (kc' := 0) (ks' := 0) (cM_thing hap σ hP p hp hg (by omega) hl) (lw_V q2245 q2247 qs65 q136 q2248) iX8_thing rfl KX8 MH_m rfl rfl (by decide) (by decide) (Nat.le_of_ble_eq_true rfl) (by decide) (by decide) dX8_clause_35 (fun η' h => ?_)
          obtain ⟨hn, hy⟩ := h
          by_cases h35 : ∃ z, thingE (tq σ) (gA σ 40) (gN σ 30) p = .ok z
          · obtain ⟨⟨z1, z2, z3, z4⟩, hz⟩ := h35
            have e := hy z1 z2 z3 z4 hz
            subst e
            refine v_eq (congrArg (fun τ => MH m ad τ η0) (show _ = TS (thingM σ (z1, z2, z3, z4)) z4 by rw [TS_sA _ _ _ _ _ (by decide), TS_sA _ _ _ _ _ (by decide), TS_sA _ _ _ _ _ (by decide), TS_sN _ _ _ _ (by decide)]; rfl)) ?_
            obtain ⟨g1, g2, g3, g4, g5⟩ := thingE_b hz
            have g5 := g5 _ hTg hp
            have hz2 : thingE (tq σ) (tA τ 40) (tN τ 30) p = .ok (z1, z2, z3, z4) := by rw [← a2, thingE_congr (g := gA σ 40) (by rw [a2]; exact (fun i hi => ((c1 i hi).2.2.1).symm))]; exact hz
            refine v_goto (tgt := 96) dX8_clause_38 rfl ?_
            exact L96 (thingM σ (z1, z2, z3, z4)) z4 (thingU τ (z1, z2, z3, z4)) _ ((((RO.rfl' σ).sA (by decide)).sA (by decide)).sA (by decide) |>.sN (by decide)) hg rfl g5.2 (hRD.thing _ (by rw [← a2]; exact g1) (by rw [g2]; have := (tq_b hP (tq_b hP hp).1).2.2.2.2.2.1; exact this) g3 g4) (fun t ht => va_upQ (P := fun x => x < 256) (hHL t ht) (by have := (tq_b hP (tq_b hP hp).1).2.2.2.2.2.1; have g2 : z1 = _ := g2; rw [g2]; exact this)) (by show 2 * gN σ 34 ≤ _; have : p ≤ z4 := g5.1; omega) (hC.symm.trans ((if_pos (show kwT (tq σ p) = 2 by omega)).trans (andT_ok hz2)))
          · obtain ⟨k, q, hz⟩ := er_of h35
            have e := hn k q hz
            subst e
            refine v_goto (tgt := 96) dX8_clause_38 rfl ?_
            have hz2 : thingE (tq σ) (tA τ 40) (tN τ 30) p = .error (k, q) := by rw [← a2, thingE_congr (g := gA σ 40) (by rw [a2]; exact (fun i hi => ((c1 i hi).2.2.1).symm))]; exact hz
            have ge := thingE_e hz2
            exact LB _ k q _ (hC.symm.trans ((if_pos (show kwT (tq σ p) = 2 by omega)).trans (andT_er hz2))) ((RO.rfl' σ).ts_.flt) hHL rfl rfl (by dsimp only at ge; omega) (by dsimp only at ge; omega)
      · exact absurd c25 (by decide)
    · refine v_aload_n (i := 0) dX8_clause_16 rfl rfl ?_
      refine v_iconst (v := nI 1) dX8_clause_17 k_iconst_1 ?_
      refine v_callVv (cM_wrongG hap (TS σ p) 1 hg) (lw_V q2233 q2235 qs62 q136 q2236) iX8_wrong rfl KX8 MH_m rfl rfl (by decide) (by decide) (Nat.le_of_ble_eq_true rfl) dX8_clause_18 ?_
      refine v_aload_n (i := 0) dX8_clause_21 rfl rfl ?_
      refine v_callVi (cM_goodB hap (flt (TS σ p) 1 (gN (TS σ p) 24)) (show ¬ 1 = 0 by decide) (show 1 < 2147483648 by decide)) (lw_V q2229 q2231 qs61 q136 q2232) iX8_isGood rfl KX8 MH_m rfl rfl (by decide) (by decide) (Nat.le_of_ble_eq_true rfl) dX8_clause_22 ?_
      refine vn_if_ne (tgt := 29) dX8_clause_25 rfl (by decide) (fun c25 => ?_) (fun c25 => ?_)
      · exact absurd rfl c25
      · exact v_vret rfl dX8_clause_28 (by
            have E : C = .error (1, p) := hC.symm.trans ((if_neg (by omega)).trans ((if_neg (by omega)).trans ((if_neg (by omega)).trans ((if_neg (by omega)).trans (if_neg (by omega))))))
            exact ⟨rfl, fun _ _ e => (by rw [E] at e; cases e), fun k q e => (by rw [E] at e; cases e; exact ⟨by decide, by decide, _, rfl, (RO.rfl' σ).ts_.flt, hHL, rfl, rfl⟩)⟩)
