theorem cM_takes {G : Gl} {m : Nat} {ad : Nat → Nat} {η0 : AH} (hap : Mp m ad) (σ : MS) (hL : gN σ 32 ≤ 12) (hf : gN σ 37 < 2) (hw : ∀ i, i < 16 → gA σ 48 i < 2) : Ct G yX8_takes cX8_takes 2 none 1 0 0 [.ref m] (MH m ad σ η0) (rv fun η => ∃ σ2, η = MH m ad σ2 η0 ∧ TKx σ σ2 8 2 16 (gN σ 32) 1200) := by
  refine Ct.start rfl rfl (Nat.le_of_ble_eq_true rfl) (fun Γ => ?_)
  have L215 : ∀ (n i : Nat) (σ2 : MS), i + n = 1200 → TKx σ σ2 8 2 16 (gN σ 32) i → V G Γ yX8_takes cX8_takes 2 none [] 1 (rv fun η => ∃ σ2, η = MH m ad σ2 η0 ∧ TKx σ σ2 8 2 16 (gN σ 32) 1200) 0 0 (MH m ad σ2 η0) 215 [some (.ref m), some (.int (nI i))] [] := by
    intro n
    induction n with
    | zero =>
      intro i σ2 hi hk
      have e : i = 1200 := by omega
      subst e
      refine v_iload_n (i := 1) dX8_takes_215 rfl rfl ?_
      refine v_sipush (v := nI 1200) dX8_takes_216 k_sipush_1200 ?_
      refine vn_icmp_ge (tgt := 240) dX8_takes_219 rfl (by omega) (by omega) (fun c219 => ?_) (fun c219 => ?_)
      · exact v_vret rfl dX8_takes_240 ⟨rfl, σ2, rfl, hk⟩
      · omega
    | succ n ih =>
      intro i σ2 hi hk
      refine v_iload_n (i := 1) dX8_takes_215 rfl rfl ?_
      refine v_sipush (v := nI 1200) dX8_takes_216 k_sipush_1200 ?_
      refine vn_icmp_ge (tgt := 240) dX8_takes_219 rfl (by omega) (by omega) (fun c219 => ?_) (fun c219 => ?_)
      · omega
      · refine v_aload_n (i := 0) dX8_takes_222 rfl rfl ?_
        refine mg_code rfl dX8_takes_223 ?_
        refine v_iload_n (i := 1) dX8_takes_226 rfl rfl ?_
        refine v_aload_n (i := 0) dX8_takes_227 rfl rfl ?_
        refine mg_read rfl dX8_takes_228 ?_
        refine v_iload_n (i := 1) dX8_takes_231 rfl rfl ?_
        refine ml_read hap (by omega) dX8_takes_232 ?_
        refine ms_code hap (by omega) dX8_takes_233 ?_
        refine vn_iinc 1 dX8_takes_234 rfl k_iconst_1 (by decide) rfl ?_
        refine v_goto (tgt := 215) dX8_takes_237 rfl ?_
        exact ih (i + 1) _ (by omega) hk.e
  have L175 : ∀ (n i : Nat) (σ2 : MS), i + n = gN σ 32 → TKx σ σ2 8 2 16 i 0 → V G Γ yX8_takes cX8_takes 2 none [] 1 (rv fun η => ∃ σ2, η = MH m ad σ2 η0 ∧ TKx σ σ2 8 2 16 (gN σ 32) 1200) 0 0 (MH m ad σ2 η0) 175 [some (.ref m), some (.int (nI i))] [] := by
    intro n
    induction n with
    | zero =>
      intro i σ2 hi hk
      have e : i = gN σ 32 := by omega
      subst e
      refine v_iload_n (i := 1) dX8_takes_175 rfl rfl ?_
      refine v_aload_n (i := 0) dX8_takes_176 rfl rfl ?_
      refine mg_laws rfl dX8_takes_177 ?_
      refine vn_icmp_ge (tgt := 213) dX8_takes_180 rfl (by omega) (show gN σ2 4 < _ by rw [hk.1.2.2.2.1]; omega) (fun c180 => ?_) (fun c180 => ?_)
      · refine v_iconst (v := nI 0) dX8_takes_213 k_iconst_0 ?_
        refine v_istore_n (i := 1) dX8_takes_214 rfl (by decide) rfl ?_
        exact L215 1200 0 σ2 (by omega) hk
      · exact absurd (show gN σ 32 < gN σ2 4 from c180) (by rw [hk.1.2.2.2.1]; omega)
    | succ n ih =>
      intro i σ2 hi hk
      refine v_iload_n (i := 1) dX8_takes_175 rfl rfl ?_
      refine v_aload_n (i := 0) dX8_takes_176 rfl rfl ?_
      refine mg_laws rfl dX8_takes_177 ?_
      refine vn_icmp_ge (tgt := 213) dX8_takes_180 rfl (by omega) (show gN σ2 4 < _ by rw [hk.1.2.2.2.1]; omega) (fun c180 => ?_) (fun c180 => ?_)
      · exact absurd (show gN σ2 4 ≤ i from c180) (by rw [hk.1.2.2.2.1]; omega)
      · refine v_aload_n (i := 0) dX8_takes_183 rfl rfl ?_
        refine mg_scope rfl dX8_takes_184 ?_
        refine v_iload_n (i := 1) dX8_takes_187 rfl rfl ?_
        refine v_aload_n (i := 0) dX8_takes_188 rfl rfl ?_
        refine mg_readScope rfl dX8_takes_189 ?_
        refine v_iload_n (i := 1) dX8_takes_192 rfl rfl ?_
        refine ml_readScope hap (by omega) dX8_takes_193 ?_
        refine ms_scope hap (by omega) dX8_takes_194 ?_
        refine v_aload_n (i := 0) dX8_takes_195 rfl rfl ?_
        refine mg_lawAt rfl dX8_takes_196 ?_
        refine v_iload_n (i := 1) dX8_takes_199 rfl rfl ?_
        refine v_aload_n (i := 0) dX8_takes_200 rfl rfl ?_
        refine mg_readLawAt rfl dX8_takes_201 ?_
        refine v_iload_n (i := 1) dX8_takes_204 rfl rfl ?_
        refine ml_readLawAt hap (by omega) dX8_takes_205 ?_
        refine ms_lawAt hap (by omega) dX8_takes_206 ?_
        refine vn_iinc 1 dX8_takes_207 rfl k_iconst_1 (by decide) rfl ?_
        refine v_goto (tgt := 175) dX8_takes_210 rfl ?_
        exact ih (i + 1) _ (by omega) hk.d
  have L149 : ∀ (n i : Nat) (σ2 : MS), i + n = 16 → TKx σ σ2 8 2 i 0 0 → V G Γ yX8_takes cX8_takes 2 none [] 1 (rv fun η => ∃ σ2, η = MH m ad σ2 η0 ∧ TKx σ σ2 8 2 16 (gN σ 32) 1200) 0 0 (MH m ad σ2 η0) 149 [some (.ref m), some (.int (nI i))] [] := by
    intro n
    induction n with
    | zero =>
      intro i σ2 hi hk
      have e : i = 16 := by omega
      subst e
      refine v_iload_n (i := 1) dX8_takes_149 rfl rfl ?_
      refine v_bipush (v := nI 16) dX8_takes_150 k_bipush_16 ?_
      refine vn_icmp_ge (tgt := 173) dX8_takes_152 rfl (by omega) (by omega) (fun c152 => ?_) (fun c152 => ?_)
      · refine v_iconst (v := nI 0) dX8_takes_173 k_iconst_0 ?_
        refine v_istore_n (i := 1) dX8_takes_174 rfl (by decide) rfl ?_
        exact L175 (gN σ 32) 0 σ2 (by omega) hk
      · omega
    | succ n ih =>
      intro i σ2 hi hk
      refine v_iload_n (i := 1) dX8_takes_149 rfl rfl ?_
      refine v_bipush (v := nI 16) dX8_takes_150 k_bipush_16 ?_
      refine vn_icmp_ge (tgt := 173) dX8_takes_152 rfl (by omega) (by omega) (fun c152 => ?_) (fun c152 => ?_)
      · omega
      · refine v_aload_n (i := 0) dX8_takes_155 rfl rfl ?_
        refine mg_wet rfl dX8_takes_156 ?_
        refine v_iload_n (i := 1) dX8_takes_159 rfl rfl ?_
        refine v_aload_n (i := 0) dX8_takes_160 rfl rfl ?_
        refine mg_readWater rfl dX8_takes_161 ?_
        refine v_iload_n (i := 1) dX8_takes_164 rfl rfl ?_
        refine ml_readWater hap (by omega) dX8_takes_165 ?_
        refine ms_wet hap (by omega) (show gA σ2 48 i < 2 by rw [hk.2.2.2.2.2.2.2.1 48 (by decide)]; exact hw i (by omega)) dX8_takes_166 ?_
        refine vn_iinc 1 dX8_takes_167 rfl k_iconst_1 (by decide) rfl ?_
        refine v_goto (tgt := 149) dX8_takes_170 rfl ?_
        exact ih (i + 1) _ (by omega) hk.c
  have L100 : ∀ (n i : Nat) (σ2 : MS), i + n = 2 → TKx σ σ2 8 i 0 0 0 → V G Γ yX8_takes cX8_takes 2 none [] 1 (rv fun η => ∃ σ2, η = MH m ad σ2 η0 ∧ TKx σ σ2 8 2 16 (gN σ 32) 1200) 0 0 (MH m ad σ2 η0) 100 [some (.ref m), some (.int (nI i))] [] := by
    intro n
    induction n with
    | zero =>
      intro i σ2 hi hk
      have e : i = 2 := by omega
      subst e
      refine v_iload_n (i := 1) dX8_takes_100 rfl rfl ?_
      refine v_iconst (v := nI 2) dX8_takes_101 k_iconst_2 ?_
      refine vn_icmp_ge (tgt := 147) dX8_takes_102 rfl (by omega) (by omega) (fun c102 => ?_) (fun c102 => ?_)
      · refine v_iconst (v := nI 0) dX8_takes_147 k_iconst_0 ?_
        refine v_istore_n (i := 1) dX8_takes_148 rfl (by decide) rfl ?_
        exact L149 16 0 σ2 (by omega) hk
      · omega
    | succ n ih =>
      intro i σ2 hi hk
      refine v_iload_n (i := 1) dX8_takes_100 rfl rfl ?_
      refine v_iconst (v := nI 2) dX8_takes_101 k_iconst_2 ?_
      refine vn_icmp_ge (tgt := 147) dX8_takes_102 rfl (by omega) (by omega) (fun c102 => ?_) (fun c102 => ?_)
      · omega
      · refine v_aload_n (i := 0) dX8_takes_105 rfl rfl ?_
        refine mg_holds rfl dX8_takes_106 ?_
        refine v_iload_n (i := 1) dX8_takes_109 rfl rfl ?_
        refine v_aload_n (i := 0) dX8_takes_110 rfl rfl ?_
        refine mg_readHolds rfl dX8_takes_111 ?_
        refine v_iload_n (i := 1) dX8_takes_114 rfl rfl ?_
        refine ml_readHolds hap (by omega) dX8_takes_115 ?_
        refine ms_holds hap (by omega) dX8_takes_116 ?_
        refine v_aload_n (i := 0) dX8_takes_117 rfl rfl ?_
        refine mg_loads rfl dX8_takes_118 ?_
        refine v_iload_n (i := 1) dX8_takes_121 rfl rfl ?_
        refine v_aload_n (i := 0) dX8_takes_122 rfl rfl ?_
        refine mg_readLoads rfl dX8_takes_123 ?_
        refine v_iload_n (i := 1) dX8_takes_126 rfl rfl ?_
        refine ml_readLoads hap (by omega) dX8_takes_127 ?_
        refine ms_loads hap (by omega) dX8_takes_128 ?_
        refine v_aload_n (i := 0) dX8_takes_129 rfl rfl ?_
        refine mg_boatAt rfl dX8_takes_130 ?_
        refine v_iload_n (i := 1) dX8_takes_133 rfl rfl ?_
        refine v_aload_n (i := 0) dX8_takes_134 rfl rfl ?_
        refine mg_readBoatAt rfl dX8_takes_135 ?_
        refine v_iload_n (i := 1) dX8_takes_138 rfl rfl ?_
        refine ml_readBoatAt hap (by omega) dX8_takes_139 ?_
        refine ms_boatAt hap (by omega) dX8_takes_140 ?_
        refine vn_iinc 1 dX8_takes_141 rfl k_iconst_1 (by decide) rfl ?_
        refine v_goto (tgt := 100) dX8_takes_144 rfl ?_
        exact ih (i + 1) _ (by omega) hk.b
  have L50 : ∀ (n i : Nat) (σ2 : MS), i + n = 8 → TKx σ σ2 i 0 0 0 0 → V G Γ yX8_takes cX8_takes 2 none [] 1 (rv fun η => ∃ σ2, η = MH m ad σ2 η0 ∧ TKx σ σ2 8 2 16 (gN σ 32) 1200) 0 0 (MH m ad σ2 η0) 50 [some (.ref m), some (.int (nI i))] [] := by
    intro n
    induction n with
    | zero =>
      intro i σ2 hi hk
      have e : i = 8 := by omega
      subst e
      refine v_iload_n (i := 1) dX8_takes_50 rfl rfl ?_
      refine v_bipush (v := nI 8) dX8_takes_51 k_bipush_8 ?_
      refine vn_icmp_ge (tgt := 98) dX8_takes_53 rfl (by omega) (by omega) (fun c53 => ?_) (fun c53 => ?_)
      · refine v_iconst (v := nI 0) dX8_takes_98 k_iconst_0 ?_
        refine v_istore_n (i := 1) dX8_takes_99 rfl (by decide) rfl ?_
        exact L100 2 0 σ2 (by omega) hk
      · omega
    | succ n ih =>
      intro i σ2 hi hk
      refine v_iload_n (i := 1) dX8_takes_50 rfl rfl ?_
      refine v_bipush (v := nI 8) dX8_takes_51 k_bipush_8 ?_
      refine vn_icmp_ge (tgt := 98) dX8_takes_53 rfl (by omega) (by omega) (fun c53 => ?_) (fun c53 => ?_)
      · omega
      · refine v_aload_n (i := 0) dX8_takes_56 rfl rfl ?_
        refine mg_weight rfl dX8_takes_57 ?_
        refine v_iload_n (i := 1) dX8_takes_60 rfl rfl ?_
        refine v_aload_n (i := 0) dX8_takes_61 rfl rfl ?_
        refine mg_readWeight rfl dX8_takes_62 ?_
        refine v_iload_n (i := 1) dX8_takes_65 rfl rfl ?_
        refine ml_readWeight hap (by omega) dX8_takes_66 ?_
        refine ms_weight hap (by omega) dX8_takes_67 ?_
        refine v_aload_n (i := 0) dX8_takes_68 rfl rfl ?_
        refine mg_minutes rfl dX8_takes_69 ?_
        refine v_iload_n (i := 1) dX8_takes_72 rfl rfl ?_
        refine v_aload_n (i := 0) dX8_takes_73 rfl rfl ?_
        refine mg_readMinutes rfl dX8_takes_74 ?_
        refine v_iload_n (i := 1) dX8_takes_77 rfl rfl ?_
        refine ml_readMinutes hap (by omega) dX8_takes_78 ?_
        refine ms_minutes hap (by omega) dX8_takes_79 ?_
        refine v_aload_n (i := 0) dX8_takes_80 rfl rfl ?_
        refine mg_letter rfl dX8_takes_81 ?_
        refine v_iload_n (i := 1) dX8_takes_84 rfl rfl ?_
        refine v_aload_n (i := 0) dX8_takes_85 rfl rfl ?_
        refine mg_readLetter rfl dX8_takes_86 ?_
        refine v_iload_n (i := 1) dX8_takes_89 rfl rfl ?_
        refine ml_readLetter hap (by omega) dX8_takes_90 ?_
        refine ms_letter hap (by omega) dX8_takes_91 ?_
        refine vn_iinc 1 dX8_takes_92 rfl k_iconst_1 (by decide) rfl ?_
        refine v_goto (tgt := 50) dX8_takes_95 rfl ?_
        exact ih (i + 1) _ (by omega) hk.a
  refine v_aload_n (i := 0) dX8_takes_0 rfl rfl ?_
  refine v_aload_n (i := 0) dX8_takes_1 rfl rfl ?_
  refine mg_readShores rfl dX8_takes_2 ?_
  refine mp_shores rfl dX8_takes_5 ?_
  refine v_aload_n (i := 0) dX8_takes_8 rfl rfl ?_
  refine v_aload_n (i := 0) dX8_takes_9 rfl rfl ?_
  refine mg_readThings rfl dX8_takes_10 ?_
  refine mp_things rfl dX8_takes_13 ?_
  refine v_aload_n (i := 0) dX8_takes_16 rfl rfl ?_
  refine v_aload_n (i := 0) dX8_takes_17 rfl rfl ?_
  refine mg_readBoats rfl dX8_takes_18 ?_
  refine mp_boats rfl dX8_takes_21 ?_
  refine v_aload_n (i := 0) dX8_takes_24 rfl rfl ?_
  refine v_aload_n (i := 0) dX8_takes_25 rfl rfl ?_
  refine mg_readLaws rfl dX8_takes_26 ?_
  refine mp_laws rfl dX8_takes_29 ?_
  refine v_aload_n (i := 0) dX8_takes_32 rfl rfl ?_
  refine v_aload_n (i := 0) dX8_takes_33 rfl rfl ?_
  refine mg_readLamp rfl dX8_takes_34 ?_
  refine mp_lampAt_o rfl dX8_takes_37 ?_
  refine v_aload_n (i := 0) dX8_takes_40 rfl rfl ?_
  refine v_aload_n (i := 0) dX8_takes_41 rfl rfl ?_
  refine mg_readWet rfl dX8_takes_42 ?_
  refine mp_anyWet rfl hf dX8_takes_45 ?_
  refine v_iconst (v := nI 0) dX8_takes_48 k_iconst_0 ?_
  refine v_istore_n (i := 1) dX8_takes_49 rfl (by decide) rfl ?_
  exact L50 8 0 (TK0 σ) (by omega) (TKx.z σ)
def BG (σ : MS) (c : Nat → Nat) : MS := sN (sA (sA (sN (sN (sN (sN (sA (sA (sN (sN (stA σ 50 c) 67 0) 78 0) 81 0 0) 81 1 0) 82 0) 52 0) 84 0) 85 0) 86 0 (st0 (gA σ 11) (gN σ 3) (gN σ 5))) 87 0 0) 70 0
theorem cM_begins {G : Gl} {m : Nat} {ad : Nat → Nat} {η0 : AH} (hap : Mp m ad) (σ : MS) (hB : gN σ 3 ≤ 2) (hl5 : gN σ 5 ≤ 4) : Ct G yX8_begins cX8_begins 2 none 2 0 0 [.ref m] (MH m ad σ η0) (rv fun η => ∃ c, (∀ j, j < 7680 → c j = 0) ∧ η = MH m ad (BG σ c) η0) := by
  refine Ct.start rfl rfl (Nat.le_of_ble_eq_true rfl) (fun Γ => ?_)
  have L : ∀ (n i : Nat) (c : Nat → Nat), i + n = 7680 → (∀ j, j < i → c j = 0) → V G Γ yX8_begins cX8_begins 2 none [] 2 (rv fun η => ∃ c, (∀ j, j < 7680 → c j = 0) ∧ η = MH m ad (BG σ c) η0) 0 0 (MH m ad (stA σ 50 c) η0) 2 [some (.ref m), some (.int (nI i))] [] := by
    intro n
    induction n with
    | zero =>
      intro i c hi hk
      have e : i = 7680 := by omega
      subst e
      refine v_iload_n (i := 1) dX8_begins_2 rfl rfl ?_
      refine v_sipush (v := nI 7680) dX8_begins_3 k_sipush_7680 ?_
      refine vn_icmp_ge (tgt := 22) dX8_begins_6 rfl (by omega) (by omega) (fun c6 => ?_) (fun c6 => ?_)
      · refine v_aload_n (i := 0) dX8_begins_22 rfl rfl ?_
        refine v_iconst (v := nI 0) dX8_begins_23 k_iconst_0 ?_
        refine mp_isFirst rfl (by decide) dX8_begins_24 ?_
        refine v_aload_n (i := 0) dX8_begins_27 rfl rfl ?_
        refine v_iconst (v := nI 0) dX8_begins_28 k_iconst_0 ?_
        refine mp_lawsKnown rfl dX8_begins_29 ?_
        refine v_aload_n (i := 0) dX8_begins_32 rfl rfl ?_
        refine mg_sizeKnown rfl dX8_begins_33 ?_
        refine v_iconst (v := nI 0) dX8_begins_36 k_iconst_0 ?_
        refine v_iconst (v := nI 0) dX8_begins_37 k_iconst_0 ?_
        refine ms_sizeKnown hap (by decide) dX8_begins_38 ?_
        refine v_aload_n (i := 0) dX8_begins_39 rfl rfl ?_
        refine mg_sizeKnown rfl dX8_begins_40 ?_
        refine v_iconst (v := nI 1) dX8_begins_43 k_iconst_1 ?_
        refine v_iconst (v := nI 0) dX8_begins_44 k_iconst_0 ?_
        refine ms_sizeKnown hap (by decide) dX8_begins_45 ?_
        refine v_aload_n (i := 0) dX8_begins_46 rfl rfl ?_
        refine v_iconst (v := nI 0) dX8_begins_47 k_iconst_0 ?_
        refine mp_roundsKnown rfl dX8_begins_48 ?_
        refine v_aload_n (i := 0) dX8_begins_51 rfl rfl ?_
        refine v_iconst (v := -1) dX8_begins_52 k_iconst_m1 ?_
        refine mp_without_m rfl dX8_begins_53 ?_
        refine v_aload_n (i := 0) dX8_begins_56 rfl rfl ?_
        refine v_iconst (v := nI 0) dX8_begins_57 k_iconst_0 ?_
        refine mp_made rfl dX8_begins_58 ?_
        refine v_aload_n (i := 0) dX8_begins_61 rfl rfl ?_
        refine v_iconst (v := -1) dX8_begins_62 k_iconst_m1 ?_
        refine mp_lawTold_m rfl dX8_begins_63 ?_
        refine v_aload_n (i := 0) dX8_begins_66 rfl rfl ?_
        refine mg_playState rfl dX8_begins_67 ?_
        refine v_iconst (v := nI 0) dX8_begins_70 k_iconst_0 ?_
        refine v_aload_n (i := 0) dX8_begins_71 rfl rfl ?_
        refine v_callVi (cM_start hap (sN (sN (sN (sN (sA (sA (sN (sN (stA σ 50 c) 67 0) 78 0) 81 0 0) 81 1 0) 82 0) 52 0) 84 0) 85 0) hB hl5) (lw_V q1912 q1914 qs54 q136 q1915) iX8_start rfl KX8 MH_m rfl rfl (by decide) (by decide) (Nat.le_of_ble_eq_true rfl) dX8_begins_72 ?_
        refine ms_playState hap (by decide) dX8_begins_75 ?_
        refine v_aload_n (i := 0) dX8_begins_76 rfl rfl ?_
        refine mg_playMinutes rfl dX8_begins_77 ?_
        refine v_iconst (v := nI 0) dX8_begins_80 k_iconst_0 ?_
        refine v_iconst (v := nI 0) dX8_begins_81 k_iconst_0 ?_
        refine ms_playMinutes hap (by decide) dX8_begins_82 ?_
        refine v_aload_n (i := 0) dX8_begins_83 rfl rfl ?_
        refine v_iconst (v := -1) dX8_begins_84 k_iconst_m1 ?_
        refine mp_keptMany_m rfl dX8_begins_85 ?_
        exact v_vret rfl dX8_begins_88 ⟨rfl, c, hk, rfl⟩
      · omega
    | succ n ih =>
      intro i c hi hk
      refine v_iload_n (i := 1) dX8_begins_2 rfl rfl ?_
      refine v_sipush (v := nI 7680) dX8_begins_3 k_sipush_7680 ?_
      refine vn_icmp_ge (tgt := 22) dX8_begins_6 rfl (by omega) (by omega) (fun c6 => ?_) (fun c6 => ?_)
      · omega
      · refine v_aload_n (i := 0) dX8_begins_9 rfl rfl ?_
        refine mg_barred rfl dX8_begins_10 ?_
        refine v_iload_n (i := 1) dX8_begins_13 rfl rfl ?_
        refine v_iconst (v := nI 0) dX8_begins_14 k_iconst_0 ?_
        refine ms_barred hap (by omega) dX8_begins_15 ?_
        refine vn_iinc 1 dX8_begins_16 rfl k_iconst_1 (by decide) rfl ?_
        refine v_goto (tgt := 2) dX8_begins_19 rfl ?_
        rw [sA_stA]
        exact ih (i + 1) _ (by omega) (fun j hj => by by_cases q : j = i; (rw [q]; exact va_up_e); (rw [va_up_n q]; exact hk j (by omega)))
  refine v_iconst (v := nI 0) dX8_begins_0 k_iconst_0 ?_
  refine v_istore_n (i := 1) dX8_begins_1 rfl (by decide) rfl ?_
  have L0 := L 7680 0 (gA σ 50) (by omega) (fun j hj => absurd hj (by omega))
  rw [stA_self] at L0
  exact L0
def TX0 (σ : MS) (n : Nat) : MS := sN (sN (sN (sN (sN (sN (sN (sN (sN (sN (sN (sN (sN σ 0 0) 18 0) 20 0) 19 0) 21 n) 22 0) 29 2) 30 0) 31 0) 32 0) 33 0) 37 0) 34 0
theorem oI_0 {n : Nat} (h : n < 2147483648) : oI n = 0 ↔ n = 1 := by
  cases n with
  | zero => exact ⟨fun e => absurd e (by decide), fun e => absurd e (by decide)⟩
  | succ k =>
    show nI k = 0 ↔ _
    rw [show (0 : Int32) = nI 0 from rfl, nI_eq (by omega) (by decide)]
    omega
theorem RD0 {σ : MS} {n v : Nat} {f : Nat → Nat} (hf : ∀ j, j < 16 → f j = 0) (h1 : 2 ≤ v) (h2 : v ≤ 4) : RD (sN (stA (TX0 σ n) 48 f) 29 v) (uN td0 29 v) :=
  ⟨⟨rfl, rfl, rfl, rfl, rfl, rfl⟩, ⟨h1, h2, Nat.zero_le _, Nat.zero_le _, Nat.zero_le _, Nat.zero_le _, show 0 < 2 by decide⟩, fun i hi => absurd hi (by show ¬ i < 0; omega), fun i hi => absurd hi (by show ¬ i < 0; omega), fun i hi => ⟨hf i hi, show 0 < 2 by decide⟩, fun i hi => rfl, fun j hj => absurd hj (by show ¬ j < 0; omega)⟩
theorem td0_29 : uN td0 29 2 = td0 := by
  unfold uN td0
  dsimp only
  congr 1
  funext j
  split <;> rfl
theorem sN_29 (σ : MS) (n : Nat) (f : Nat → Nat) : sN (stA (TX0 σ n) 48 f) 29 2 = stA (TX0 σ n) 48 f := sN_self (stA (TX0 σ n) 48 f) 29
theorem v_post {G : Gl} {Γ : Fx} {mt : MethodName} {cc : ByteArray} {nL : Nat} {ret : Option FieldType} {tb : List ExceptionTableEntry} {d : Nat} {P P' : Rs → AH → Prop} {kc ks : Nat} {η : AH} {pc : Nat} {lv : List (Option Value)} {st : List Value} (hp : ∀ r η, P' r η → P r η) (kk : V G Γ mt cc nL ret tb d P' kc ks η pc lv st) : V G Γ mt cc nL ret tb d P kc ks η pc lv st := fun C H locs ls cells slots a1 a2 a3 a4 a5 => by
  intro S hT X
  obtain ⟨t, s1, o, q1, q2, q3⟩ := kk C H locs ls cells slots a1 a2 a3 a4 a5 S hT X
  refine ⟨t, s1, o, q1, q2, ?_⟩
  rcases q3 with ⟨⟨v, η', e, h, r⟩, q4⟩ | ⟨q, e, E, ce, L, ⟨η', h, r⟩, q5⟩
  · exact Or.inl ⟨⟨v, η', e, hp _ _ h, r⟩, q4⟩
  · exact Or.inr ⟨q, e, E, ce, L, ⟨η', hp _ _ h, r⟩, q5⟩
theorem cM_text {G : Gl} {m : Nat} {ad : Nat → Nat} {η0 : AH} (hap : Mp m ad) (σ : MS) (a : Int32) (h18 : gN σ 18 ≤ 700) (hb17 : ∀ k, k < 700 → gA σ 17 k < 256) (hHL : HL σ) : Ct G yX8_text cX8_text 3 (some .int) 9 0 0 [.ref m, .int a] (MH m ad σ η0) (ri fun r η => (¬ inr a (gN σ 18 + 1) → r = nI 0 ∧ η = MH m ad (sN σ 0 1) η0) ∧ ∀ n, n ≤ gN σ 18 → a = nI n → (∀ τ, textE (tk (gA σ 17) n) = .ok τ → r = nI 0 ∧ ∃ σ2 c, MI σ2 τ ∧ HL σ2 ∧ (∀ j, j < 7680 → c j = 0) ∧ gN σ2 0 = 0 ∧ gN σ2 18 = 0 ∧ gN σ2 20 = 0 ∧ gN σ2 66 = gN σ 66 ∧ gA σ2 17 = gA σ 17 ∧ η = MH m ad (BG σ2 c) η0) ∧ ∀ k q, textE (tk (gA σ 17) n) = .error (k, q) → r = nI k ∧ ∃ σ2, η = MH m ad σ2 η0 ∧ RO (TX0 σ n) σ2 ∧ HL σ2 ∧ gN σ2 20 = tk (gA σ 17) n q 24 + 1) := by
  refine Ct.start rfl rfl (Nat.le_of_ble_eq_true rfl) (fun Γ => ?_)
  by_cases hin : inr a (gN σ 18 + 1)
  case neg =>
    refine v_aload_n (i := 0) dX8_text_0 rfl rfl ?_
    refine v_iconst (v := nI 0) dX8_text_1 k_iconst_0 ?_
    refine mp_thrown rfl dX8_text_2 ?_
    refine v_aload_n (i := 0) dX8_text_5 rfl rfl ?_
    refine v_iload_n (i := 1) dX8_text_6 rfl rfl ?_
    refine v_if_lt (tgt := 22) dX8_text_7 rfl (fun c7 => ?_) (fun c7 => ?_)
    · refine v_iconst (v := nI 0) dX8_text_22 k_iconst_0 ?_
      refine v_iconst (v := nI 1) dX8_text_23 k_iconst_1 ?_
      refine v_callVi (cM_right0 hap σ) (lw_V q2197 q2199 qs56 q136 q2200) iX8_right rfl KX8 MH_m rfl rfl (by decide) (by decide) (Nat.le_of_ble_eq_true rfl) dX8_text_24 ?_
      refine vn_if_ne (tgt := 32) dX8_text_27 rfl (by decide) (fun c27 => ?_) (fun c27 => ?_)
      · exact absurd rfl c27
      · refine v_iconst (v := nI 0) dX8_text_30 k_iconst_0 ?_
        exact v_iret rfl dX8_text_31 ⟨_, rfl, fun _ => ⟨rfl, rfl⟩, fun n h1 e1 => absurd ⟨n, by omega, e1⟩ hin⟩
    · refine v_iload_n (i := 1) dX8_text_10 rfl rfl ?_
      refine v_aload_n (i := 0) dX8_text_11 rfl rfl ?_
      refine mg_taped rfl dX8_text_12 ?_
      refine v_icmp_gt (tgt := 22) dX8_text_15 rfl (fun c15 => ?_) (fun c15 => ?_)
      · refine v_iconst (v := nI 0) dX8_text_22 k_iconst_0 ?_
        refine v_iconst (v := nI 1) dX8_text_23 k_iconst_1 ?_
        refine v_callVi (cM_right0 hap σ) (lw_V q2197 q2199 qs56 q136 q2200) iX8_right rfl KX8 MH_m rfl rfl (by decide) (by decide) (Nat.le_of_ble_eq_true rfl) dX8_text_24 ?_
        refine vn_if_ne (tgt := 32) dX8_text_27 rfl (by decide) (fun c27 => ?_) (fun c27 => ?_)
        · exact absurd rfl c27
        · refine v_iconst (v := nI 0) dX8_text_30 k_iconst_0 ?_
          exact v_iret rfl dX8_text_31 ⟨_, rfl, fun _ => ⟨rfl, rfl⟩, fun n h1 e1 => absurd ⟨n, by omega, e1⟩ hin⟩
      · exact absurd (inr_of2 c7 c15 (show gN σ 18 < _ by omega)) hin
  obtain ⟨n, hn, rfl⟩ := hin
  have hn : n ≤ gN σ 18 := by omega
  suffices hmain : ∀ R, textE (tk (gA σ 17) n) = R → V G Γ yX8_text cX8_text 3 (some .int) [] 9 (ri fun r η => (∀ τ, R = .ok τ → r = nI 0 ∧ ∃ σ2 c, MI σ2 τ ∧ HL σ2 ∧ (∀ j, j < 7680 → c j = 0) ∧ gN σ2 0 = 0 ∧ gN σ2 18 = 0 ∧ gN σ2 20 = 0 ∧ gN σ2 66 = gN σ 66 ∧ gA σ2 17 = gA σ 17 ∧ η = MH m ad (BG σ2 c) η0) ∧ ∀ k q, R = .error (k, q) → r = nI k ∧ ∃ σ2, η = MH m ad σ2 η0 ∧ RO (TX0 σ n) σ2 ∧ HL σ2 ∧ gN σ2 20 = tk (gA σ 17) n q 24 + 1) 0 0 (MH m ad σ η0) 0 (ent [.ref m, .int (nI n)] 3) [] by
    refine v_post ?_ (hmain _ rfl)
    intro r η hr
    obtain ⟨r, e, hr⟩ := hr
    refine ⟨r, e, fun q => absurd ⟨n, by omega, rfl⟩ q, fun n2 h1 e1 => ?_⟩
    have e3 : n = n2 := (nI_eq (by omega) (by omega)).mp e1
    subst e3
    exact hr
  intro R hR
  have L113 : ∀ (f : Nat → Nat) (z2 : Option Value), (∀ j, j < 16 → f j = 0) → V G Γ yX8_text cX8_text 3 (some .int) [] 9 (ri fun r η => (∀ τ, R = .ok τ → r = nI 0 ∧ ∃ σ2 c, MI σ2 τ ∧ HL σ2 ∧ (∀ j, j < 7680 → c j = 0) ∧ gN σ2 0 = 0 ∧ gN σ2 18 = 0 ∧ gN σ2 20 = 0 ∧ gN σ2 66 = gN σ 66 ∧ gA σ2 17 = gA σ 17 ∧ η = MH m ad (BG σ2 c) η0) ∧ ∀ k q, R = .error (k, q) → r = nI k ∧ ∃ σ2, η = MH m ad σ2 η0 ∧ RO (TX0 σ n) σ2 ∧ HL σ2 ∧ gN σ2 20 = tk (gA σ 17) n q 24 + 1) 0 0 (MH m ad (stA (TX0 σ n) 48 f) η0) 113 [some (.ref m), some (.int (nI n)), z2] [] := by
    intro f z2 hf
    generalize hs1 : stA (TX0 σ n) 48 f = σ1
    have hro1 : RO (TX0 σ n) σ1 := by rw [← hs1]; exact (RO.rfl' _).stA (by decide)
    have hP1 : PO σ1 := by rw [← hs1]; exact ⟨Nat.le_trans hn h18, hb17⟩
    have hH1 : HL σ1 := by rw [← hs1]; exact hHL
    have e21 : gN σ1 21 = n := by rw [← hs1]; rfl
    have e22 : gN σ1 22 = 0 := by rw [← hs1]; rfl
    have e18 : gN σ1 18 = 0 := by rw [← hs1]; rfl
    have e0 : gN σ1 0 = 0 := by rw [← hs1]; rfl
    have hg1 : gN σ1 19 = 0 := by rw [← hs1]; rfl
    have hg2 : gN σ1 20 = 0 := by rw [← hs1]; rfl
    have e34 : gN σ1 34 = 0 := by rw [← hs1]; rfl
    have e17 : gA σ1 17 = gA σ 17 := by rw [← hs1]; rfl
    have e66 : gN σ1 66 = gN σ 66 := by rw [← hs1]; rfl
    have etq : tq σ1 = tk (gA σ 17) n := by rw [← hs1]; rfl
    rw [← etq] at hR
    have hTK := tq_TKo hP1
    have hTg := tq_TKg hP1
    have hRv : ∀ v, 2 ≤ v → v ≤ 4 → RD (sN σ1 29 v) (uN td0 29 v) := fun v h1 h2 => by rw [← hs1]; exact RD0 hf h1 h2
    have hR0 : RD σ1 td0 := by have := hRv 2 (by decide) (by decide); rw [td0_29, ← hs1, sN_29, hs1] at this; exact this
    have LE : ∀ (σ2 : MS) (k q : Nat) (z2 : Option Value), R = .error (k, q) → RO σ1 σ2 → HL σ2 → gN σ2 19 = k → gN σ2 20 = tq σ1 q 24 + 1 → k < 2147483648 → ¬ k = 0 → V G Γ yX8_text cX8_text 3 (some .int) [] 9 (ri fun r η => (∀ τ, R = .ok τ → r = nI 0 ∧ ∃ σ2 c, MI σ2 τ ∧ HL σ2 ∧ (∀ j, j < 7680 → c j = 0) ∧ gN σ2 0 = 0 ∧ gN σ2 18 = 0 ∧ gN σ2 20 = 0 ∧ gN σ2 66 = gN σ 66 ∧ gA σ2 17 = gA σ 17 ∧ η = MH m ad (BG σ2 c) η0) ∧ ∀ k q, R = .error (k, q) → r = nI k ∧ ∃ σ2, η = MH m ad σ2 η0 ∧ RO (TX0 σ n) σ2 ∧ HL σ2 ∧ gN σ2 20 = tk (gA σ 17) n q 24 + 1) 0 0 (MH m ad σ2 η0) 170 [some (.ref m), some (.int (nI n)), z2] [] := by
      intro σ2 k q z2 hRe hro hH2 hk1 hk2 hk3 hk4
      refine v_aload_n (i := 0) dX8_text_170 rfl rfl ?_
      refine v_callVi (cM_goodB hap σ2 (by omega) (by omega)) (lw_V q2229 q2231 qs61 q136 q2232) iX8_isGood rfl KX8 MH_m rfl rfl (by decide) (by decide) (Nat.le_of_ble_eq_true rfl) dX8_text_171 ?_
      refine vn_if_eq (tgt := 191) dX8_text_174 rfl (by decide) (fun c174 => ?_) (fun c174 => ?_)
      · refine v_aload_n (i := 0) dX8_text_191 rfl rfl ?_
        refine v_callVi (cM_goodB hap σ2 (by omega) (by omega)) (lw_V q2229 q2231 qs61 q136 q2232) iX8_isGood rfl KX8 MH_m rfl rfl (by decide) (by decide) (Nat.le_of_ble_eq_true rfl) dX8_text_192 ?_
        refine vn_if_ne (tgt := 203) dX8_text_195 rfl (by decide) (fun c195 => ?_) (fun c195 => ?_)
        · exact absurd rfl c195
        · refine v_aload_n (i := 0) dX8_text_198 rfl rfl ?_
          refine mg_faultKind rfl dX8_text_199 ?_
          exact v_iret rfl dX8_text_202 ⟨_, rfl, fun _ e => (by rw [hRe] at e; cases e), fun k' q' e => (by rw [hRe] at e; cases e; exact ⟨by rw [hk1], _, rfl, hro1.trans hro, hH2, by rw [← etq]; exact hk2⟩)⟩
      · exact absurd rfl c174
    have L170 : ∀ (k p : Nat) (σ2 : MS) (τ2 : Td) (z2 : Option Value), clausesE (tq σ1) k τ2 p = R → n < k + p → p ≤ n → RO σ1 σ2 → RD σ2 τ2 → HL σ2 → gN σ2 19 = 0 → gN σ2 20 = 0 → 2 * gN σ2 34 ≤ 3 * p → V G Γ yX8_text cX8_text 3 (some .int) [] 9 (ri fun r η => (∀ τ, R = .ok τ → r = nI 0 ∧ ∃ σ2 c, MI σ2 τ ∧ HL σ2 ∧ (∀ j, j < 7680 → c j = 0) ∧ gN σ2 0 = 0 ∧ gN σ2 18 = 0 ∧ gN σ2 20 = 0 ∧ gN σ2 66 = gN σ 66 ∧ gA σ2 17 = gA σ 17 ∧ η = MH m ad (BG σ2 c) η0) ∧ ∀ k q, R = .error (k, q) → r = nI k ∧ ∃ σ2, η = MH m ad σ2 η0 ∧ RO (TX0 σ n) σ2 ∧ HL σ2 ∧ gN σ2 20 = tk (gA σ 17) n q 24 + 1) 0 0 (MH m ad (TS σ2 p) η0) 170 [some (.ref m), some (.int (nI n)), z2] [] := by
      intro k
      induction k with
      | zero => intro p σ2 τ2 z2 h1 h2 h3; omega
      | succ k ih =>
        intro p σ2 τ2 z2 hcl0 h2 h3 hro hR2 hH2 hg hgp hb2
        have hP2 := hro.po hP1
        have e21b : gN σ2 21 = n := (hro.1 21 (by decide)).trans e21
        have etq2 := hro.tqe
        have hcl : (if tq σ1 p 23 = 0 then _ else _) = R := hcl0
        clear hcl0
        obtain ⟨b22, b23, b24, b25, b26, b27, b28⟩ := tq_b hP2 (show p ≤ gN σ2 21 by omega)
        have hbt : gN σ2 34 ≤ 1199 := by omega
        refine v_aload_n (i := 0) dX8_text_170 rfl rfl ?_
        refine v_callVi (cM_goodG hap (TS σ2 p) hg) (lw_V q2229 q2231 qs61 q136 q2232) iX8_isGood rfl KX8 MH_m rfl rfl (by decide) (by decide) (Nat.le_of_ble_eq_true rfl) dX8_text_171 ?_
        refine vn_if_eq (tgt := 191) dX8_text_174 rfl (by decide) (fun c174 => ?_) (fun c174 => ?_)
        · exact absurd c174 (by decide)
        · refine v_aload_n (i := 0) dX8_text_177 rfl rfl ?_
          refine mg_sort rfl dX8_text_178 ?_
          refine vn_if_eq (tgt := 191) dX8_text_181 rfl (show tq σ2 p 23 < _ by omega) (fun c181 => ?_) (fun c181 => ?_)
          · have c181 : tq σ1 p 23 = 0 := by rw [← etq2]; exact c181
            rw [if_pos c181] at hcl
            refine v_aload_n (i := 0) dX8_text_191 rfl rfl ?_
            refine v_callVi (cM_goodG hap (TS σ2 p) hg) (lw_V q2229 q2231 qs61 q136 q2232) iX8_isGood rfl KX8 MH_m rfl rfl (by decide) (by decide) (Nat.le_of_ble_eq_true rfl) dX8_text_192 ?_
            refine vn_if_ne (tgt := 203) dX8_text_195 rfl (by decide) (fun c195 => ?_) (fun c195 => ?_)
            · refine v_aload_n (i := 0) dX8_text_203 rfl rfl ?_
              refine v_callVW (kc' := 0) (ks' := 0) (cM_takes hap (TS σ2 p) (show gN σ2 32 ≤ 12 by rw [hR2.1.2.2.2.1]; exact hR2.2.1.2.2.2.2.1) (show gN σ2 37 < 2 by rw [hR2.1.2.2.2.2.2]; exact hR2.2.1.2.2.2.2.2.2) (fun i hi => by show gA σ2 48 i < 2; rw [(hR2.2.2.2.2.1 i hi).1]; exact (hR2.2.2.2.2.1 i hi).2)) (lw_V q2308 q2310 qs80 q136 q2311) iX8_takes rfl KX8 MH_m rfl rfl (by decide) (by decide) (Nat.le_of_ble_eq_true rfl) (by decide) (by decide) dX8_text_204 (fun η' h => ?_)
              obtain ⟨σ3, rfl, hk⟩ := h
              have hMI : MI σ3 τ2 := MI.of (σ := TS σ2 p) hR2 hbt hk
              refine v_aload_n (i := 0) dX8_text_207 rfl rfl ?_
              refine v_callVW (kc' := 0) (ks' := 0) (cM_begins hap σ3 (by rw [hMI.2.1.2.2.1]; exact hMI.1.1.2.2.2.1) (by rw [hMI.2.1.2.2.2.2.1]; have := hMI.1.1; omega)) (lw_V q1908 q1910 qs53 q136 q1911) iX8_begins rfl KX8 MH_m rfl rfl (by decide) (by decide) (Nat.le_of_ble_eq_true rfl) (by decide) (by decide) dX8_text_208 (fun η' h => ?_)
              obtain ⟨c, hc, rfl⟩ := h
              refine v_iconst (v := nI 0) dX8_text_211 k_iconst_0 ?_
              exact v_iret rfl dX8_text_212 ⟨_, rfl, fun τ e => (by rw [← hcl] at e; cases e; exact ⟨rfl, σ3, c, hMI, fun t ht => (by rw [hk.2.2.2.2.2.2.2.1 40 (by decide)]; exact hH2 t ht), hc, (hk.2.2.2.2.2.2.1 0 (by decide)).trans (show gN σ2 0 = 0 from (hro.1 0 (by decide)).trans e0), (hk.2.2.2.2.2.2.1 18 (by decide)).trans (show gN σ2 18 = 0 from (hro.1 18 (by decide)).trans e18), (hk.2.2.2.2.2.2.1 20 (by decide)).trans (show gN σ2 20 = 0 from hgp), (hk.2.2.2.2.2.2.1 66 (by decide)).trans ((hro.1 66 (by decide)).trans e66), (hk.2.2.2.2.2.2.2.1 17 (by decide)).trans ((hro.2.1 17 (by decide)).trans e17), rfl⟩), fun k q e => (by rw [← hcl] at e; cases e)⟩
            · exact absurd c195 (by decide)
          · have c181 : ¬ tq σ1 p 23 = 0 := by rw [← etq2]; exact c181
            rw [if_neg c181, ← etq2] at hcl
            refine v_aload_n (i := 0) dX8_text_184 rfl rfl ?_
            refine v_callVW (kc' := 0) (ks' := 0) (cM_clause hap σ2 hP2 p (by omega) hg τ2 hR2 hH2 hb2) (lw_V q2241 q2243 qs64 q136 q2244) iX8_clause rfl KX8 MH_m rfl rfl (by decide) (by decide) (Nat.le_of_ble_eq_true rfl) (by decide) (by decide) dX8_text_185 (fun η' h => ?_)
            obtain ⟨hy, hn2⟩ := h
            by_cases h185 : ∃ z, clauseE (tq σ2) τ2 p = .ok z
            · obtain ⟨⟨p3, τ3⟩, hz⟩ := h185
              obtain ⟨g1, σ3, e, g2, g3, g4, g5, g6, g7⟩ := hy p3 τ3 hz
              subst e
              rw [andT_ok hz] at hcl
              have hgt := clauseE_b (tq_TKo hP2) (tq_TKg hP2) (show p ≤ gN σ2 21 by omega) hz
              have hgt1 : p < p3 := hgt.1
              refine v_goto (tgt := 170) dX8_text_188 rfl ?_
              exact ih p3 σ3 τ3 _ (by rw [← etq2]; exact hcl) (by omega) (by omega) (hro.trans g4) g2 g3 g5 (g6.trans hgp) g7
            · obtain ⟨ke, qe, hz⟩ := er_of h185
              obtain ⟨g1, g2, σ3, e, g3, g3h, g4, g5⟩ := hn2 ke qe hz
              subst e
              rw [andT_er hz] at hcl
              refine v_goto (tgt := 170) dX8_text_188 rfl ?_
              exact LE σ3 ke qe _ hcl.symm (hro.trans g3) g3h g4 (by rw [← etq2]; exact g5) g1 g2
    refine v_aload_n (i := 0) dX8_text_113 rfl rfl ?_
    refine v_callVv (cM_goes hap σ1 hP1.1 (by omega) hP1.2) (lw_V q2201 q2203 qs57 q136 q2204) iX8_goes rfl KX8 MH_m rfl rfl (by decide) (by decide) (Nat.le_of_ble_eq_true rfl) dX8_text_114 ?_
    refine v_eq (show _ = MH m ad (TS σ1 0) η0 by rw [e22]; rfl) ?_
    have bk := kwT_le (tq σ1 0)
    have q0 := (tq_b hP1 (Nat.zero_le _)).1
    refine v_aload_n (i := 0) dX8_text_117 rfl rfl ?_
    refine v_callVi (cM_kwS hap σ1 hP1 0 (Nat.zero_le _)) (lw_V q2215 q2217 qs59 q136 q2218) iX8_knownWord rfl KX8 MH_m rfl rfl (by decide) (by decide) (Nat.le_of_ble_eq_true rfl) dX8_text_118 ?_
    refine v_if_ne (tgt := 170) dX8_text_121 rfl (fun c121 => ?_) (fun c121 => ?_)
    · have c121 : ¬ kwT (tq σ1 0) = 1 := fun q => c121 ((oI_0 (by omega)).mpr q)
      exact L170 701 0 σ1 td0 _ ((if_neg c121).symm.trans hR) (by omega) (by omega) (RO.rfl' σ1) hR0 hH1 hg1 hg2 (by omega)
    · have c121 : kwT (tq σ1 0) = 1 := (oI_0 (by omega)).mp c121
      rw [show textE (tq σ1) = _ from if_pos c121] at hR
      refine v_aload_n (i := 0) dX8_text_124 rfl rfl ?_
      refine v_callVv (cM_goesT hap σ1 hP1 0 (Nat.zero_le _)) (lw_V q2201 q2203 qs57 q136 q2204) iX8_goes rfl KX8 MH_m rfl rfl (by decide) (by decide) (Nat.le_of_ble_eq_true rfl) dX8_text_125 ?_
      obtain ⟨y22, y23, y24, y25, y26, y27, y28⟩ := tq_b hP1 q0
      refine v_aload_n (i := 0) dX8_text_128 rfl rfl ?_
      refine v_aload_n (i := 0) dX8_text_129 rfl rfl ?_
      refine v_iconst (v := nI 2) dX8_text_130 k_iconst_2 ?_
      refine v_iconst (v := nI 4) dX8_text_131 k_iconst_4 ?_
      refine v_callVi (cM_number hap σ1 hP1 (nx σ1 0) q0 hg1 2 4 (by decide) (by decide)) (lw_V q2225 q2227 qs60 q136 q2228) iX8_number rfl KX8 MH_m rfl rfl (by decide) (by decide) (Nat.le_of_ble_eq_true rfl) dX8_text_132 ?_
      by_cases h132 : numE (tq σ1 (nx σ1 0)) 2 4 = 0
      · rw [if_pos h132]
        have hv := numE_b h132
        have hR2 : (if isS (tq σ1 (nx σ1 (nx σ1 0))) 59 then clausesE (tq σ1) 701 (uN td0 29 (tq σ1 (nx σ1 0) 26)) (tq σ1 (nx σ1 (nx σ1 0)) 22) else .error (1, (nx σ1 (nx σ1 0)))) = R := (andT_ok (eNum_ok h132)).symm.trans hR
        refine mp_readShores rfl dX8_text_135 ?_
        refine v_eq (congrArg (fun τ => MH m ad τ η0) (TS_sN σ1 (nx σ1 (nx σ1 0)) 29 (tq σ1 (nx σ1 0) 26) (by decide))) ?_
        have hP3 : PO (sN σ1 29 (tq σ1 (nx σ1 0) 26)) := hP1
        have w22 := (tq_b hP1 y22).1
        refine v_aload_n (i := 0) dX8_text_138 rfl rfl ?_
        refine v_callVi (cM_goodG hap (TS (sN σ1 29 (tq σ1 (nx σ1 0) 26)) (nx σ1 (nx σ1 0))) hg1) (lw_V q2229 q2231 qs61 q136 q2232) iX8_isGood rfl KX8 MH_m rfl rfl (by decide) (by decide) (Nat.le_of_ble_eq_true rfl) dX8_text_139 ?_
        refine vn_if_eq (tgt := 159) dX8_text_142 rfl (by decide) (fun c142 => ?_) (fun c142 => ?_)
        · exact absurd c142 (by decide)
        · refine v_aload_n (i := 0) dX8_text_145 rfl rfl ?_
          refine v_bipush (v := nI 59) dX8_text_146 k_bipush_59 ?_
          refine v_callVi (cM_signT hap (sN σ1 29 (tq σ1 (nx σ1 0) 26)) hP3 (nx σ1 (nx σ1 0)) y22 59 (by decide)) (lw_V q2237 q2239 qs63 q136 q2240) iX8_isSign rfl KX8 MH_m rfl rfl (by decide) (by decide) (Nat.le_of_ble_eq_true rfl) dX8_text_148 ?_
          by_cases h148 : isS (tq σ1 (nx σ1 (nx σ1 0))) 59
          · rw [if_pos (show isS (tq (sN σ1 29 (tq σ1 (nx σ1 0) 26)) (nx σ1 (nx σ1 0))) 59 from h148)]
            rw [if_pos h148] at hR2
            refine vn_if_ne (tgt := 159) dX8_text_151 rfl (by decide) (fun c151 => ?_) (fun c151 => ?_)
            · refine v_aload_n (i := 0) dX8_text_159 rfl rfl ?_
              refine v_callVi (cM_goodG hap (TS (sN σ1 29 (tq σ1 (nx σ1 0) 26)) (nx σ1 (nx σ1 0))) hg1) (lw_V q2229 q2231 qs61 q136 q2232) iX8_isGood rfl KX8 MH_m rfl rfl (by decide) (by decide) (Nat.le_of_ble_eq_true rfl) dX8_text_160 ?_
              refine vn_if_eq (tgt := 170) dX8_text_163 rfl (by decide) (fun c163 => ?_) (fun c163 => ?_)
              · exact absurd c163 (by decide)
              · refine v_aload_n (i := 0) dX8_text_166 rfl rfl ?_
                refine v_callVv (cM_goesT hap (sN σ1 29 (tq σ1 (nx σ1 0) 26)) hP3 (nx σ1 (nx σ1 0)) y22) (lw_V q2201 q2203 qs57 q136 q2204) iX8_goes rfl KX8 MH_m rfl rfl (by decide) (by decide) (Nat.le_of_ble_eq_true rfl) dX8_text_167 ?_
                exact L170 701 (nx σ1 (nx σ1 (nx σ1 0))) (sN σ1 29 (tq σ1 (nx σ1 0) 26)) (uN td0 29 (tq σ1 (nx σ1 0) 26)) _ hR2 (by omega) (by rw [← e21]; exact w22) ((RO.rfl' σ1).sN (by decide)) (hRv _ hv.2.1 hv.2.2) hH1 hg1 hg2 (by show 2 * gN σ1 34 ≤ _; omega)
            · exact absurd c151 (by decide)
          · rw [if_neg (show ¬ isS (tq (sN σ1 29 (tq σ1 (nx σ1 0) 26)) (nx σ1 (nx σ1 0))) 59 from h148)]
            rw [if_neg h148] at hR2
            refine vn_if_ne (tgt := 159) dX8_text_151 rfl (by decide) (fun c151 => ?_) (fun c151 => ?_)
            · exact absurd rfl c151
            · refine v_aload_n (i := 0) dX8_text_154 rfl rfl ?_
              refine v_iconst (v := nI 1) dX8_text_155 k_iconst_1 ?_
              refine v_callVv (cM_wrongG hap (TS (sN σ1 29 (tq σ1 (nx σ1 0) 26)) (nx σ1 (nx σ1 0))) 1 hg1) (lw_V q2233 q2235 qs62 q136 q2236) iX8_wrong rfl KX8 MH_m rfl rfl (by decide) (by decide) (Nat.le_of_ble_eq_true rfl) dX8_text_156 ?_
              refine v_aload_n (i := 0) dX8_text_159 rfl rfl ?_
              refine v_callVi (cM_goodB hap (flt (TS (sN σ1 29 (tq σ1 (nx σ1 0) 26)) (nx σ1 (nx σ1 0))) 1 (gN (TS (sN σ1 29 (tq σ1 (nx σ1 0) 26)) (nx σ1 (nx σ1 0))) 24)) (show ¬ 1 = 0 by decide) (show 1 < 2147483648 by decide)) (lw_V q2229 q2231 qs61 q136 q2232) iX8_isGood rfl KX8 MH_m rfl rfl (by decide) (by decide) (Nat.le_of_ble_eq_true rfl) dX8_text_160 ?_
              refine vn_if_eq (tgt := 170) dX8_text_163 rfl (by decide) (fun c163 => ?_) (fun c163 => ?_)
              · exact LE _ _ _ _ hR2.symm (((RO.rfl' σ1).sN (by decide)).ts_.flt) hH1 rfl rfl (by decide) (by decide)
              · exact absurd rfl c163
      · rw [if_neg h132]
        have hnl := numE_le (tq σ1 (nx σ1 0)) 2 4
        have hR2 := (andT_er (eNum_er h132)).symm.trans hR
        refine mp_readShores rfl dX8_text_135 ?_
        refine v_aload_n (i := 0) dX8_text_138 rfl rfl ?_
        refine v_callVi (cM_goodB hap (sN (flt (TS σ1 (nx σ1 0)) (numE (tq σ1 (nx σ1 0)) 2 4) (tq σ1 (nx σ1 0) 24)) 29 (tq σ1 (nx σ1 0) 26)) (show ¬ numE (tq σ1 (nx σ1 0)) 2 4 = 0 from h132) (show numE (tq σ1 (nx σ1 0)) 2 4 < 2147483648 by omega)) (lw_V q2229 q2231 qs61 q136 q2232) iX8_isGood rfl KX8 MH_m rfl rfl (by decide) (by decide) (Nat.le_of_ble_eq_true rfl) dX8_text_139 ?_
        refine vn_if_eq (tgt := 159) dX8_text_142 rfl (by decide) (fun c142 => ?_) (fun c142 => ?_)
        · refine v_aload_n (i := 0) dX8_text_159 rfl rfl ?_
          refine v_callVi (cM_goodB hap (sN (flt (TS σ1 (nx σ1 0)) (numE (tq σ1 (nx σ1 0)) 2 4) (tq σ1 (nx σ1 0) 24)) 29 (tq σ1 (nx σ1 0) 26)) (show ¬ numE (tq σ1 (nx σ1 0)) 2 4 = 0 from h132) (show numE (tq σ1 (nx σ1 0)) 2 4 < 2147483648 by omega)) (lw_V q2229 q2231 qs61 q136 q2232) iX8_isGood rfl KX8 MH_m rfl rfl (by decide) (by decide) (Nat.le_of_ble_eq_true rfl) dX8_text_160 ?_
          refine vn_if_eq (tgt := 170) dX8_text_163 rfl (by decide) (fun c163 => ?_) (fun c163 => ?_)
          · exact LE _ _ _ _ hR2.symm ((RO.rfl' σ1).ts_.flt.sN (by decide)) hH1 rfl rfl (by omega) h132
          · exact absurd rfl c163
        · exact absurd rfl c142
  have L94 : ∀ (k i : Nat) (f : Nat → Nat), i + k = 16 → (∀ j, j < i → f j = 0) → V G Γ yX8_text cX8_text 3 (some .int) [] 9 (ri fun r η => (∀ τ, R = .ok τ → r = nI 0 ∧ ∃ σ2 c, MI σ2 τ ∧ HL σ2 ∧ (∀ j, j < 7680 → c j = 0) ∧ gN σ2 0 = 0 ∧ gN σ2 18 = 0 ∧ gN σ2 20 = 0 ∧ gN σ2 66 = gN σ 66 ∧ gA σ2 17 = gA σ 17 ∧ η = MH m ad (BG σ2 c) η0) ∧ ∀ k q, R = .error (k, q) → r = nI k ∧ ∃ σ2, η = MH m ad σ2 η0 ∧ RO (TX0 σ n) σ2 ∧ HL σ2 ∧ gN σ2 20 = tk (gA σ 17) n q 24 + 1) 0 0 (MH m ad (stA (TX0 σ n) 48 f) η0) 94 [some (.ref m), some (.int (nI n)), some (.int (nI i))] [] := by
    intro k
    induction k with
    | zero =>
      intro i f hi hf
      have e : i = 16 := by omega
      subst e
      refine v_iload_n (i := 2) dX8_text_94 rfl rfl ?_
      refine v_bipush (v := nI 16) dX8_text_95 k_bipush_16 ?_
      refine vn_icmp_ge (tgt := 113) dX8_text_97 rfl (by omega) (by omega) (fun c97 => ?_) (fun c97 => ?_)
      · exact L113 f _ hf
      · omega
    | succ k ih =>
      intro i f hi hf
      refine v_iload_n (i := 2) dX8_text_94 rfl rfl ?_
      refine v_bipush (v := nI 16) dX8_text_95 k_bipush_16 ?_
      refine vn_icmp_ge (tgt := 113) dX8_text_97 rfl (by omega) (by omega) (fun c97 => ?_) (fun c97 => ?_)
      · omega
      · refine v_aload_n (i := 0) dX8_text_100 rfl rfl ?_
        refine mg_readWater rfl dX8_text_101 ?_
        refine v_iload_n (i := 2) dX8_text_104 rfl rfl ?_
        refine v_iconst (v := nI 0) dX8_text_105 k_iconst_0 ?_
        refine ms_readWater hap (by omega) (by decide) dX8_text_106 ?_
        refine vn_iinc 1 dX8_text_107 rfl k_iconst_1 (by decide) rfl ?_
        refine v_goto (tgt := 94) dX8_text_110 rfl ?_
        rw [sA_stA]
        exact ih (i + 1) _ (by omega) (fun j hj => by by_cases q : j = i; (rw [q]; exact va_up_e); (rw [va_up_n q]; exact hf j (by omega)))
  refine v_aload_n (i := 0) dX8_text_0 rfl rfl ?_
  refine v_iconst (v := nI 0) dX8_text_1 k_iconst_0 ?_
  refine mp_thrown rfl dX8_text_2 ?_
  refine v_aload_n (i := 0) dX8_text_5 rfl rfl ?_
  refine v_iload_n (i := 1) dX8_text_6 rfl rfl ?_
  refine vn_if_lt (tgt := 22) dX8_text_7 rfl (by omega) ?_
  refine v_iload_n (i := 1) dX8_text_10 rfl rfl ?_
  refine v_aload_n (i := 0) dX8_text_11 rfl rfl ?_
  refine mg_taped rfl dX8_text_12 ?_
  refine vn_icmp_gt (tgt := 22) dX8_text_15 rfl (by omega) (show gN σ 18 < _ by omega) (fun c15 => ?_) (fun c15 => ?_)
  · exact absurd (show gN σ 18 < n from c15) (by omega)
  · refine v_iconst (v := nI 1) dX8_text_18 k_iconst_1 ?_
    refine v_goto (tgt := 23) dX8_text_19 rfl ?_
    refine v_iconst (v := nI 1) dX8_text_23 k_iconst_1 ?_
    refine v_callVi (cM_right1 hap σ) (lw_V q2197 q2199 qs56 q136 q2200) iX8_right rfl KX8 MH_m rfl rfl (by decide) (by decide) (Nat.le_of_ble_eq_true rfl) dX8_text_24 ?_
    refine vn_if_ne (tgt := 32) dX8_text_27 rfl (by decide) (fun c27 => ?_) (fun c27 => ?_)
    · refine v_aload_n (i := 0) dX8_text_32 rfl rfl ?_
      refine v_iconst (v := nI 0) dX8_text_33 k_iconst_0 ?_
      refine mp_taped rfl dX8_text_34 ?_
      refine v_aload_n (i := 0) dX8_text_37 rfl rfl ?_
      refine v_iconst (v := -1) dX8_text_38 k_iconst_m1 ?_
      refine mp_faultPlace_m rfl dX8_text_39 ?_
      refine v_aload_n (i := 0) dX8_text_42 rfl rfl ?_
      refine v_iconst (v := nI 0) dX8_text_43 k_iconst_0 ?_
      refine mp_faultKind rfl dX8_text_44 ?_
      refine v_aload_n (i := 0) dX8_text_47 rfl rfl ?_
      refine v_iload_n (i := 1) dX8_text_48 rfl rfl ?_
      refine mp_size rfl dX8_text_49 ?_
      refine v_aload_n (i := 0) dX8_text_52 rfl rfl ?_
      refine v_iconst (v := nI 0) dX8_text_53 k_iconst_0 ?_
      refine mp_next rfl dX8_text_54 ?_
      refine v_aload_n (i := 0) dX8_text_57 rfl rfl ?_
      refine v_iconst (v := nI 2) dX8_text_58 k_iconst_2 ?_
      refine mp_readShores rfl dX8_text_59 ?_
      refine v_aload_n (i := 0) dX8_text_62 rfl rfl ?_
      refine v_iconst (v := nI 0) dX8_text_63 k_iconst_0 ?_
      refine mp_readThings rfl dX8_text_64 ?_
      refine v_aload_n (i := 0) dX8_text_67 rfl rfl ?_
      refine v_iconst (v := nI 0) dX8_text_68 k_iconst_0 ?_
      refine mp_readBoats rfl dX8_text_69 ?_
      refine v_aload_n (i := 0) dX8_text_72 rfl rfl ?_
      refine v_iconst (v := nI 0) dX8_text_73 k_iconst_0 ?_
      refine mp_readLaws rfl dX8_text_74 ?_
      refine v_aload_n (i := 0) dX8_text_77 rfl rfl ?_
      refine v_iconst (v := -1) dX8_text_78 k_iconst_m1 ?_
      refine mp_readLamp_m rfl dX8_text_79 ?_
      refine v_aload_n (i := 0) dX8_text_82 rfl rfl ?_
      refine v_iconst (v := nI 0) dX8_text_83 k_iconst_0 ?_
      refine mp_readWet rfl (by decide) dX8_text_84 ?_
      refine v_aload_n (i := 0) dX8_text_87 rfl rfl ?_
      refine v_iconst (v := nI 0) dX8_text_88 k_iconst_0 ?_
      refine mp_top rfl dX8_text_89 ?_
      refine v_iconst (v := nI 0) dX8_text_92 k_iconst_0 ?_
      refine v_istore_n (i := 2) dX8_text_93 rfl (by decide) rfl ?_
      have L0 := L94 16 0 (gA (TX0 σ n) 48) (by omega) (fun j hj => absurd hj (by omega))
      rw [stA_self] at L0
      exact L0
    · exact absurd c27 (by decide)
