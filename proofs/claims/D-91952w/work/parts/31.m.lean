theorem cM_spelled {G : Gl} {η : AH} (a b c d e f : Nat) (ha : 96 ≤ a) (ha2 : a < 256) (hb : b = 0 ∨ 96 ≤ b) (hb2 : b < 256) (hc : c = 0 ∨ 96 ≤ c) (hc2 : c < 256) (hd : d = 0 ∨ 96 ≤ d) (hd2 : d < 256) (he : e = 0 ∨ 96 ≤ e) (he2 : e < 256) (hf : f = 0 ∨ 96 ≤ f) (hf2 : f < 256) : Ct G yX8_spelled cX8_spelled 8 (some .long) 1 0 0 [.int (nI a), .int (nI b), .int (nI c), .int (nI d), .int (nI e), .int (nI f)] η (re (some (.long (lN (spN a b c d e f)))) η) := by
  refine Ct.start rfl rfl (Nat.le_of_ble_eq_true rfl) (fun Γ => ?_)
  have J5 : ∀ v : Nat, v = (sp1 (sp1 (sp1 (sp1 (sp1 (a - 96) b) c) d) e) f) → V G Γ yX8_spelled cX8_spelled 8 (some .long) [] 1 (re (some (.long (lN (spN a b c d e f)))) η) 0 0 (η) 91 [some (.int (nI a)), some (.int (nI b)), some (.int (nI c)), some (.int (nI d)), some (.int (nI e)), some (.int (nI f)), some (.long (lN v)), none] [] := by
    intro v hv
    refine v_lload (i := 6) dX8_spelled_91 rfl ?_
    exact v_lret rfl dX8_spelled_93 ⟨by rw [hv]; rfl, rfl⟩
  have J4 : ∀ v : Nat, v = (sp1 (sp1 (sp1 (sp1 (a - 96) b) c) d) e) → V G Γ yX8_spelled cX8_spelled 8 (some .long) [] 1 (re (some (.long (lN (spN a b c d e f)))) η) 0 0 (η) 73 [some (.int (nI a)), some (.int (nI b)), some (.int (nI c)), some (.int (nI d)), some (.int (nI e)), some (.int (nI f)), some (.long (lN v)), none] [] := by
    intro v hv
    refine v_iload (i := 5) dX8_spelled_73 rfl ?_
    refine vn_if_eq (tgt := 91) dX8_spelled_75 rfl (by omega) (fun c75 => ?_) (fun c75 => ?_)
    · exact J5 _ (by rw [← hv]; unfold sp1; rw [if_pos c75])
    · refine v_lload (i := 6) dX8_spelled_78 rfl ?_
      refine v_iconst (v := nI 5) dX8_spelled_80 k_iconst_5 ?_
      refine vl_lshl5 dX8_spelled_81 ?_
      refine v_iload (i := 5) dX8_spelled_82 rfl ?_
      refine v_bipush (v := nI 96) dX8_spelled_84 k_bipush_96 ?_
      refine vn_isub (by omega) dX8_spelled_86 ?_
      refine vl_i2l (by omega) dX8_spelled_87 ?_
      refine vl_lor dX8_spelled_88 ?_
      refine v_lstore (i := 6) dX8_spelled_89 (by decide) rfl ?_
      exact J5 _ (by rw [← hv]; unfold sp1; rw [if_neg c75])
  have J3 : ∀ v : Nat, v = (sp1 (sp1 (sp1 (a - 96) b) c) d) → V G Γ yX8_spelled cX8_spelled 8 (some .long) [] 1 (re (some (.long (lN (spN a b c d e f)))) η) 0 0 (η) 55 [some (.int (nI a)), some (.int (nI b)), some (.int (nI c)), some (.int (nI d)), some (.int (nI e)), some (.int (nI f)), some (.long (lN v)), none] [] := by
    intro v hv
    refine v_iload (i := 4) dX8_spelled_55 rfl ?_
    refine vn_if_eq (tgt := 73) dX8_spelled_57 rfl (by omega) (fun c57 => ?_) (fun c57 => ?_)
    · exact J4 _ (by rw [← hv]; unfold sp1; rw [if_pos c57])
    · refine v_lload (i := 6) dX8_spelled_60 rfl ?_
      refine v_iconst (v := nI 5) dX8_spelled_62 k_iconst_5 ?_
      refine vl_lshl5 dX8_spelled_63 ?_
      refine v_iload (i := 4) dX8_spelled_64 rfl ?_
      refine v_bipush (v := nI 96) dX8_spelled_66 k_bipush_96 ?_
      refine vn_isub (by omega) dX8_spelled_68 ?_
      refine vl_i2l (by omega) dX8_spelled_69 ?_
      refine vl_lor dX8_spelled_70 ?_
      refine v_lstore (i := 6) dX8_spelled_71 (by decide) rfl ?_
      exact J4 _ (by rw [← hv]; unfold sp1; rw [if_neg c57])
  have J2 : ∀ v : Nat, v = (sp1 (sp1 (a - 96) b) c) → V G Γ yX8_spelled cX8_spelled 8 (some .long) [] 1 (re (some (.long (lN (spN a b c d e f)))) η) 0 0 (η) 39 [some (.int (nI a)), some (.int (nI b)), some (.int (nI c)), some (.int (nI d)), some (.int (nI e)), some (.int (nI f)), some (.long (lN v)), none] [] := by
    intro v hv
    refine v_iload_n (i := 3) dX8_spelled_39 rfl rfl ?_
    refine vn_if_eq (tgt := 55) dX8_spelled_40 rfl (by omega) (fun c40 => ?_) (fun c40 => ?_)
    · exact J3 _ (by rw [← hv]; unfold sp1; rw [if_pos c40])
    · refine v_lload (i := 6) dX8_spelled_43 rfl ?_
      refine v_iconst (v := nI 5) dX8_spelled_45 k_iconst_5 ?_
      refine vl_lshl5 dX8_spelled_46 ?_
      refine v_iload_n (i := 3) dX8_spelled_47 rfl rfl ?_
      refine v_bipush (v := nI 96) dX8_spelled_48 k_bipush_96 ?_
      refine vn_isub (by omega) dX8_spelled_50 ?_
      refine vl_i2l (by omega) dX8_spelled_51 ?_
      refine vl_lor dX8_spelled_52 ?_
      refine v_lstore (i := 6) dX8_spelled_53 (by decide) rfl ?_
      exact J3 _ (by rw [← hv]; unfold sp1; rw [if_neg c40])
  have J1 : ∀ v : Nat, v = (sp1 (a - 96) b) → V G Γ yX8_spelled cX8_spelled 8 (some .long) [] 1 (re (some (.long (lN (spN a b c d e f)))) η) 0 0 (η) 23 [some (.int (nI a)), some (.int (nI b)), some (.int (nI c)), some (.int (nI d)), some (.int (nI e)), some (.int (nI f)), some (.long (lN v)), none] [] := by
    intro v hv
    refine v_iload_n (i := 2) dX8_spelled_23 rfl rfl ?_
    refine vn_if_eq (tgt := 39) dX8_spelled_24 rfl (by omega) (fun c24 => ?_) (fun c24 => ?_)
    · exact J2 _ (by rw [← hv]; unfold sp1; rw [if_pos c24])
    · refine v_lload (i := 6) dX8_spelled_27 rfl ?_
      refine v_iconst (v := nI 5) dX8_spelled_29 k_iconst_5 ?_
      refine vl_lshl5 dX8_spelled_30 ?_
      refine v_iload_n (i := 2) dX8_spelled_31 rfl rfl ?_
      refine v_bipush (v := nI 96) dX8_spelled_32 k_bipush_96 ?_
      refine vn_isub (by omega) dX8_spelled_34 ?_
      refine vl_i2l (by omega) dX8_spelled_35 ?_
      refine vl_lor dX8_spelled_36 ?_
      refine v_lstore (i := 6) dX8_spelled_37 (by decide) rfl ?_
      exact J2 _ (by rw [← hv]; unfold sp1; rw [if_neg c24])
  have J0 : ∀ v : Nat, v = (a - 96) → V G Γ yX8_spelled cX8_spelled 8 (some .long) [] 1 (re (some (.long (lN (spN a b c d e f)))) η) 0 0 (η) 7 [some (.int (nI a)), some (.int (nI b)), some (.int (nI c)), some (.int (nI d)), some (.int (nI e)), some (.int (nI f)), some (.long (lN v)), none] [] := by
    intro v hv
    refine v_iload_n (i := 1) dX8_spelled_7 rfl rfl ?_
    refine vn_if_eq (tgt := 23) dX8_spelled_8 rfl (by omega) (fun c8 => ?_) (fun c8 => ?_)
    · exact J1 _ (by rw [← hv]; unfold sp1; rw [if_pos c8])
    · refine v_lload (i := 6) dX8_spelled_11 rfl ?_
      refine v_iconst (v := nI 5) dX8_spelled_13 k_iconst_5 ?_
      refine vl_lshl5 dX8_spelled_14 ?_
      refine v_iload_n (i := 1) dX8_spelled_15 rfl rfl ?_
      refine v_bipush (v := nI 96) dX8_spelled_16 k_bipush_96 ?_
      refine vn_isub (by omega) dX8_spelled_18 ?_
      refine vl_i2l (by omega) dX8_spelled_19 ?_
      refine vl_lor dX8_spelled_20 ?_
      refine v_lstore (i := 6) dX8_spelled_21 (by decide) rfl ?_
      exact J1 _ (by rw [← hv]; unfold sp1; rw [if_neg c8])
  refine v_iload_n (i := 0) dX8_spelled_0 rfl rfl ?_
  refine v_bipush (v := nI 96) dX8_spelled_1 k_bipush_96 ?_
  refine vn_isub (by omega) dX8_spelled_3 ?_
  refine vl_i2l (by omega) dX8_spelled_4 ?_
  refine v_lstore (i := 6) dX8_spelled_5 (by decide) rfl ?_
  exact J0 _ rfl
theorem cM_letters {G : Gl} {η : AH} (k : Nat) (hk : k < 21) : Ct G yX8_letters cX8_letters 1 (some .long) 2 0 0 [.int (nI k)] η (re (some (.long (lN (lw k)))) η) := by
  refine Ct.start rfl rfl (Nat.le_of_ble_eq_true rfl) (fun Γ => ?_)
  refine v_iload_n (i := 0) dX8_letters_0 rfl rfl ?_
  rcases (show k = 0 ∨ k = 1 ∨ k = 2 ∨ k = 3 ∨ k = 4 ∨ k = 5 ∨ k = 6 ∨ k = 7 ∨ k = 8 ∨ k = 9 ∨ k = 10 ∨ k = 11 ∨ k = 12 ∨ k = 13 ∨ k = 14 ∨ k = 15 ∨ k = 16 ∨ k = 17 ∨ k = 18 ∨ k = 19 ∨ k = 20 by omega) with rfl | rfl | rfl | rfl | rfl | rfl | rfl | rfl | rfl | rfl | rfl | rfl | rfl | rfl | rfl | rfl | rfl | rfl | rfl | rfl | rfl
  · refine v_tableIn (off := 95) (tgt := 96) dX8_letters_1 (by decide) (by decide) (by decide) rfl ?_
    refine v_bipush (v := nI 115) dX8_letters_96 k_bipush_115 ?_
    refine v_bipush (v := nI 104) dX8_letters_98 k_bipush_104 ?_
    refine v_bipush (v := nI 111) dX8_letters_100 k_bipush_111 ?_
    refine v_bipush (v := nI 114) dX8_letters_102 k_bipush_114 ?_
    refine v_bipush (v := nI 101) dX8_letters_104 k_bipush_101 ?_
    refine v_bipush (v := nI 115) dX8_letters_106 k_bipush_115 ?_
    refine v_callSl (cM_spelled 115 104 111 114 101 115 (by decide) (by decide) (by decide) (by decide) (by decide) (by decide) (by decide) (by decide) (by decide) (by decide) (by decide) (by decide)) (lw_S q2222 q2223 q136 q2224) iX8_spelled rfl rfl (by decide) (by decide) (Nat.le_of_ble_eq_true rfl) dX8_letters_108 ?_
    exact v_lret rfl dX8_letters_111 ⟨rfl, rfl⟩
  · refine v_tableIn (off := 111) (tgt := 112) dX8_letters_1 (by decide) (by decide) (by decide) rfl ?_
    refine v_bipush (v := nI 116) dX8_letters_112 k_bipush_116 ?_
    refine v_bipush (v := nI 104) dX8_letters_114 k_bipush_104 ?_
    refine v_bipush (v := nI 105) dX8_letters_116 k_bipush_105 ?_
    refine v_bipush (v := nI 110) dX8_letters_118 k_bipush_110 ?_
    refine v_bipush (v := nI 103) dX8_letters_120 k_bipush_103 ?_
    refine v_iconst (v := nI 0) dX8_letters_122 k_iconst_0 ?_
    refine v_callSl (cM_spelled 116 104 105 110 103 0 (by decide) (by decide) (by decide) (by decide) (by decide) (by decide) (by decide) (by decide) (by decide) (by decide) (by decide) (by decide)) (lw_S q2222 q2223 q136 q2224) iX8_spelled rfl rfl (by decide) (by decide) (Nat.le_of_ble_eq_true rfl) dX8_letters_123 ?_
    exact v_lret rfl dX8_letters_126 ⟨rfl, rfl⟩
  · refine v_tableIn (off := 126) (tgt := 127) dX8_letters_1 (by decide) (by decide) (by decide) rfl ?_
    refine v_bipush (v := nI 98) dX8_letters_127 k_bipush_98 ?_
    refine v_bipush (v := nI 111) dX8_letters_129 k_bipush_111 ?_
    refine v_bipush (v := nI 97) dX8_letters_131 k_bipush_97 ?_
    refine v_bipush (v := nI 116) dX8_letters_133 k_bipush_116 ?_
    refine v_iconst (v := nI 0) dX8_letters_135 k_iconst_0 ?_
    refine v_iconst (v := nI 0) dX8_letters_136 k_iconst_0 ?_
    refine v_callSl (cM_spelled 98 111 97 116 0 0 (by decide) (by decide) (by decide) (by decide) (by decide) (by decide) (by decide) (by decide) (by decide) (by decide) (by decide) (by decide)) (lw_S q2222 q2223 q136 q2224) iX8_spelled rfl rfl (by decide) (by decide) (Nat.le_of_ble_eq_true rfl) dX8_letters_137 ?_
    exact v_lret rfl dX8_letters_140 ⟨rfl, rfl⟩
  · refine v_tableIn (off := 140) (tgt := 141) dX8_letters_1 (by decide) (by decide) (by decide) rfl ?_
    refine v_bipush (v := nI 119) dX8_letters_141 k_bipush_119 ?_
    refine v_bipush (v := nI 97) dX8_letters_143 k_bipush_97 ?_
    refine v_bipush (v := nI 116) dX8_letters_145 k_bipush_116 ?_
    refine v_bipush (v := nI 101) dX8_letters_147 k_bipush_101 ?_
    refine v_bipush (v := nI 114) dX8_letters_149 k_bipush_114 ?_
    refine v_iconst (v := nI 0) dX8_letters_151 k_iconst_0 ?_
    refine v_callSl (cM_spelled 119 97 116 101 114 0 (by decide) (by decide) (by decide) (by decide) (by decide) (by decide) (by decide) (by decide) (by decide) (by decide) (by decide) (by decide)) (lw_S q2222 q2223 q136 q2224) iX8_spelled rfl rfl (by decide) (by decide) (Nat.le_of_ble_eq_true rfl) dX8_letters_152 ?_
    exact v_lret rfl dX8_letters_155 ⟨rfl, rfl⟩
  · refine v_tableIn (off := 155) (tgt := 156) dX8_letters_1 (by decide) (by decide) (by decide) rfl ?_
    refine v_bipush (v := nI 119) dX8_letters_156 k_bipush_119 ?_
    refine v_bipush (v := nI 97) dX8_letters_158 k_bipush_97 ?_
    refine v_bipush (v := nI 121) dX8_letters_160 k_bipush_121 ?_
    refine v_iconst (v := nI 0) dX8_letters_162 k_iconst_0 ?_
    refine v_iconst (v := nI 0) dX8_letters_163 k_iconst_0 ?_
    refine v_iconst (v := nI 0) dX8_letters_164 k_iconst_0 ?_
    refine v_callSl (cM_spelled 119 97 121 0 0 0 (by decide) (by decide) (by decide) (by decide) (by decide) (by decide) (by decide) (by decide) (by decide) (by decide) (by decide) (by decide)) (lw_S q2222 q2223 q136 q2224) iX8_spelled rfl rfl (by decide) (by decide) (Nat.le_of_ble_eq_true rfl) dX8_letters_165 ?_
    exact v_lret rfl dX8_letters_168 ⟨rfl, rfl⟩
  · refine v_tableIn (off := 168) (tgt := 169) dX8_letters_1 (by decide) (by decide) (by decide) rfl ?_
    refine v_bipush (v := nI 108) dX8_letters_169 k_bipush_108 ?_
    refine v_bipush (v := nI 97) dX8_letters_171 k_bipush_97 ?_
    refine v_bipush (v := nI 109) dX8_letters_173 k_bipush_109 ?_
    refine v_bipush (v := nI 112) dX8_letters_175 k_bipush_112 ?_
    refine v_iconst (v := nI 0) dX8_letters_177 k_iconst_0 ?_
    refine v_iconst (v := nI 0) dX8_letters_178 k_iconst_0 ?_
    refine v_callSl (cM_spelled 108 97 109 112 0 0 (by decide) (by decide) (by decide) (by decide) (by decide) (by decide) (by decide) (by decide) (by decide) (by decide) (by decide) (by decide)) (lw_S q2222 q2223 q136 q2224) iX8_spelled rfl rfl (by decide) (by decide) (Nat.le_of_ble_eq_true rfl) dX8_letters_179 ?_
    exact v_lret rfl dX8_letters_182 ⟨rfl, rfl⟩
  · refine v_tableIn (off := 182) (tgt := 183) dX8_letters_1 (by decide) (by decide) (by decide) rfl ?_
    refine v_bipush (v := nI 110) dX8_letters_183 k_bipush_110 ?_
    refine v_bipush (v := nI 101) dX8_letters_185 k_bipush_101 ?_
    refine v_bipush (v := nI 118) dX8_letters_187 k_bipush_118 ?_
    refine v_bipush (v := nI 101) dX8_letters_189 k_bipush_101 ?_
    refine v_bipush (v := nI 114) dX8_letters_191 k_bipush_114 ?_
    refine v_iconst (v := nI 0) dX8_letters_193 k_iconst_0 ?_
    refine v_callSl (cM_spelled 110 101 118 101 114 0 (by decide) (by decide) (by decide) (by decide) (by decide) (by decide) (by decide) (by decide) (by decide) (by decide) (by decide) (by decide)) (lw_S q2222 q2223 q136 q2224) iX8_spelled rfl rfl (by decide) (by decide) (Nat.le_of_ble_eq_true rfl) dX8_letters_194 ?_
    exact v_lret rfl dX8_letters_197 ⟨rfl, rfl⟩
  · refine v_tableIn (off := 197) (tgt := 198) dX8_letters_1 (by decide) (by decide) (by decide) rfl ?_
    refine v_bipush (v := nI 119) dX8_letters_198 k_bipush_119 ?_
    refine v_bipush (v := nI 101) dX8_letters_200 k_bipush_101 ?_
    refine v_bipush (v := nI 105) dX8_letters_202 k_bipush_105 ?_
    refine v_bipush (v := nI 103) dX8_letters_204 k_bipush_103 ?_
    refine v_bipush (v := nI 104) dX8_letters_206 k_bipush_104 ?_
    refine v_bipush (v := nI 116) dX8_letters_208 k_bipush_116 ?_
    refine v_callSl (cM_spelled 119 101 105 103 104 116 (by decide) (by decide) (by decide) (by decide) (by decide) (by decide) (by decide) (by decide) (by decide) (by decide) (by decide) (by decide)) (lw_S q2222 q2223 q136 q2224) iX8_spelled rfl rfl (by decide) (by decide) (Nat.le_of_ble_eq_true rfl) dX8_letters_210 ?_
    exact v_lret rfl dX8_letters_213 ⟨rfl, rfl⟩
  · refine v_tableIn (off := 213) (tgt := 214) dX8_letters_1 (by decide) (by decide) (by decide) rfl ?_
    refine v_bipush (v := nI 114) dX8_letters_214 k_bipush_114 ?_
    refine v_bipush (v := nI 111) dX8_letters_216 k_bipush_111 ?_
    refine v_bipush (v := nI 119) dX8_letters_218 k_bipush_119 ?_
    refine v_bipush (v := nI 115) dX8_letters_220 k_bipush_115 ?_
    refine v_iconst (v := nI 0) dX8_letters_222 k_iconst_0 ?_
    refine v_iconst (v := nI 0) dX8_letters_223 k_iconst_0 ?_
    refine v_callSl (cM_spelled 114 111 119 115 0 0 (by decide) (by decide) (by decide) (by decide) (by decide) (by decide) (by decide) (by decide) (by decide) (by decide) (by decide) (by decide)) (lw_S q2222 q2223 q136 q2224) iX8_spelled rfl rfl (by decide) (by decide) (Nat.le_of_ble_eq_true rfl) dX8_letters_224 ?_
    exact v_lret rfl dX8_letters_227 ⟨rfl, rfl⟩
  · refine v_tableIn (off := 227) (tgt := 228) dX8_letters_1 (by decide) (by decide) (by decide) rfl ?_
    refine v_bipush (v := nI 104) dX8_letters_228 k_bipush_104 ?_
    refine v_bipush (v := nI 111) dX8_letters_230 k_bipush_111 ?_
    refine v_bipush (v := nI 108) dX8_letters_232 k_bipush_108 ?_
    refine v_bipush (v := nI 100) dX8_letters_234 k_bipush_100 ?_
    refine v_bipush (v := nI 115) dX8_letters_236 k_bipush_115 ?_
    refine v_iconst (v := nI 0) dX8_letters_238 k_iconst_0 ?_
    refine v_callSl (cM_spelled 104 111 108 100 115 0 (by decide) (by decide) (by decide) (by decide) (by decide) (by decide) (by decide) (by decide) (by decide) (by decide) (by decide) (by decide)) (lw_S q2222 q2223 q136 q2224) iX8_spelled rfl rfl (by decide) (by decide) (Nat.le_of_ble_eq_true rfl) dX8_letters_239 ?_
    exact v_lret rfl dX8_letters_242 ⟨rfl, rfl⟩
  · refine v_tableIn (off := 242) (tgt := 243) dX8_letters_1 (by decide) (by decide) (by decide) rfl ?_
    refine v_bipush (v := nI 108) dX8_letters_243 k_bipush_108 ?_
    refine v_bipush (v := nI 111) dX8_letters_245 k_bipush_111 ?_
    refine v_bipush (v := nI 97) dX8_letters_247 k_bipush_97 ?_
    refine v_bipush (v := nI 100) dX8_letters_249 k_bipush_100 ?_
    refine v_iconst (v := nI 0) dX8_letters_251 k_iconst_0 ?_
    refine v_iconst (v := nI 0) dX8_letters_252 k_iconst_0 ?_
    refine v_callSl (cM_spelled 108 111 97 100 0 0 (by decide) (by decide) (by decide) (by decide) (by decide) (by decide) (by decide) (by decide) (by decide) (by decide) (by decide) (by decide)) (lw_S q2222 q2223 q136 q2224) iX8_spelled rfl rfl (by decide) (by decide) (Nat.le_of_ble_eq_true rfl) dX8_letters_253 ?_
    exact v_lret rfl dX8_letters_256 ⟨rfl, rfl⟩
  · refine v_tableIn (off := 256) (tgt := 257) dX8_letters_1 (by decide) (by decide) (by decide) rfl ?_
    refine v_bipush (v := nI 97) dX8_letters_257 k_bipush_97 ?_
    refine v_bipush (v := nI 116) dX8_letters_259 k_bipush_116 ?_
    refine v_iconst (v := nI 0) dX8_letters_261 k_iconst_0 ?_
    refine v_iconst (v := nI 0) dX8_letters_262 k_iconst_0 ?_
    refine v_iconst (v := nI 0) dX8_letters_263 k_iconst_0 ?_
    refine v_iconst (v := nI 0) dX8_letters_264 k_iconst_0 ?_
    refine v_callSl (cM_spelled 97 116 0 0 0 0 (by decide) (by decide) (by decide) (by decide) (by decide) (by decide) (by decide) (by decide) (by decide) (by decide) (by decide) (by decide)) (lw_S q2222 q2223 q136 q2224) iX8_spelled rfl rfl (by decide) (by decide) (Nat.le_of_ble_eq_true rfl) dX8_letters_265 ?_
    exact v_lret rfl dX8_letters_268 ⟨rfl, rfl⟩
  · refine v_tableIn (off := 268) (tgt := 269) dX8_letters_1 (by decide) (by decide) (by decide) rfl ?_
    refine v_bipush (v := nI 97) dX8_letters_269 k_bipush_97 ?_
    refine v_bipush (v := nI 115) dX8_letters_271 k_bipush_115 ?_
    refine v_bipush (v := nI 104) dX8_letters_273 k_bipush_104 ?_
    refine v_bipush (v := nI 111) dX8_letters_275 k_bipush_111 ?_
    refine v_bipush (v := nI 114) dX8_letters_277 k_bipush_114 ?_
    refine v_bipush (v := nI 101) dX8_letters_279 k_bipush_101 ?_
    refine v_callSl (cM_spelled 97 115 104 111 114 101 (by decide) (by decide) (by decide) (by decide) (by decide) (by decide) (by decide) (by decide) (by decide) (by decide) (by decide) (by decide)) (lw_S q2222 q2223 q136 q2224) iX8_spelled rfl rfl (by decide) (by decide) (Nat.le_of_ble_eq_true rfl) dX8_letters_281 ?_
    exact v_lret rfl dX8_letters_284 ⟨rfl, rfl⟩
  · refine v_tableIn (off := 284) (tgt := 285) dX8_letters_1 (by decide) (by decide) (by decide) rfl ?_
    refine v_bipush (v := nI 97) dX8_letters_285 k_bipush_97 ?_
    refine v_bipush (v := nI 98) dX8_letters_287 k_bipush_98 ?_
    refine v_bipush (v := nI 111) dX8_letters_289 k_bipush_111 ?_
    refine v_bipush (v := nI 97) dX8_letters_291 k_bipush_97 ?_
    refine v_bipush (v := nI 114) dX8_letters_293 k_bipush_114 ?_
    refine v_bipush (v := nI 100) dX8_letters_295 k_bipush_100 ?_
    refine v_callSl (cM_spelled 97 98 111 97 114 100 (by decide) (by decide) (by decide) (by decide) (by decide) (by decide) (by decide) (by decide) (by decide) (by decide) (by decide) (by decide)) (lw_S q2222 q2223 q136 q2224) iX8_spelled rfl rfl (by decide) (by decide) (Nat.le_of_ble_eq_true rfl) dX8_letters_297 ?_
    exact v_lret rfl dX8_letters_300 ⟨rfl, rfl⟩
  · refine v_tableIn (off := 300) (tgt := 301) dX8_letters_1 (by decide) (by decide) (by decide) rfl ?_
    refine v_bipush (v := nI 97) dX8_letters_301 k_bipush_97 ?_
    refine v_bipush (v := nI 110) dX8_letters_303 k_bipush_110 ?_
    refine v_bipush (v := nI 100) dX8_letters_305 k_bipush_100 ?_
    refine v_iconst (v := nI 0) dX8_letters_307 k_iconst_0 ?_
    refine v_iconst (v := nI 0) dX8_letters_308 k_iconst_0 ?_
    refine v_iconst (v := nI 0) dX8_letters_309 k_iconst_0 ?_
    refine v_callSl (cM_spelled 97 110 100 0 0 0 (by decide) (by decide) (by decide) (by decide) (by decide) (by decide) (by decide) (by decide) (by decide) (by decide) (by decide) (by decide)) (lw_S q2222 q2223 q136 q2224) iX8_spelled rfl rfl (by decide) (by decide) (Nat.le_of_ble_eq_true rfl) dX8_letters_310 ?_
    exact v_lret rfl dX8_letters_313 ⟨rfl, rfl⟩
  · refine v_tableIn (off := 313) (tgt := 314) dX8_letters_1 (by decide) (by decide) (by decide) rfl ?_
    refine v_bipush (v := nI 111) dX8_letters_314 k_bipush_111 ?_
    refine v_bipush (v := nI 114) dX8_letters_316 k_bipush_114 ?_
    refine v_iconst (v := nI 0) dX8_letters_318 k_iconst_0 ?_
    refine v_iconst (v := nI 0) dX8_letters_319 k_iconst_0 ?_
    refine v_iconst (v := nI 0) dX8_letters_320 k_iconst_0 ?_
    refine v_iconst (v := nI 0) dX8_letters_321 k_iconst_0 ?_
    refine v_callSl (cM_spelled 111 114 0 0 0 0 (by decide) (by decide) (by decide) (by decide) (by decide) (by decide) (by decide) (by decide) (by decide) (by decide) (by decide) (by decide)) (lw_S q2222 q2223 q136 q2224) iX8_spelled rfl rfl (by decide) (by decide) (Nat.le_of_ble_eq_true rfl) dX8_letters_322 ?_
    exact v_lret rfl dX8_letters_325 ⟨rfl, rfl⟩
  · refine v_tableIn (off := 325) (tgt := 326) dX8_letters_1 (by decide) (by decide) (by decide) rfl ?_
    refine v_bipush (v := nI 110) dX8_letters_326 k_bipush_110 ?_
    refine v_bipush (v := nI 111) dX8_letters_328 k_bipush_111 ?_
    refine v_bipush (v := nI 116) dX8_letters_330 k_bipush_116 ?_
    refine v_iconst (v := nI 0) dX8_letters_332 k_iconst_0 ?_
    refine v_iconst (v := nI 0) dX8_letters_333 k_iconst_0 ?_
    refine v_iconst (v := nI 0) dX8_letters_334 k_iconst_0 ?_
    refine v_callSl (cM_spelled 110 111 116 0 0 0 (by decide) (by decide) (by decide) (by decide) (by decide) (by decide) (by decide) (by decide) (by decide) (by decide) (by decide) (by decide)) (lw_S q2222 q2223 q136 q2224) iX8_spelled rfl rfl (by decide) (by decide) (Nat.le_of_ble_eq_true rfl) dX8_letters_335 ?_
    exact v_lret rfl dX8_letters_338 ⟨rfl, rfl⟩
  · refine v_tableIn (off := 338) (tgt := 339) dX8_letters_1 (by decide) (by decide) (by decide) rfl ?_
    refine v_bipush (v := nI 109) dX8_letters_339 k_bipush_109 ?_
    refine v_bipush (v := nI 97) dX8_letters_341 k_bipush_97 ?_
    refine v_bipush (v := nI 110) dX8_letters_343 k_bipush_110 ?_
    refine v_bipush (v := nI 121) dX8_letters_345 k_bipush_121 ?_
    refine v_iconst (v := nI 0) dX8_letters_347 k_iconst_0 ?_
    refine v_iconst (v := nI 0) dX8_letters_348 k_iconst_0 ?_
    refine v_callSl (cM_spelled 109 97 110 121 0 0 (by decide) (by decide) (by decide) (by decide) (by decide) (by decide) (by decide) (by decide) (by decide) (by decide) (by decide) (by decide)) (lw_S q2222 q2223 q136 q2224) iX8_spelled rfl rfl (by decide) (by decide) (Nat.le_of_ble_eq_true rfl) dX8_letters_349 ?_
    exact v_lret rfl dX8_letters_352 ⟨rfl, rfl⟩
  · refine v_tableIn (off := 352) (tgt := 353) dX8_letters_1 (by decide) (by decide) (by decide) rfl ?_
    refine v_bipush (v := nI 114) dX8_letters_353 k_bipush_114 ?_
    refine v_bipush (v := nI 111) dX8_letters_355 k_bipush_111 ?_
    refine v_bipush (v := nI 119) dX8_letters_357 k_bipush_119 ?_
    refine v_bipush (v := nI 101) dX8_letters_359 k_bipush_101 ?_
    refine v_bipush (v := nI 114) dX8_letters_361 k_bipush_114 ?_
    refine v_bipush (v := nI 115) dX8_letters_363 k_bipush_115 ?_
    refine v_callSl (cM_spelled 114 111 119 101 114 115 (by decide) (by decide) (by decide) (by decide) (by decide) (by decide) (by decide) (by decide) (by decide) (by decide) (by decide) (by decide)) (lw_S q2222 q2223 q136 q2224) iX8_spelled rfl rfl (by decide) (by decide) (Nat.le_of_ble_eq_true rfl) dX8_letters_365 ?_
    exact v_lret rfl dX8_letters_368 ⟨rfl, rfl⟩
  · refine v_tableIn (off := 368) (tgt := 369) dX8_letters_1 (by decide) (by decide) (by decide) rfl ?_
    refine v_bipush (v := nI 98) dX8_letters_369 k_bipush_98 ?_
    refine v_bipush (v := nI 111) dX8_letters_371 k_bipush_111 ?_
    refine v_bipush (v := nI 97) dX8_letters_373 k_bipush_97 ?_
    refine v_bipush (v := nI 116) dX8_letters_375 k_bipush_116 ?_
    refine v_bipush (v := nI 115) dX8_letters_377 k_bipush_115 ?_
    refine v_iconst (v := nI 0) dX8_letters_379 k_iconst_0 ?_
    refine v_callSl (cM_spelled 98 111 97 116 115 0 (by decide) (by decide) (by decide) (by decide) (by decide) (by decide) (by decide) (by decide) (by decide) (by decide) (by decide) (by decide)) (lw_S q2222 q2223 q136 q2224) iX8_spelled rfl rfl (by decide) (by decide) (Nat.le_of_ble_eq_true rfl) dX8_letters_380 ?_
    exact v_lret rfl dX8_letters_383 ⟨rfl, rfl⟩
  · refine v_tableOut (tgt := 384) dX8_letters_1 (by decide) rfl ?_
    refine v_bipush (v := nI 115) dX8_letters_384 k_bipush_115 ?_
    refine v_bipush (v := nI 104) dX8_letters_386 k_bipush_104 ?_
    refine v_bipush (v := nI 111) dX8_letters_388 k_bipush_111 ?_
    refine v_bipush (v := nI 114) dX8_letters_390 k_bipush_114 ?_
    refine v_bipush (v := nI 101) dX8_letters_392 k_bipush_101 ?_
    refine v_iconst (v := nI 0) dX8_letters_394 k_iconst_0 ?_
    refine v_callSl (cM_spelled 115 104 111 114 101 0 (by decide) (by decide) (by decide) (by decide) (by decide) (by decide) (by decide) (by decide) (by decide) (by decide) (by decide) (by decide)) (lw_S q2222 q2223 q136 q2224) iX8_spelled rfl rfl (by decide) (by decide) (Nat.le_of_ble_eq_true rfl) dX8_letters_395 ?_
    exact v_lret rfl dX8_letters_398 ⟨rfl, rfl⟩
theorem cM_knownWord {G : Gl} {m : Nat} {ad : Nat → Nat} {η0 : AH} (hap : Mp m ad) (σ : MS) (h1 : gN σ 23 < 2147483648) (h2 : gN σ 25 < 2147483648) (hW : gW σ < 2 ^ 63) : Ct G yX8_knownWord cX8_knownWord 2 (some .int) 3 0 0 [.ref m] (MH m ad σ η0) (re (some (.int (oI (kwT (tokS σ))))) (MH m ad σ η0)) := by
  refine Ct.start rfl rfl (Nat.le_of_ble_eq_true rfl) (fun Γ => ?_)
  have L : ∀ (n k : Nat), k + n = 21 → gN σ 23 = 1 → gN σ 25 ≤ 6 → kwT (tokS σ) = kwF (gW σ) n k → V G Γ yX8_knownWord cX8_knownWord 2 (some .int) [] 3 (re (some (.int (oI (kwT (tokS σ))))) (MH m ad σ η0)) 0 0 (MH m ad σ η0) 21 [some (.ref m), some (.int (nI k))] [] := by
    intro n
    induction n with
    | zero =>
      intro k hk e1 e2 hkw
      have e : k = 21 := by omega
      subst e
      refine v_iload_n (i := 1) dX8_knownWord_21 rfl rfl ?_
      refine v_bipush (v := nI 21) dX8_knownWord_22 k_bipush_21 ?_
      refine vn_icmp_ge (tgt := 47) dX8_knownWord_24 rfl (by omega) (by omega) (fun c24 => ?_) (fun c24 => ?_)
      · refine v_iconst (v := -1) dX8_knownWord_47 k_iconst_m1 ?_
        exact v_iret rfl dX8_knownWord_48 ⟨by rw [hkw]; rfl, rfl⟩
      · omega
    | succ n ih =>
      intro k hk e1 e2 hkw
      have hlk := lw_lt k (by omega)
      refine v_iload_n (i := 1) dX8_knownWord_21 rfl rfl ?_
      refine v_bipush (v := nI 21) dX8_knownWord_22 k_bipush_21 ?_
      refine vn_icmp_ge (tgt := 47) dX8_knownWord_24 rfl (by omega) (by omega) (fun c24 => ?_) (fun c24 => ?_)
      · omega
      · refine v_iload_n (i := 1) dX8_knownWord_27 rfl rfl ?_
        refine v_callSl (cM_letters k (by omega)) (lw_S q2219 q2220 q136 q2221) iX8_letters rfl rfl (by decide) (by decide) (Nat.le_of_ble_eq_true rfl) dX8_knownWord_28 ?_
        refine v_aload_n (i := 0) dX8_knownWord_31 rfl rfl ?_
        refine mg_word rfl dX8_knownWord_32 ?_
        refine vl_lcmp_ne (tgt := 41) dX8_knownWord_35 dX8_knownWord_36 rfl (by omega) hW (fun c36 => ?_) (fun c36 => ?_)
        · refine vn_iinc 1 dX8_knownWord_41 rfl k_iconst_1 (by decide) rfl ?_
          refine v_goto (tgt := 21) dX8_knownWord_44 rfl ?_
          exact ih (k + 1) (by omega) e1 e2 (by rw [hkw]; show (if _ then _ else _) = _; rw [if_neg c36])
        · refine v_iload_n (i := 1) dX8_knownWord_39 rfl rfl ?_
          exact v_iret rfl dX8_knownWord_40 ⟨by rw [hkw]; show _ = Sum.inl (some (Value.int (oI (if _ then _ else _)))); rw [if_pos c36]; rfl, rfl⟩
  refine v_aload_n (i := 0) dX8_knownWord_0 rfl rfl ?_
  refine mg_sort rfl dX8_knownWord_1 ?_
  refine v_iconst (v := nI 1) dX8_knownWord_4 k_iconst_1 ?_
  refine vn_icmp_ne (tgt := 17) dX8_knownWord_5 rfl (by omega) (by omega) (fun c5 => ?_) (fun c5 => ?_)
  · refine v_iconst (v := -1) dX8_knownWord_17 k_iconst_m1 ?_
    exact v_iret rfl dX8_knownWord_18 ⟨by unfold kwT; rw [if_neg (fun q => c5 q.1)]; rfl, rfl⟩
  · refine v_aload_n (i := 0) dX8_knownWord_8 rfl rfl ?_
    refine mg_long0 rfl dX8_knownWord_9 ?_
    refine v_bipush (v := nI 6) dX8_knownWord_12 k_bipush_6 ?_
    refine vn_icmp_le (tgt := 19) dX8_knownWord_14 rfl (by omega) (by omega) (fun c14 => ?_) (fun c14 => ?_)
    · refine v_iconst (v := nI 0) dX8_knownWord_19 k_iconst_0 ?_
      refine v_istore_n (i := 1) dX8_knownWord_20 rfl (by decide) rfl ?_
      exact L 21 0 rfl c5 c14 (by unfold kwT; rw [if_pos ⟨c5, c14⟩]; rfl)
    · refine v_iconst (v := -1) dX8_knownWord_17 k_iconst_m1 ?_
      exact v_iret rfl dX8_knownWord_18 ⟨by unfold kwT; rw [if_neg (fun q => absurd q.2 (show ¬ gN σ 25 ≤ 6 by omega))]; rfl, rfl⟩
