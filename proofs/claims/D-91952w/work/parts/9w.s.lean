set_option maxRecDepth 100000
/-- a sign's act -/
def opc (c : Nat) : Nat := if c = 38 then 4 else if c = 124 then 5 else if c = 60 then 6 else if c = 61 then 7 else if c = 43 then 8 else if c = 45 then 9 else if c = 42 then 10 else 11
def sgn (c : Nat) : Prop := c = 38 ∨ c = 42 ∨ c = 43 ∨ c = 45 ∨ c = 47 ∨ c = 60 ∨ c = 61 ∨ c = 124
theorem sgn.lt {c : Nat} (h : sgn c) : c < 128 := by unfold sgn at h; omega
section VGQ
variable {G : Gl} {Γ : Fx} {mt : MethodName} {cc : ByteArray} {nL : Nat} {ret : Option FieldType} {tb : List ExceptionTableEntry} {d : Nat} {P : Rs → AH → Prop} {kc ks : Nat} {η : AH} {pc : Nat} {lv : List (Option Value)} {rest : List Value} {index : Nat}
theorem v_getq {Cn n dd ref : String} (hi : (Cn, n, dd) ∈ cstQ) (hlink : Cond.fieldLink mt.cls index ref n dd ∈ lw_all) (hsame : ref = Cn) (hdg : decode cc pc = .ok (.getstatic index, 3)) (k0 : V G Γ mt cc nL ret tb d P kc ks η (pc + 3) lv (.null :: rest)) (kk : ∀ r : Nat, V G Γ mt cc nL ret tb d P kc ks η (pc + 3) lv (.ref r :: rest)) : V G Γ mt cc nL ret tb d P kc ks η pc lv rest := fun Q H locs ls cells slots a1 a2 a3 a4 a5 => by
  rcases (Q.2.2.2.2.2.1.2.2.2.2.2.1 _ hi).1 with hz | ⟨r, hz⟩
  · exact va_gets Q.1 Q.2.1 hz a2 Q.2.2.2.1 (Q.2.2.2.2.1 _ hlink) (fun x hx => by rw [hsame]; exact hx) hdg (k0 Q H locs ls cells slots a1 a2 a3 a4 a5)
  · exact va_gets Q.1 Q.2.1 hz a2 Q.2.2.2.1 (Q.2.2.2.2.1 _ hlink) (fun x hx => by rw [hsame]; exact hx) hdg (kk r Q H locs ls cells slots a1 a2 a3 a4 a5)
variable {ci N : Nat} {C : String} {T : u_T} {ty : Nat → FieldType} {a : Nat} {y : MethodName} {cy : ByteArray} {nY dy mc ms n kc' ks' : Nat} {rY : Option FieldType} {As st0 : List Value} {P' : Rs → AH → Prop}
theorem lw_SU {own : String} {idx : Nat} {y : MethodName} {b : ByteArray} {L : Nat} {r : Option FieldType} (h1 : Cond.methodLink own idx y ∈ lw_all) (h2 : Cond.sameMethod y.cls y.cls y.name y.desc ∈ lw_all) (h3 : Cond.superclass own y.cls ∈ lw_all) (h4 : Cond.instanceMethod y ∈ lw_all) (h5 : Cond.initialized y.cls ∈ lw_all) (h6 : Cond.code y b L r ∈ lw_all) : GoodIn lw_all (va_wsSU own idx y (ws_ y b L r)) := lw_app (a := [.methodLink own idx y, .sameMethod y.cls y.cls y.name y.desc, .superclass own y.cls, .instanceMethod y, .initialized y.cls]) (List.forall_mem_cons.mpr ⟨h1, List.forall_mem_cons.mpr ⟨h2, List.forall_mem_cons.mpr ⟨h3, List.forall_mem_cons.mpr ⟨h4, List.forall_mem_cons.mpr ⟨h5, fun _ h => nomatch h⟩⟩⟩⟩⟩) (lw_meth h6)
theorem v_callSU (hM : Ct G y cy nY rY dy mc ms (.ref a :: As) η P') (hT : GoodIn lw_all (va_wsSU mt.cls index y (ws_ y cy nY rY))) (hno : y.name ≠ "<init>" ∧ (parseMethodDescriptor y.desc).map (fun d => d.parameters.length) = some n) (K : Cl ci C T N ty) (hr : ∃ z : Option Nat × (Nat → Value), η a = some (z.1, ob ci z.2)) (hst : st0 = As.reverse ++ .ref a :: rest) (hl : As.length = n) (hdy : dy < d) (hm : nY ≤ 41) (hW : (rest.map fun v => v.category).sum ≤ 8) (hb1 : kc' + mc ≤ kc) (hb2 : ks' + ms ≤ ks) (hdg : decode cc pc = .ok (.invokespecial index, 3)) (kr : ∀ v η', P' (.inl v) η' → V G Γ mt cc nL ret tb d P kc' ks' η' (pc + 3) lv (v.toList ++ rest)) (kx : ∀ E q η', P' (.inr (E, q)) η' → VX G Γ mt cc nL ret tb d P kc' ks' η' pc lv rest E q) : V G Γ mt cc nL ret tb d P kc ks η pc lv st0 := by
  obtain ⟨z, hη⟩ := hr
  exact v_run (fun Q H locs ls cells slots a1 a2 a3 a4 a5 => ⟨_, vx_runSU (g := F0 Γ.2.2.2.2.1 pc ls st0) (Q.2.2.2.2.2.1.2.1.1 ci _ K.1).2 Q.fix hM (va_cwSU n Q.2.2.2.2.1 hT rfl rfl rfl hno (Q.rm hdy hm)) ⟨Pco.blind, a1.recv Q.2.2.2.2.2.1.2.1 K hη, Q.pre a1 a2⟩ rfl hl a3.1 hst (lv_room hW) hdg ⟨a4, a5⟩⟩) hb1 hb2 kr kx
end VGQ
theorem cE_two {G : Gl} {η : AH} {c : Nat} {a b : Int32} (hc : sgn c) : Ct G yX6_two cX6_two 3 (some .int) 0 (0) (0) [.int (nI c), .int a, .int b] η (re (some (.int (wkI (opc c) a b))) η) := by
  refine Ct.start rfl rfl (Nat.le_of_ble_eq_true rfl) (fun Γ => ?_)
  refine v_iload_n (i := 0) dX6_two_0 rfl rfl ?_
  rcases hc with rfl | rfl | rfl | rfl | rfl | rfl | rfl | rfl
  · refine v_tableIn (off := 157) (tgt := 158) dX6_two_1 (by decide) (by decide) (by decide) rfl ?_
    refine v_iload_n (i := 1) dX6_two_158 rfl rfl ?_
    refine v_if_eq (tgt := 170) dX6_two_159 rfl (fun c159 => ?_) (fun c159 => ?_)
    · refine v_iconst (v := nI 0) dX6_two_170 k_iconst_0 ?_
      exact v_iret rfl dX6_two_171 ⟨by simp_all [wkI, opc, nI_0] <;> rfl, rfl⟩
    · refine v_iload_n (i := 2) dX6_two_162 rfl rfl ?_
      refine v_if_eq (tgt := 170) dX6_two_163 rfl (fun c163 => ?_) (fun c163 => ?_)
      · refine v_iconst (v := nI 0) dX6_two_170 k_iconst_0 ?_
        exact v_iret rfl dX6_two_171 ⟨by simp_all [wkI, opc, nI_0] <;> rfl, rfl⟩
      · refine v_iconst (v := nI 1) dX6_two_166 k_iconst_1 ?_
        refine v_goto (tgt := 171) dX6_two_167 rfl ?_
        exact v_iret rfl dX6_two_171 ⟨by simp_all [wkI, opc, nI_0] <;> rfl, rfl⟩
  · refine v_tableIn (off := 119) (tgt := 120) dX6_two_1 (by decide) (by decide) (by decide) rfl ?_
    refine v_iload_n (i := 1) dX6_two_120 rfl rfl ?_
    refine v_iload_n (i := 2) dX6_two_121 rfl rfl ?_
    refine v_imul dX6_two_122 ?_
    exact v_iret rfl dX6_two_123 ⟨by simp_all [wkI, opc, nI_0] <;> rfl, rfl⟩
  · refine v_tableIn (off := 111) (tgt := 112) dX6_two_1 (by decide) (by decide) (by decide) rfl ?_
    refine v_iload_n (i := 1) dX6_two_112 rfl rfl ?_
    refine v_iload_n (i := 2) dX6_two_113 rfl rfl ?_
    refine v_iadd dX6_two_114 ?_
    exact v_iret rfl dX6_two_115 ⟨by simp_all [wkI, opc, nI_0] <;> rfl, rfl⟩
  · refine v_tableIn (off := 115) (tgt := 116) dX6_two_1 (by decide) (by decide) (by decide) rfl ?_
    refine v_iload_n (i := 1) dX6_two_116 rfl rfl ?_
    refine v_iload_n (i := 2) dX6_two_117 rfl rfl ?_
    refine v_isub dX6_two_118 ?_
    exact v_iret rfl dX6_two_119 ⟨by simp_all [wkI, opc, nI_0] <;> rfl, rfl⟩
  · refine v_tableIn (off := 123) (tgt := 124) dX6_two_1 (by decide) (by decide) (by decide) rfl ?_
    refine v_iload_n (i := 2) dX6_two_124 rfl rfl ?_
    refine v_if_ne (tgt := 132) dX6_two_125 rfl (fun c125 => ?_) (fun c125 => ?_)
    · refine v_iload_n (i := 1) dX6_two_132 rfl rfl ?_
      refine v_iload_n (i := 2) dX6_two_133 rfl rfl ?_
      refine v_idiv dX6_two_134 c125 ?_
      exact v_iret rfl dX6_two_135 ⟨by simp_all [wkI, opc, nI_0] <;> rfl, rfl⟩
    · refine v_iconst (v := nI 0) dX6_two_128 k_iconst_0 ?_
      refine v_goto (tgt := 135) dX6_two_129 rfl ?_
      exact v_iret rfl dX6_two_135 ⟨by simp_all [wkI, opc, nI_0] <;> rfl, rfl⟩
  · refine v_tableIn (off := 135) (tgt := 136) dX6_two_1 (by decide) (by decide) (by decide) rfl ?_
    refine v_iload_n (i := 1) dX6_two_136 rfl rfl ?_
    refine v_iload_n (i := 2) dX6_two_137 rfl rfl ?_
    refine v_icmp_ge (tgt := 145) dX6_two_138 rfl (fun c138 => ?_) (fun c138 => ?_)
    · refine v_iconst (v := nI 0) dX6_two_145 k_iconst_0 ?_
      exact v_iret rfl dX6_two_146 ⟨by simp_all [wkI, opc, nI_0] <;> rfl, rfl⟩
    · refine v_iconst (v := nI 1) dX6_two_141 k_iconst_1 ?_
      refine v_goto (tgt := 146) dX6_two_142 rfl ?_
      exact v_iret rfl dX6_two_146 ⟨by simp_all [wkI, opc, nI_0] <;> rfl, rfl⟩
  · refine v_tableIn (off := 146) (tgt := 147) dX6_two_1 (by decide) (by decide) (by decide) rfl ?_
    refine v_iload_n (i := 1) dX6_two_147 rfl rfl ?_
    refine v_iload_n (i := 2) dX6_two_148 rfl rfl ?_
    refine v_icmp_ne (tgt := 156) dX6_two_149 rfl (fun c149 => ?_) (fun c149 => ?_)
    · refine v_iconst (v := nI 0) dX6_two_156 k_iconst_0 ?_
      exact v_iret rfl dX6_two_157 ⟨by simp_all [wkI, opc, nI_0] <;> rfl, rfl⟩
    · refine v_iconst (v := nI 1) dX6_two_152 k_iconst_1 ?_
      refine v_goto (tgt := 157) dX6_two_153 rfl ?_
      exact v_iret rfl dX6_two_157 ⟨by simp_all [wkI, opc, nI_0] <;> rfl, rfl⟩
  · refine v_tableOut (tgt := 172) dX6_two_1 (by decide) rfl ?_
    refine v_iload_n (i := 1) dX6_two_172 rfl rfl ?_
    refine v_if_ne (tgt := 180) dX6_two_173 rfl (fun c173 => ?_) (fun c173 => ?_)
    · refine v_iconst (v := nI 1) dX6_two_180 k_iconst_1 ?_
      refine v_goto (tgt := 185) dX6_two_181 rfl ?_
      exact v_iret rfl dX6_two_185 ⟨by simp_all [wkI, opc, nI_0] <;> rfl, rfl⟩
    · refine v_iload_n (i := 2) dX6_two_176 rfl rfl ?_
      refine v_if_eq (tgt := 184) dX6_two_177 rfl (fun c177 => ?_) (fun c177 => ?_)
      · refine v_iconst (v := nI 0) dX6_two_184 k_iconst_0 ?_
        exact v_iret rfl dX6_two_185 ⟨by simp_all [wkI, opc, nI_0] <;> rfl, rfl⟩
      · refine v_iconst (v := nI 1) dX6_two_180 k_iconst_1 ?_
        refine v_goto (tgt := 185) dX6_two_181 rfl ?_
        exact v_iret rfl dX6_two_185 ⟨by simp_all [wkI, opc, nI_0] <;> rfl, rfl⟩
theorem cJ_chkR {G : Gl} {η : AH} {i n r : Nat} (hi : i < n) (hn : n < 2147483648) : Ct G yJ4_checkIndex cJ4_checkIndex 3 (some .int) 0 (0) (0) [.int (nI i), .int (nI n), .ref r] η (re (some (.int (nI i))) η) := by
  refine Ct.start rfl rfl (Nat.le_of_ble_eq_true rfl) (fun Γ => ?_)
  refine v_iload_n (i := 0) dJ4_checkIndex_0 rfl rfl ?_
  refine vn_if_lt (tgt := 9) dJ4_checkIndex_1 rfl (by omega) ?_
  refine v_iload_n (i := 0) dJ4_checkIndex_4 rfl rfl ?_
  refine v_iload_n (i := 1) dJ4_checkIndex_5 rfl rfl ?_
  refine vn_icmp_lt (tgt := 16) dJ4_checkIndex_6 rfl (by omega) (by omega) (fun c6 => ?_) (fun c6 => ?_)
  · refine v_iload_n (i := 0) dJ4_checkIndex_16 rfl rfl ?_
    exact v_iret rfl dJ4_checkIndex_17 ⟨rfl, rfl⟩
  · exact absurd hi (by omega)
theorem cJ_chkS {G : Gl} {η : AH} {i n : Nat} (hi : i < n) (hn : n < 2147483648) : Ct G yJ8_checkIndex cJ8_checkIndex 2 none 1 (0) (0) [.int (nI i), .int (nI n)] η (re none η) := by
  refine Ct.start rfl rfl (Nat.le_of_ble_eq_true rfl) (fun Γ => ?_)
  refine v_iload_n (i := 0) dJ8_checkIndex_0 rfl rfl ?_
  refine v_iload_n (i := 1) dJ8_checkIndex_1 rfl rfl ?_
  refine v_getq (by decide) q476 rfl dJ8_checkIndex_2 ?_ (fun r => ?_)
  · refine v_callS (cJ_chk hi hn) (lw_S q478 q403 q127 q404) iJ4_checkIndex rfl rfl (by decide) (by decide) (Nat.le_of_ble_eq_true rfl) (Nat.le_refl _) (Nat.le_refl _) dJ8_checkIndex_5 (kr_ei ?_) kx_e
    refine v_pop dJ8_checkIndex_8 rfl ?_
    exact v_vret rfl dJ8_checkIndex_9 ⟨rfl, rfl⟩
  · refine v_callS (cJ_chkR (r := r) hi hn) (lw_S q478 q403 q127 q404) iJ4_checkIndex rfl rfl (by decide) (by decide) (Nat.le_of_ble_eq_true rfl) (Nat.le_refl _) (Nat.le_refl _) dJ8_checkIndex_5 (kr_ei ?_) kx_e
    refine v_pop dJ8_checkIndex_8 rfl ?_
    exact v_vret rfl dJ8_checkIndex_9 ⟨rfl, rfl⟩
/-- a StringBuilder of chars below 128 -/
def SBq (η : AH) (o : Option Nat) (q : Nat) (cs : List Nat) (cap : Nat) : Prop := ∃ ad σ e f, GO scJ19 η o q ad σ ∧ gN σ 0 = e + 1 ∧ gN σ 1 = 0 ∧ gN σ 3 = cs.length ∧ cs.length ≤ cap ∧ cap ≤ 20000 ∧ η e = some (o, aB cap f) ∧ (∀ i, i < cs.length → f i = nI (cs.getD i 0)) ∧ (∀ c ∈ cs, c < 128) ∧ ∀ i, fits .byte (.int (f i)) = true
theorem SBq.rcv {η : AH} {o : Option Nat} {q cap : Nat} {cs : List Nat} (h : SBq η o q cs cap) : ∃ z : Option Nat × (Nat → Value), η q = some (z.1, ob 17 z.2) := by
  obtain ⟨ad, σ, e, f, h1, -⟩ := h
  exact h1.rcv
theorem SBq.at_ {η : AH} {o : Option Nat} {q cap : Nat} {cs : List Nat} (h : SBq η o q cs cap) {i : Nat} (hi : i < cs.length) : cs.getD i 0 < 128 := by
  obtain ⟨ad, σ, e, f, -, -, -, -, -, -, -, -, h8, -⟩ := h
  rw [List.getD_eq_getElem?_getD, List.getElem?_eq_getElem hi]
  exact h8 _ (List.getElem_mem _)
theorem SBq.kp {lo hi : Nat} {η η' : AH} {o : Option Nat} {q cap : Nat} {cs : List Nat} (h : SBq η o q cs cap) (hk : Kp lo hi η η') (ho : ∀ w, o = some w → w < lo ∨ hi ≤ w) : SBq η' o q cs cap := by
  obtain ⟨ad, σ, e, f, h1, h2, h3, h4, h5, h6, h7, h8⟩ := h
  exact ⟨ad, σ, e, f, h1.kp hk ho, h2, h3, h4, h5, h6, hk.cel h7 ho, h8⟩
theorem SBq.rt {η : AH} {t : Nat} {g : Nat → Option Nat} {q cap : Nat} {cs : List Nat} (h : SBq η (some t) q cs cap) : SBq (rtg g η) (g t) q cs cap := by
  obtain ⟨ad, σ, e, f, h1, h2, h3, h4, h5, h6, h7, h8⟩ := h
  exact ⟨ad, σ, e, f, h1.rt, h2, h3, h4, h5, h6, rtg_s h7, h8⟩
theorem i2c_128 {c : Nat} (h : c < 128) : ((nI c).toUInt32 % 65536).toInt32 = nI c := (by decide +kernel : ∀ c, c < 128 → ((nI c).toUInt32 % 65536).toInt32 = nI c) c h
theorem nwC {c : Nat} (h : c < 128) : narrow .char (.int (nI c)) = .int (nI c) := (by decide +kernel : ∀ c, c < 128 → narrow .char (.int (nI c)) = .int (nI c)) c h
theorem c128 {c : Nat} (h : c < 128) : nI c &&& 255 = nI c := by
  have h2 : nI c &&& nI 255 = nI (c &&& 255) := nI_and c 255
  have h3 : c &&& 255 = c := by rw [show 255 = 2 ^ 8 - 1 from rfl, Nat.and_two_pow_sub_one_eq_mod]; omega
  rw [h3] at h2
  exact h2
theorem cJ_sbAt {G : Gl} {η : AH} {o : Option Nat} {q cap : Nat} {cs : List Nat} (h : SBq η o q cs cap) {i : Nat} (hi : i < cs.length) : Ct G yJ18_charAt cJ18_charAt 5 (some .char) 2 (0) (0) [.ref q, .int (nI i)] η (re (some (.int (nI (cs.getD i 0)))) η) := by
  refine Ct.start rfl rfl (Nat.le_of_ble_eq_true rfl) (fun Γ => ?_)
  obtain ⟨ad, σ, e, f, h, s0, s1, s3, hl, hc, he, hf, hcs, -⟩ := h
  have hcc : cs.getD i 0 < 128 := by
    rw [List.getD_eq_getElem?_getD, List.getElem?_eq_getElem hi]
    exact hcs _ (List.getElem_mem _)
  refine v_aload_n (i := 0) dJ18_charAt_0 rfl rfl ?_
  refine go_get0 h KJ19 1 (by decide) rfl (0) s1 q1475 dJ18_charAt_1 ?_
  refine v_istore_n (i := 2) dJ18_charAt_4 rfl (by decide) rfl ?_
  refine v_aload_n (i := 0) dJ18_charAt_5 rfl rfl ?_
  refine go_get3 h KJ19 0 (by decide) rfl (e) s0 q1474 dJ18_charAt_6 ?_
  refine v_astore_n (i := 3) dJ18_charAt_9 rfl (by decide) rfl ?_
  refine v_aload_n (i := 0) dJ18_charAt_10 rfl rfl ?_
  refine go_get0 h KJ19 3 (by decide) rfl (cs.length) s3 q1477 dJ18_charAt_11 ?_
  refine v_aload_n (i := 3) dJ18_charAt_14 rfl rfl ?_
  refine v_alen he (by decide) dJ18_charAt_15 ?_
  refine v_iload_n (i := 2) dJ18_charAt_16 rfl rfl ?_
  refine vn_ishr (by omega) (by omega) dJ18_charAt_17 ?_
  refine v_mmin q470 (nI_minv (by omega) (by omega)) (by decide) (Nat.le_of_ble_eq_true rfl) dJ18_charAt_18 ?_
  refine v_top (x' := nI cs.length) (by rw [show cap / 2 ^ 0 = cap from Nat.div_one _]; by_cases z : cap < cs.length; omega; rw [if_neg z]) ?_
  refine v_istore (i := 4) dJ18_charAt_21 (by decide) rfl ?_
  refine v_iload_n (i := 1) dJ18_charAt_23 rfl rfl ?_
  refine v_iload (i := 4) dJ18_charAt_24 rfl ?_
  refine v_callS (cJ_chkS hi (by omega)) (lw_S q473 q474 q131 q475) iJ8_checkIndex rfl rfl (by decide) (by decide) (Nat.le_of_ble_eq_true rfl) (Nat.le_refl _) (Nat.le_refl _) dJ18_charAt_26 (kr_ev ?_) kx_e
  refine v_iload_n (i := 2) dJ18_charAt_29 rfl rfl ?_
  refine vn_if_ne (tgt := 42) dJ18_charAt_30 rfl (by decide) (fun c30 => ?_) (fun c30 => ?_)
  · exact absurd rfl c30
  · refine v_aload_n (i := 3) dJ18_charAt_33 rfl rfl ?_
    refine v_iload_n (i := 1) dJ18_charAt_34 rfl rfl ?_
    refine v_bald he (vp_in_nI (by omega) (by omega)) dJ18_charAt_35 ?_
    rw [nI_clamp (by omega), hf i hi]
    refine v_sipush (v := nI 255) dJ18_charAt_36 k_sipush_255 ?_
    refine v_iand dJ18_charAt_39 ?_
    refine v_top (x' := nI (cs.getD i 0)) (c128 hcc) ?_
    refine v_i2c dJ18_charAt_40 rfl ?_
    refine v_top (x' := nI (cs.getD i 0)) (i2c_128 hcc) ?_
    exact v_zret rfl (nwC hcc) dJ18_charAt_41 ⟨rfl, rfl⟩
theorem cJ_SBat {G : Gl} {η : AH} {o : Option Nat} {q cap : Nat} {cs : List Nat} (h : SBq η o q cs cap) {i : Nat} (hi : i < cs.length) : Ct G yJ19_charAt cJ19_charAt 2 (some .char) 3 (0) (0) [.ref q, .int (nI i)] η (re (some (.int (nI (cs.getD i 0)))) η) := by
  refine Ct.start rfl rfl (Nat.le_of_ble_eq_true rfl) (fun Γ => ?_)
  refine v_aload_n (i := 0) dJ19_charAt_0 rfl rfl ?_
  refine v_iload_n (i := 1) dJ19_charAt_1 rfl rfl ?_
  refine v_callSU (n := 1) (cJ_sbAt h hi) (lw_SU q466 q2569 q467 q468 q152 q469) ⟨by decide, by decide +kernel⟩ KJ19 h.rcv rfl rfl (by decide) (by decide) (Nat.le_of_ble_eq_true rfl) (Nat.le_refl _) (Nat.le_refl _) dJ19_charAt_2 (kr_ei ?_) kx_e
  exact v_zret rfl (nwC (h.at_ hi)) dJ19_charAt_5 ⟨rfl, rfl⟩
