set_option maxRecDepth 100000
section VNW
variable {G : Gl} {Γ : Fx} {mt : MethodName} {cc : ByteArray} {nL : Nat} {ret : Option FieldType} {tb : List ExceptionTableEntry} {d : Nat} {P : Rs → AH → Prop} {kc ks : Nat} {η : AH} {pc : Nat} {lv : List (Option Value)} {rest : List Value} {index : Nat}
theorem v_nw (t : Nat) {ci N : Nat} {C : String} {T : u_T} {ty : Nat → FieldType} (K : Cl ci C T N ty) {n : Nat} (hcl : Cond.classLink mt.cls index C ∈ lw_all) (hinst : Cond.instantiable C n ∈ lw_all) (hini : Cond.initialized C ∈ lw_all) (h1 : 1 ≤ kc) (h2 : n ≤ ks) (hdg : decode cc pc = .ok (.new index, 3))
    (kk : ∀ q η', η q = none → η' = up η q (some t, ob ci (fun k => defaultValue (ty k))) → Kp t (t + 1) η η' → V G Γ mt cc nL ret tb d P (kc - 1) (ks - n) η' (pc + 3) lv (.ref q :: rest)) : V G Γ mt cc nL ret tb d P kc ks η pc lv rest :=
  v_newT t K hcl hinst hini (kc' := kc - 1) (ks' := ks - n) (by omega) (by omega) hdg (fun q hq => kk q _ hq rfl (Kp.nw hq))
end VNW
/-- laws that are left out, as bits -/
def ouN (w : Nat) : Nat := if w = 0 then 0 else 2 ^ (w - 1)
theorem ouN_kp (w v : Nat) : ndf v (ouN w) = kp w v := by
  unfold ouN kp
  by_cases c : w = 0
  · rw [if_pos c, if_pos c]
    unfold ndf
    rw [Nat.and_zero, Nat.xor_zero]
  · rw [if_neg c, if_neg c]
def inB (z : Int32) (n : Nat) : Nat := if 0 ≤ z.toInt ∧ z.toInt < n then 1 else 0
theorem inB_n {b n : Nat} (h : b < n) (hn : n < 2147483648) : inB (nI b) n = 1 := by
  unfold inB
  rw [nI_toInt (by omega), if_pos (by omega)]
theorem inB_lt (z : Int32) (n : Nat) : inB z n < 2 := by unfold inB; split <;> decide
theorem inB_1 {z : Int32} {n : Nat} (h : ¬ inB z n = 0) (hn : n < 2147483648) : z.toInt.toNat < n ∧ z = nI z.toInt.toNat := by
  unfold inB at h
  by_cases c : 0 ≤ z.toInt ∧ z.toInt < n
  · refine ⟨by omega, ?_⟩
    rw [i_eq, nI_toInt (by omega)]
    omega
  · rw [if_neg c] at h
    exact absurd rfl h
theorem oI_le {z : Int32} {n : Nat} (hn : n < 2147483648) : z ≤ nI n - nI 1 ↔ z.toInt < n := by
  rw [nI_sub1, i_le, oI_toInt (by omega)]
  omega
theorem in_eq {z : Int32} {n : Nat} (hn : n < 2147483648) : (if nI 0 ≤ z ∧ z ≤ nI n - nI 1 then nI 1 else nI 0) = nI (inB z n) := by
  have h0 : nI 0 ≤ z ↔ 0 ≤ z.toInt := by rw [i_le, nI_toInt (by decide)]; rfl
  unfold inB
  by_cases c : 0 ≤ z.toInt ∧ z.toInt < n
  · rw [if_pos c, if_pos ⟨h0.mpr c.1, (oI_le hn).mpr c.2⟩]
  · rw [if_neg c, if_neg (fun q => c ⟨h0.mp q.1, (oI_le hn).mp q.2⟩)]
/-- a value that a run may set: 0: as it is told -/
def Ovr (f : Nat → Nat) (n : Nat) (g : Nat → Nat) : Prop := (n = 0 ∧ ∀ b, g b = f b) ∨ ∃ k, k < 1000 ∧ n = k + 1 ∧ ∀ b, g b = va_up f 0 k b
theorem Ovr.lt {f g : Nat → Nat} {n B : Nat} (h : Ovr f n g) (hf : ∀ b, b < B → f b ≤ 999) (b : Nat) (hb : b < B) : g b ≤ 999 := by
  rcases h with ⟨-, h⟩ | ⟨k, hk, -, h⟩
  · rw [h]; exact hf b hb
  · rw [h]
    by_cases c : b = 0
    · rw [c, va_up_e]; omega
    · rw [va_up_n c]; exact hf b hb
/-- the judge j of the tag t, its place q of the tag t + 1: holds hd, loads ld, without the law wo (0: with all); what it told latest -/
def Jd (η : AH) (t j q w : Nat) (τ : Td) (hd ld : Nat → Nat) (wo lw : Nat) : Prop := ∃ (ad : Nat → Nat) (σ : MS), GO scX17 η (some t) j ad σ ∧ gN σ 0 = w + 1 ∧ gN σ 7 = q + 1 ∧ Ovr (tA τ 41) (gN σ 1) hd ∧ Ovr (tA τ 42) (gN σ 2) ld ∧ gN σ 3 = ouN wo ∧ gN σ 4 = (if bsT τ wo (stT τ) 0 0 0 = 0 then 1 else 0) ∧ gN σ 5 = bsT τ wo (stT τ) 0 0 0 ∧ gN σ 6 = cdT τ (stT τ) ∧ gN σ 8 = lw
theorem Jd.kp {lo hi : Nat} {η η' : AH} {t j q w : Nat} {τ : Td} {hd ld : Nat → Nat} {wo lw : Nat} (h : Jd η t j q w τ hd ld wo lw) (hk : Kp lo hi η η') (ho : t < lo ∨ hi ≤ t) : Jd η' t j q w τ hd ld wo lw := by
  obtain ⟨ad, σ, h1, h2⟩ := h
  exact ⟨ad, σ, h1.kpS hk ho, h2⟩
theorem Jd.rcv {η : AH} {t j q w : Nat} {τ : Td} {hd ld : Nat → Nat} {wo lw : Nat} (h : Jd η t j q w τ hd ld wo lw) : ∃ z : Option Nat × (Nat → Value), η j = some (z.1, ob 21 z.2) := by
  obtain ⟨ad, σ, h1, -⟩ := h
  exact h1.rcv
/-- what bars a crossing ahead of all laws -/
def plN (τ : Td) (hd ld : Nat → Nat) (x : Nat) (bz tz : Int32) (s : Nat) : Nat := if inB bz (tN τ 31) = 0 ∨ inB tz (tN τ 29) = 0 then 1 else brN (tN τ 29) (tN τ 30) (tN τ 33) (tA τ 38) (tA τ 39) hd ld (flT τ) x bz.toInt.toNat tz.toInt.toNat s
abbrev jgN (τ : Td) (hd ld : Nat → Nat) (wo x : Nat) (bz tz : Int32) (s : Nat) : Nat × Nat := jd (bfT τ) (tN τ 29) (tN τ 30) (tN τ 31) (tN τ 33) wo (stT τ) (plN τ hd ld x bz tz s) x bz.toInt.toNat tz.toInt.toNat s
theorem cG_holds {G : Gl} {η0 : AH} {w : Nat} {τ : Td} (hW : Wd G η0 w τ) {t j q : Nat} {hd ld : Nat → Nat} {wo lw : Nat} (hJ : Jd η0 t j q w τ hd ld wo lw) {b : Nat} (hb : b < tN τ 31) : Ct G yX17_holds cX17_holds 2 (some .int) 3 (0) (0) [.ref j, .int (nI b)] η0 (re (some (.int (nI (hd b)))) η0) := by
  refine Ct.start rfl rfl (Nat.le_of_ble_eq_true rfl) (fun Γ => ?_)
  obtain ⟨ad, L, hTB, hWo, hWw, hWb, ⟨xl, cl, hWl, hWln⟩, hWr⟩ := hW
  obtain ⟨⟨wb1, wb2, wb3, wb4, wb5, wb6, wb7⟩, wb8, wb9, wb10, wb11, wb12⟩ := id hTB
  obtain ⟨xb, cb, hBl, hBn, hBo⟩ := hWb
  obtain ⟨adj, θ, hJo, j0, j7, hhd, hld, j3, j4, j5, j6, j8⟩ := hJ
  obtain ⟨qb, adb, hbq, hbo⟩ := hBo b hb
  obtain ⟨Fb, hFb⟩ := hbo.me
  have hj1 : gN θ 1 < 2147483648 := by rcases hhd with ⟨z, -⟩ | ⟨k, hk, z, -⟩ <;> omega
  refine v_iload_n (i := 1) dX17_holds_0 rfl rfl ?_
  refine vn_if_ne (tgt := 19) dX17_holds_1 rfl (by omega) (fun c1 => ?_) (fun c1 => ?_)
  · refine v_aload_n (i := 0) dX17_holds_19 rfl rfl ?_
    refine go_get3 hJo KX17 0 (by decide) rfl (w) j0 q662 dX17_holds_20 ?_
    refine go_get3N hWo KX2 8 (by decide) rfl (L 8) rfl q237 dX17_holds_23 ?_
    refine v_iload_n (i := 1) dX17_holds_26 rfl rfl ?_
    refine v_Lget hBl hbq q744 (by decide) (Nat.le_of_ble_eq_true rfl) dX17_holds_27 ?_
    refine v_castS hFb KX11 q745 dX17_holds_32 ?_
    refine go_get0N hbo KX11 0 (by decide) rfl (tA τ 41 b) rfl q1345 dX17_holds_35 ?_
    exact v_iret rfl dX17_holds_38 (by
      rcases hhd with ⟨z, z2⟩ | ⟨k, hk, z, z2⟩
      · rw [z2]; exact ⟨rfl, rfl⟩
      · rw [z2, va_up_n c1]; exact ⟨rfl, rfl⟩)
  · refine v_aload_n (i := 0) dX17_holds_4 rfl rfl ?_
    refine go_get1 hJo KX17 1 (by decide) rfl (gN θ 1) rfl q663 dX17_holds_5 ?_
    refine v_iconst (v := -1) dX17_holds_8 k_iconst_m1 ?_
    refine vo_icmp_eq (tgt := 19) dX17_holds_9 rfl (by omega) (fun c9 => ?_) (fun c9 => ?_)
    · refine v_aload_n (i := 0) dX17_holds_19 rfl rfl ?_
      refine go_get3 hJo KX17 0 (by decide) rfl (w) j0 q662 dX17_holds_20 ?_
      refine go_get3N hWo KX2 8 (by decide) rfl (L 8) rfl q237 dX17_holds_23 ?_
      refine v_iload_n (i := 1) dX17_holds_26 rfl rfl ?_
      refine v_Lget hBl hbq q744 (by decide) (Nat.le_of_ble_eq_true rfl) dX17_holds_27 ?_
      refine v_castS hFb KX11 q745 dX17_holds_32 ?_
      refine go_get0N hbo KX11 0 (by decide) rfl (tA τ 41 b) rfl q1345 dX17_holds_35 ?_
      exact v_iret rfl dX17_holds_38 (by
        rcases hhd with ⟨z, z2⟩ | ⟨k, hk, z, z2⟩
        · rw [z2]; exact ⟨rfl, rfl⟩
        · exact absurd (z.symm.trans c9) (Nat.succ_ne_zero k))
    · refine v_aload_n (i := 0) dX17_holds_12 rfl rfl ?_
      refine go_get1 hJo KX17 1 (by decide) rfl (gN θ 1) rfl q663 dX17_holds_13 ?_
      refine v_goto (tgt := 38) dX17_holds_16 rfl ?_
      exact v_iret rfl dX17_holds_38 (by
        rcases hhd with ⟨z, -⟩ | ⟨k, hk, z, z2⟩
        · exact absurd z c9
        · rw [z, z2, c1, va_up_e]; exact ⟨rfl, rfl⟩)
theorem cG_load {G : Gl} {η0 : AH} {w : Nat} {τ : Td} (hW : Wd G η0 w τ) {t j q : Nat} {hd ld : Nat → Nat} {wo lw : Nat} (hJ : Jd η0 t j q w τ hd ld wo lw) {b : Nat} (hb : b < tN τ 31) : Ct G yX17_load cX17_load 2 (some .int) 3 (0) (0) [.ref j, .int (nI b)] η0 (re (some (.int (nI (ld b)))) η0) := by
  refine Ct.start rfl rfl (Nat.le_of_ble_eq_true rfl) (fun Γ => ?_)
  obtain ⟨ad, L, hTB, hWo, hWw, hWb, ⟨xl, cl, hWl, hWln⟩, hWr⟩ := hW
  obtain ⟨⟨wb1, wb2, wb3, wb4, wb5, wb6, wb7⟩, wb8, wb9, wb10, wb11, wb12⟩ := id hTB
  obtain ⟨xb, cb, hBl, hBn, hBo⟩ := hWb
  obtain ⟨adj, θ, hJo, j0, j7, hhd, hld, j3, j4, j5, j6, j8⟩ := hJ
  obtain ⟨qb, adb, hbq, hbo⟩ := hBo b hb
  obtain ⟨Fb, hFb⟩ := hbo.me
  have hj1 : gN θ 2 < 2147483648 := by rcases hld with ⟨z, -⟩ | ⟨k, hk, z, -⟩ <;> omega
  refine v_iload_n (i := 1) dX17_load_0 rfl rfl ?_
  refine vn_if_ne (tgt := 19) dX17_load_1 rfl (by omega) (fun c1 => ?_) (fun c1 => ?_)
  · refine v_aload_n (i := 0) dX17_load_19 rfl rfl ?_
    refine go_get3 hJo KX17 0 (by decide) rfl (w) j0 q662 dX17_load_20 ?_
    refine go_get3N hWo KX2 8 (by decide) rfl (L 8) rfl q237 dX17_load_23 ?_
    refine v_iload_n (i := 1) dX17_load_26 rfl rfl ?_
    refine v_Lget hBl hbq q744 (by decide) (Nat.le_of_ble_eq_true rfl) dX17_load_27 ?_
    refine v_castS hFb KX11 q745 dX17_load_32 ?_
    refine go_get0N hbo KX11 1 (by decide) rfl (tA τ 42 b) rfl q1348 dX17_load_35 ?_
    exact v_iret rfl dX17_load_38 (by
      rcases hld with ⟨z, z2⟩ | ⟨k, hk, z, z2⟩
      · rw [z2]; exact ⟨rfl, rfl⟩
      · rw [z2, va_up_n c1]; exact ⟨rfl, rfl⟩)
  · refine v_aload_n (i := 0) dX17_load_4 rfl rfl ?_
    refine go_get1 hJo KX17 2 (by decide) rfl (gN θ 2) rfl q664 dX17_load_5 ?_
    refine v_iconst (v := -1) dX17_load_8 k_iconst_m1 ?_
    refine vo_icmp_eq (tgt := 19) dX17_load_9 rfl (by omega) (fun c9 => ?_) (fun c9 => ?_)
    · refine v_aload_n (i := 0) dX17_load_19 rfl rfl ?_
      refine go_get3 hJo KX17 0 (by decide) rfl (w) j0 q662 dX17_load_20 ?_
      refine go_get3N hWo KX2 8 (by decide) rfl (L 8) rfl q237 dX17_load_23 ?_
      refine v_iload_n (i := 1) dX17_load_26 rfl rfl ?_
      refine v_Lget hBl hbq q744 (by decide) (Nat.le_of_ble_eq_true rfl) dX17_load_27 ?_
      refine v_castS hFb KX11 q745 dX17_load_32 ?_
      refine go_get0N hbo KX11 1 (by decide) rfl (tA τ 42 b) rfl q1348 dX17_load_35 ?_
      exact v_iret rfl dX17_load_38 (by
        rcases hld with ⟨z, z2⟩ | ⟨k, hk, z, z2⟩
        · rw [z2]; exact ⟨rfl, rfl⟩
        · exact absurd (z.symm.trans c9) (Nat.succ_ne_zero k))
    · refine v_aload_n (i := 0) dX17_load_12 rfl rfl ?_
      refine go_get1 hJo KX17 2 (by decide) rfl (gN θ 2) rfl q664 dX17_load_13 ?_
      refine v_goto (tgt := 38) dX17_load_16 rfl ?_
      exact v_iret rfl dX17_load_38 (by
        rcases hld with ⟨z, -⟩ | ⟨k, hk, z, z2⟩
        · exact absurd z c9
        · rw [z, z2, c1, va_up_e]; exact ⟨rfl, rfl⟩)
theorem cG_plainly {G : Gl} {η0 : AH} {w : Nat} {τ : Td} (hW : Wd G η0 w τ) {t j q : Nat} {hd ld : Nat → Nat} {wo lw : Nat} (hJ : Jd η0 t j q w τ hd ld wo lw) {tp p x : Nat} (hP : Pl η0 tp p w τ x) (htp : tp < t ∨ t + 1 ≤ tp) (bz tz : Int32) {s : Nat} (hs : s < 4294967296) : Ct G yX17_plainly cX17_plainly 5 (some .int) 4 (0) (0) [.ref j, .ref p, .int bz, .int tz, .int (nI s)] η0 (ri fun r η => r = nI (plN τ hd ld x bz tz s) ∧ Jd η t j q w τ hd ld wo 0 ∧ Kp t (t + 1) η0 η) := by
  refine Ct.start rfl rfl (Nat.le_of_ble_eq_true rfl) (fun Γ => ?_)
  have h0 : Kp t (t + 1) η0 η0 := Kp.rf
  obtain ⟨adj, θ, hJo, j0, j7, hhd, hld, j3, j4, j5, j6, j8⟩ := hJ
  obtain ⟨ad, L, hTB, hWo, hWw, hWb, ⟨xl, cl, hWl, hWln⟩, hWr⟩ := id hW
  obtain ⟨⟨wb1, wb2, wb3, wb4, wb5, wb6, wb7⟩, wb8, wb9, wb10, wb11, wb12⟩ := id hTB
  obtain ⟨xb, cb, hBl, hBn, hBo⟩ := hWb
  obtain ⟨adp, π, hPo, p0, p3, p1, p2⟩ := id hP
  have hlc := lcT_le τ x
  refine v_aload_n (i := 0) dX17_plainly_0 rfl rfl ?_
  refine v_iconst (v := nI 0) dX17_plainly_1 k_iconst_0 ?_
  refine go_put0 hJo KX17 8 (by decide) rfl q672 rfl rfl rfl dX17_plainly_2 (fun η hJo hk => ?_)
  have h0 := h0.th hk (by omega) (by omega)
  have hW := hW.kp hk
  have hP := hP.kp hk (by omega)
  have hPo := hPo.kpS hk (by omega)
  have hWo := hWo.kpN hk
  have hBl := hBl.kpN hk
  refine v_iload_n (i := 2) dX17_plainly_5 rfl rfl ?_
  refine v_iconst (v := nI 0) dX17_plainly_6 k_iconst_0 ?_
  refine v_aload_n (i := 0) dX17_plainly_7 rfl rfl ?_
  refine go_get3 hJo KX17 0 (by decide) rfl (w) j0 q662 dX17_plainly_8 ?_
  refine go_get3N hWo KX2 8 (by decide) rfl (L 8) rfl q237 dX17_plainly_11 ?_
  refine v_Lsize hBl q732 (by decide) (Nat.le_of_ble_eq_true rfl) dX17_plainly_14 ?_
  refine v_top (x' := nI (tN τ 31)) (by rw [hBn]) ?_
  refine v_iconst (v := nI 1) dX17_plainly_19 k_iconst_1 ?_
  refine v_isub dX17_plainly_20 ?_
  refine v_callSN (cX_in bz (nI 0) (nI (tN τ 31) - nI 1)) (lw_meth q735) q119 q733 q734 iX1_in rfl rfl (by decide) (by decide) (Nat.le_of_ble_eq_true rfl) (Nat.le_refl _) (Nat.le_refl _) dX17_plainly_21 (kr_ei ?_) kx_e
  refine v_top (in_eq (by omega)) ?_
  have hi1 := inB_lt bz (tN τ 31)
  refine vn_if_eq (tgt := 61) dX17_plainly_24 rfl (by omega) (fun c24 => ?_) (fun c24 => ?_)
  · refine v_iconst (v := nI 1) dX17_plainly_61 k_iconst_1 ?_
    exact v_iret rfl dX17_plainly_62 (by
      refine ⟨_, rfl, ?_, ⟨adj, _, hJo, j0, j7, hhd, hld, j3, j4, j5, j6, rfl⟩, h0⟩
      unfold plN; rw [if_pos (Or.inl c24)])
  · obtain ⟨hb, eb⟩ := inB_1 c24 (by omega)
    refine v_iload_n (i := 3) dX17_plainly_27 rfl rfl ?_
    refine v_iconst (v := nI 0) dX17_plainly_28 k_iconst_0 ?_
    refine v_aload_n (i := 0) dX17_plainly_29 rfl rfl ?_
    refine go_get3 hJo KX17 0 (by decide) rfl (w) j0 q662 dX17_plainly_30 ?_
    refine go_get0N hWo KX2 0 (by decide) rfl (tN τ 29) rfl q210 dX17_plainly_33 ?_
    refine v_iconst (v := nI 1) dX17_plainly_36 k_iconst_1 ?_
    refine v_isub dX17_plainly_37 ?_
    refine v_callSN (cX_in tz (nI 0) (nI (tN τ 29) - nI 1)) (lw_meth q735) q119 q733 q734 iX1_in rfl rfl (by decide) (by decide) (Nat.le_of_ble_eq_true rfl) (Nat.le_refl _) (Nat.le_refl _) dX17_plainly_38 (kr_ei ?_) kx_e
    refine v_top (in_eq (by omega)) ?_
    have hi2 := inB_lt tz (tN τ 29)
    refine vn_if_eq (tgt := 61) dX17_plainly_41 rfl (by omega) (fun c41 => ?_) (fun c41 => ?_)
    · refine v_iconst (v := nI 1) dX17_plainly_61 k_iconst_1 ?_
      exact v_iret rfl dX17_plainly_62 (by
        refine ⟨_, rfl, ?_, ⟨adj, _, hJo, j0, j7, hhd, hld, j3, j4, j5, j6, rfl⟩, h0⟩
        unfold plN; rw [if_pos (Or.inr c41)])
    · obtain ⟨hto, eto⟩ := inB_1 c41 (by omega)
      have hin : ¬ (inB bz (tN τ 31) = 0 ∨ inB tz (tN τ 29) = 0) := fun z => z.elim c24 c41
      generalize hbn : bz.toInt.toNat = b at hb eb
      generalize htn : tz.toInt.toNat = to at hto eto
      subst eb eto
      have hpl : plN τ hd ld x (nI b) (nI to) s = brN (tN τ 29) (tN τ 30) (tN τ 33) (tA τ 38) (tA τ 39) hd ld (flT τ) x b to s := by unfold plN; rw [if_neg hin, hbn, htn]
      have hbl := bo_lt x b
      have hset := setN_256 x (bo x b) wb3
      have hfl : flT τ (bo x b) to < 2 := by
        have h1 := wb10 (4 * bo x b + to) (by omega)
        unfold flT
        split
        · split <;> decide
        · exact h1
      refine v_aload_n (i := 0) dX17_plainly_44 rfl rfl ?_
      refine go_get3 hJo KX17 0 (by decide) rfl (w) j0 q662 dX17_plainly_45 ?_
      refine v_aload_n (i := 1) dX17_plainly_48 rfl rfl ?_
      refine go_getAN hPo KX7 1 (by decide) (by decide) q511 dX17_plainly_49 ?_
      refine v_iload_n (i := 2) dX17_plainly_52 rfl rfl ?_
      refine go_ld10 hPo 1 (by decide) rfl (show _ < 2 from (by omega)) (by decide) _ (p1 _ (by omega)) dX17_plainly_53 ?_
      refine v_iload_n (i := 3) dX17_plainly_54 rfl rfl ?_
      refine v_callVe (cW_flows hW (a := bo x b) (b := to) hbl (by omega)) (lw_V q736 q716 q717 q120 q718) iX2_flows rfl KX2 hWo.rcv rfl rfl (by decide) (by decide) (Nat.le_of_ble_eq_true rfl) (Nat.le_refl _) (Nat.le_refl _) dX17_plainly_55 (kr_ei ?_) kx_e
      refine vn_if_ne (tgt := 63) dX17_plainly_58 rfl (by omega) (fun c58 => ?_) (fun c58 => ?_)
      · refine v_iload (i := 4) dX17_plainly_63 rfl ?_
        refine v_aload_n (i := 1) dX17_plainly_65 rfl rfl ?_
        refine go_getAN hPo KX7 2 (by decide) (by decide) q516 dX17_plainly_66 ?_
        refine v_aload_n (i := 1) dX17_plainly_69 rfl rfl ?_
        refine go_getAN hPo KX7 1 (by decide) (by decide) q511 dX17_plainly_70 ?_
        refine v_iload_n (i := 2) dX17_plainly_73 rfl rfl ?_
        refine go_ld10 hPo 1 (by decide) rfl (show _ < 2 from (by omega)) (by decide) _ (p1 _ (by omega)) dX17_plainly_74 ?_
        refine go_ld10 hPo 2 (by decide) rfl (show _ < 4 from (by omega)) (by decide) _ (p2 _ (by omega)) dX17_plainly_75 ?_
        refine v_iconst (v := -1) dX17_plainly_76 k_iconst_m1 ?_
        refine v_ixor dX17_plainly_77 ?_
        refine vn_andc dX17_plainly_78 ?_
        refine vn_if_eqW (tgt := 84) dX17_plainly_79 rfl (by exact Nat.lt_of_le_of_lt (ndf_le _ _) hs) (fun c79 => ?_) (fun c79 => ?_)
        · have hs8 : s < 2 ^ 8 := ndf_0 (show setN x (bo x b) (tN τ 30) < 2 ^ 8 from hset) c79
          have hs3 := rowN_le (tA τ 39) s (tN τ 30)
          have hpc := popc_le s
          have hsm := sumN_le (of := tA τ 38) (M := 99) s (tN τ 30) (fun i hi => (wb8 i hi).1)
          have hhb := hhd.lt (fun b hb => Nat.le_trans (wb9 b hb).2.1 (by decide)) b hb
          have hlb := hld.lt (fun b hb => (wb9 b hb).2.2.1) b hb
          refine v_aload_n (i := 0) dX17_plainly_84 rfl rfl ?_
          refine go_get3 hJo KX17 0 (by decide) rfl (w) j0 q662 dX17_plainly_85 ?_
          refine v_iload (i := 4) dX17_plainly_88 rfl ?_
          refine v_callVe (cW_rowers hW (s := s) (by omega)) (lw_V q737 q457 q458 q120 q459) iX2_rowers rfl KX2 hWo.rcv rfl rfl (by decide) (by decide) (Nat.le_of_ble_eq_true rfl) (Nat.le_refl _) (Nat.le_refl _) dX17_plainly_90 (kr_ei ?_) kx_e
          refine vn_if_ne (tgt := 98) dX17_plainly_93 rfl (by omega) (fun c93 => ?_) (fun c93 => ?_)
          · refine v_iload (i := 4) dX17_plainly_98 rfl ?_
            refine v_callS (cJ_bitCount (s := s) (by omega)) (lw_S q738 q447 q129 q448) iJ6_bitCount rfl rfl (by decide) (by decide) (Nat.le_of_ble_eq_true rfl) (Nat.le_refl _) (Nat.le_refl _) dX17_plainly_100 (kr_ei ?_) kx_e
            refine v_aload_n (i := 0) dX17_plainly_103 rfl rfl ?_
            refine v_iload_n (i := 2) dX17_plainly_104 rfl rfl ?_
            refine v_callVe (cG_holds hW (t := t) (j := j) (q := q) (hd := hd) (ld := ld) (wo := wo) (lw := 0) ⟨adj, _, hJo, j0, j7, hhd, hld, j3, j4, j5, j6, rfl⟩ hb) (lw_V q739 q741 qs6 q157 q742) iX17_holds rfl KX17 hJo.rcv rfl rfl (by decide) (by decide) (Nat.le_of_ble_eq_true rfl) (Nat.le_refl _) (Nat.le_refl _) dX17_plainly_105 (kr_ei ?_) kx_e
            refine vn_icmp_le (tgt := 113) dX17_plainly_108 rfl (by omega) (by omega) (fun c108 => ?_) (fun c108 => ?_)
            · refine v_aload_n (i := 0) dX17_plainly_113 rfl rfl ?_
              refine go_get3 hJo KX17 0 (by decide) rfl (w) j0 q662 dX17_plainly_114 ?_
              refine v_iload (i := 4) dX17_plainly_117 rfl ?_
              refine v_callVe (cW_weight hW (s := s) (by omega)) (lw_V q746 q453 q454 q120 q455) iX2_weight rfl KX2 hWo.rcv rfl rfl (by decide) (by decide) (Nat.le_of_ble_eq_true rfl) (Nat.le_refl _) (Nat.le_refl _) dX17_plainly_119 (kr_ei ?_) kx_e
              refine v_aload_n (i := 0) dX17_plainly_122 rfl rfl ?_
              refine v_iload_n (i := 2) dX17_plainly_123 rfl rfl ?_
              refine v_callVe (cG_load hW (t := t) (j := j) (q := q) (hd := hd) (ld := ld) (wo := wo) (lw := 0) ⟨adj, _, hJo, j0, j7, hhd, hld, j3, j4, j5, j6, rfl⟩ hb) (lw_V q747 q749 qs7 q157 q750) iX17_load rfl KX17 hJo.rcv rfl rfl (by decide) (by decide) (Nat.le_of_ble_eq_true rfl) (Nat.le_refl _) (Nat.le_refl _) dX17_plainly_124 (kr_ei ?_) kx_e
              refine vn_icmp_le (tgt := 132) dX17_plainly_127 rfl (by omega) (by omega) (fun c127 => ?_) (fun c127 => ?_)
              · refine v_aload_n (i := 0) dX17_plainly_132 rfl rfl ?_
                refine go_get3 hJo KX17 0 (by decide) rfl (w) j0 q662 dX17_plainly_133 ?_
                refine go_get1N hWo KX2 2 (by decide) rfl (tN τ 33) rfl q220 dX17_plainly_136 ?_
                refine v_iconst (v := -1) dX17_plainly_139 k_iconst_m1 ?_
                refine vo_icmp_eq (tgt := 159) dX17_plainly_140 rfl (by omega) (fun c140 => ?_) (fun c140 => ?_)
                · refine v_iconst (v := nI 0) dX17_plainly_159 k_iconst_0 ?_
                  exact v_iret rfl dX17_plainly_160 (by
                    refine ⟨_, rfl, ?_, ⟨adj, _, hJo, j0, j7, hhd, hld, j3, j4, j5, j6, rfl⟩, h0⟩
                    rw [hpl]
                    unfold brN
                    rw [if_neg c58, if_neg (fun z => z c79), if_neg c93, if_neg (by omega), if_neg (by omega), if_neg]
                    exact fun z => z.1 c140)
                · refine v_aload_n (i := 1) dX17_plainly_143 rfl rfl ?_
                  refine go_get1N hPo KX7 3 (by decide) rfl (lcT τ x) p3 q520 dX17_plainly_144 ?_
                  refine v_aload_n (i := 1) dX17_plainly_147 rfl rfl ?_
                  refine go_getAN hPo KX7 1 (by decide) (by decide) q511 dX17_plainly_148 ?_
                  refine v_iload_n (i := 2) dX17_plainly_151 rfl rfl ?_
                  refine go_ld10 hPo 1 (by decide) rfl (show _ < 2 from (by omega)) (by decide) _ (p1 _ (by omega)) dX17_plainly_152 ?_
                  refine von_icmp_eq (tgt := 159) dX17_plainly_153 rfl (by omega) (by omega) (fun c153 => ?_) (fun c153 => ?_)
                  · refine v_iconst (v := nI 0) dX17_plainly_159 k_iconst_0 ?_
                    exact v_iret rfl dX17_plainly_160 (by
                      refine ⟨_, rfl, ?_, ⟨adj, _, hJo, j0, j7, hhd, hld, j3, j4, j5, j6, rfl⟩, h0⟩
                      rw [hpl]
                      unfold brN
                      rw [if_neg c58, if_neg (fun z => z c79), if_neg c93, if_neg (by omega), if_neg (by omega), if_neg]
                      exact fun z => z.2 (by unfold lcT at c153; rw [if_neg c140] at c153; omega))
                  · refine v_bipush (v := nI 6) dX17_plainly_156 k_bipush_6 ?_
                    exact v_iret rfl dX17_plainly_158 (by
                      refine ⟨_, rfl, ?_, ⟨adj, _, hJo, j0, j7, hhd, hld, j3, j4, j5, j6, rfl⟩, h0⟩
                      rw [hpl]
                      unfold brN
                      rw [if_neg c58, if_neg (fun z => z c79), if_neg c93, if_neg (by omega), if_neg (by omega), if_pos]
                      exact ⟨c140, by unfold lcT at c153; rw [if_neg c140] at c153; omega⟩)
              · refine v_iconst (v := nI 5) dX17_plainly_130 k_iconst_5 ?_
                exact v_iret rfl dX17_plainly_131 (by
                  refine ⟨_, rfl, ?_, ⟨adj, _, hJo, j0, j7, hhd, hld, j3, j4, j5, j6, rfl⟩, h0⟩
                  rw [hpl]
                  unfold brN
                  rw [if_neg c58, if_neg (fun z => z c79), if_neg c93, if_neg (by omega), if_pos c127])
            · refine v_iconst (v := nI 4) dX17_plainly_111 k_iconst_4 ?_
              exact v_iret rfl dX17_plainly_112 (by
                refine ⟨_, rfl, ?_, ⟨adj, _, hJo, j0, j7, hhd, hld, j3, j4, j5, j6, rfl⟩, h0⟩
                rw [hpl]
                unfold brN
                rw [if_neg c58, if_neg (fun z => z c79), if_neg c93, if_pos c108])
          · refine v_iconst (v := nI 3) dX17_plainly_96 k_iconst_3 ?_
            exact v_iret rfl dX17_plainly_97 (by
              refine ⟨_, rfl, ?_, ⟨adj, _, hJo, j0, j7, hhd, hld, j3, j4, j5, j6, rfl⟩, h0⟩
              rw [hpl]
              unfold brN
              rw [if_neg c58, if_neg (fun z => z c79), if_pos c93])
        · refine v_iconst (v := nI 2) dX17_plainly_82 k_iconst_2 ?_
          exact v_iret rfl dX17_plainly_83 (by
            refine ⟨_, rfl, ?_, ⟨adj, _, hJo, j0, j7, hhd, hld, j3, j4, j5, j6, rfl⟩, h0⟩
            rw [hpl]
            unfold brN
            rw [if_neg c58, if_pos c79])
      · refine v_iconst (v := nI 1) dX17_plainly_61 k_iconst_1 ?_
        exact v_iret rfl dX17_plainly_62 (by
          refine ⟨_, rfl, ?_, ⟨adj, _, hJo, j0, j7, hhd, hld, j3, j4, j5, j6, rfl⟩, h0⟩
          rw [hpl]
          unfold brN
          rw [if_pos c58])
