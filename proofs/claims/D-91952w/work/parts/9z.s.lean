set_option maxRecDepth 100000
def kzX11 : Nat → Nat := fun k => match k with
  | 0 => 0
  | 1 => 0
  | 2 => 0
  | _ => 0
theorem bornX11 {η : AH} {t q : Nat} {ad : Nat → Nat} : GO (13, 3, kzX11, lnX11) (up η q (some t, ob 13 (fun k => defaultValue (tyX11 k)))) (some t) q ad (zS kdX11) := GO.born (fun k hk => match k, hk with
  | 0, _ => ⟨by decide, rfl⟩
  | 1, _ => ⟨by decide, rfl⟩
  | 2, _ => ⟨by decide, rfl⟩
  | k + 3, h => absurd h (by omega))
def kzX12 : Nat → Nat := fun k => match k with
  | 0 => 3
  | 1 => 2
  | _ => 0
theorem bornX12 {η : AH} {t q : Nat} {ad : Nat → Nat} : GO (14, 2, kzX12, lnX12) (up η q (some t, ob 14 (fun k => defaultValue (tyX12 k)))) (some t) q ad (zS kdX12) := GO.born (fun k hk => match k, hk with
  | 0, _ => ⟨by decide, rfl⟩
  | 1, _ => ⟨by decide, rfl⟩
  | k + 2, h => absurd h (by omega))
def kzX13 : Nat → Nat := fun k => match k with
  | 0 => 0
  | _ => 0
theorem bornX13 {η : AH} {t q : Nat} {ad : Nat → Nat} : GO (15, 1, kzX13, lnX13) (up η q (some t, ob 15 (fun k => defaultValue (tyX13 k)))) (some t) q ad (zS kdX13) := GO.born (fun k hk => match k, hk with
  | 0, _ => ⟨by decide, rfl⟩
  | k + 1, h => absurd h (by omega))
def kzX14 : Nat → Nat := fun k => match k with
  | 0 => 0
  | _ => 0
theorem bornX14 {η : AH} {t q : Nat} {ad : Nat → Nat} : GO (16, 1, kzX14, lnX14) (up η q (some t, ob 16 (fun k => defaultValue (tyX14 k)))) (some t) q ad (zS kdX14) := GO.born (fun k hk => match k, hk with
  | 0, _ => ⟨by decide, rfl⟩
  | k + 1, h => absurd h (by omega))
def kzX15 : Nat → Nat := fun k => match k with
  | 0 => 0
  | _ => 0
theorem bornX15 {η : AH} {t q : Nat} {ad : Nat → Nat} : GO (18, 1, kzX15, lnX15) (up η q (some t, ob 18 (fun k => defaultValue (tyX15 k)))) (some t) q ad (zS kdX15) := GO.born (fun k hk => match k, hk with
  | 0, _ => ⟨by decide, rfl⟩
  | k + 1, h => absurd h (by omega))
def kzX16 : Nat → Nat := fun k => match k with
  | 0 => 3
  | _ => 0
theorem bornX16 {η : AH} {t q : Nat} {ad : Nat → Nat} : GO (19, 1, kzX16, lnX16) (up η q (some t, ob 19 (fun k => defaultValue (tyX16 k)))) (some t) q ad (zS kdX16) := GO.born (fun k hk => match k, hk with
  | 0, _ => ⟨by decide, rfl⟩
  | k + 1, h => absurd h (by omega))
def kzX6 : Nat → Nat := fun k => match k with
  | 0 => 3
  | 1 => 3
  | _ => 0
theorem bornX6 {η : AH} {t q : Nat} {ad : Nat → Nat} : GO (7, 2, kzX6, lnX6) (up η q (some t, ob 7 (fun k => defaultValue (tyX6 k)))) (some t) q ad (zS kdX6) := GO.born (fun k hk => match k, hk with
  | 0, _ => ⟨by decide, rfl⟩
  | 1, _ => ⟨by decide, rfl⟩
  | k + 2, h => absurd h (by omega))
def kzX2 : Nat → Nat := fun k => match k with
  | 0 => 0
  | 1 => 0
  | 2 => 1
  | 3 => 0
  | 4 => 3
  | 5 => 3
  | 6 => 3
  | 7 => 3
  | 8 => 3
  | 9 => 3
  | 10 => 3
  | _ => 0
theorem bornX2 {η : AH} {t q : Nat} {ad : Nat → Nat} : GO (1, 11, kzX2, lnX2) (up η q (some t, ob 1 (fun k => defaultValue (tyX2 k)))) (some t) q ad (zS kdX2) := GO.born (fun k hk => match k, hk with
  | 0, _ => ⟨by decide, rfl⟩
  | 1, _ => ⟨by decide, rfl⟩
  | 2, _ => ⟨by decide, rfl⟩
  | 3, _ => ⟨by decide, rfl⟩
  | 4, _ => ⟨by decide, rfl⟩
  | 5, _ => ⟨by decide, rfl⟩
  | 6, _ => ⟨by decide, rfl⟩
  | 7, _ => ⟨by decide, rfl⟩
  | 8, _ => ⟨by decide, rfl⟩
  | 9, _ => ⟨by decide, rfl⟩
  | 10, _ => ⟨by decide, rfl⟩
  | k + 11, h => absurd h (by omega))
def kzX9 : Nat → Nat := fun k => match k with
  | 0 => 0
  | 1 => 3
  | 2 => 0
  | 3 => 0
  | 4 => 0
  | 5 => 0
  | 6 => 0
  | 7 => 3
  | _ => 0
theorem bornX9 {η : AH} {t q : Nat} {ad : Nat → Nat} : GO (11, 8, kzX9, lnX9) (up η q (some t, ob 11 (fun k => defaultValue (tyX9 k)))) (some t) q ad (zS kdX9) := GO.born (fun k hk => match k, hk with
  | 0, _ => ⟨by decide, rfl⟩
  | 1, _ => ⟨by decide, rfl⟩
  | 2, _ => ⟨by decide, rfl⟩
  | 3, _ => ⟨by decide, rfl⟩
  | 4, _ => ⟨by decide, rfl⟩
  | 5, _ => ⟨by decide, rfl⟩
  | 6, _ => ⟨by decide, rfl⟩
  | 7, _ => ⟨by decide, rfl⟩
  | k + 8, h => absurd h (by omega))
def kzX4 : Nat → Nat := fun k => match k with
  | 0 => 3
  | 1 => 0
  | 2 => 0
  | 3 => 0
  | 4 => 0
  | _ => 0
theorem bornX4 {η : AH} {t q : Nat} {ad : Nat → Nat} : GO (4, 5, kzX4, lnX4) (up η q (some t, ob 4 (fun k => defaultValue (tyX4 k)))) (some t) q ad (zS kdX4) := GO.born (fun k hk => match k, hk with
  | 0, _ => ⟨by decide, rfl⟩
  | 1, _ => ⟨by decide, rfl⟩
  | 2, _ => ⟨by decide, rfl⟩
  | 3, _ => ⟨by decide, rfl⟩
  | 4, _ => ⟨by decide, rfl⟩
  | k + 5, h => absurd h (by omega))
def kzJ2 : Nat → Nat := fun k => match k with
  | 0 => 2
  | 1 => 3
  | 2 => 0
  | _ => 0
theorem bornJ2 {η : AH} {t q : Nat} {ad : Nat → Nat} : GO (2, 3, kzJ2, lnJ2) (up η q (some t, ob 2 (fun k => defaultValue (tyJ2 k)))) (some t) q ad (zS kdJ2) := GO.born (fun k hk => match k, hk with
  | 0, _ => ⟨by decide, rfl⟩
  | 1, _ => ⟨by decide, rfl⟩
  | 2, _ => ⟨by decide, rfl⟩
  | k + 3, h => absurd h (by omega))
def kzJ19 : Nat → Nat := fun k => match k with
  | 0 => 3
  | 1 => 0
  | 2 => 0
  | 3 => 0
  | _ => 0
theorem bornJ19 {η : AH} {t q : Nat} {ad : Nat → Nat} : GO (17, 4, kzJ19, lnJ19) (up η q (some t, ob 17 (fun k => defaultValue (tyJ19 k)))) (some t) q ad (zS kdJ19) := GO.born (fun k hk => match k, hk with
  | 0, _ => ⟨by decide, rfl⟩
  | 1, _ => ⟨by decide, rfl⟩
  | 2, _ => ⟨by decide, rfl⟩
  | 3, _ => ⟨by decide, rfl⟩
  | k + 4, h => absurd h (by omega))
theorem cE_exinit {G : Gl} {η0 : AH} {l : Nat} : Ct G yX5_init cX5_init 1 none 1 0 0 [.ref l] η0 (re none η0) := by
  refine Ct.start rfl rfl (Nat.le_of_ble_eq_true rfl) (fun Γ => ?_)
  refine v_aload_n (i := 0) dX5_init_0 rfl rfl ?_
  refine v_objI q1415 (by decide) (Nat.le_of_ble_eq_true rfl) dX5_init_1 ?_
  exact v_vret rfl dX5_init_4 ⟨rfl, rfl⟩
theorem cC_num {G : Gl} {η0 : AH} {t q : Nat} {n : Nat} {ad : Nat → Nat} {σ : MS} (h : GO scX13 η0 (some t) q ad σ) : Ct G yX13_init cX13_init 2 none 2 0 0 [.ref q, .int (nI n)] η0 (rv fun η => GO scX13 η (some t) q ad (sN σ 0 n) ∧ Kp t (t + 1) η0 η) := by
  refine Ct.start rfl rfl (Nat.le_of_ble_eq_true rfl) (fun Γ => ?_)
  have h0 : Kp t (t + 1) η0 η0 := Kp.rf
  refine v_aload_n (i := 0) dX13_init_0 rfl rfl ?_
  refine v_callIN (cE_exinit) (lw_meth q1414) q133 q1412 q1413 rfl iX5_init rfl rfl (by decide) (by decide) (Nat.le_of_ble_eq_true rfl) (Nat.le_refl _) (Nat.le_refl _) dX13_init_1 (kr_ev ?_) kx_e
  refine v_aload_n (i := 0) dX13_init_4 rfl rfl ?_
  refine v_iload_n (i := 1) dX13_init_5 rfl rfl ?_
  refine go_put0F h KX13 0 (by decide) rfl q1416 rfl rfl rfl rfl rfl dX13_init_6 (fun η h hk => ?_)
  have h0 := h0.th hk (by omega) (by omega)
  exact v_vret rfl dX13_init_9 ⟨rfl, h, h0⟩
theorem cC_mem {G : Gl} {η0 : AH} {t q : Nat} {n : Nat} {ad : Nat → Nat} {σ : MS} (h : GO scX14 η0 (some t) q ad σ) : Ct G yX14_init cX14_init 2 none 2 0 0 [.ref q, .int (nI n)] η0 (rv fun η => GO scX14 η (some t) q ad (sN σ 0 n) ∧ Kp t (t + 1) η0 η) := by
  refine Ct.start rfl rfl (Nat.le_of_ble_eq_true rfl) (fun Γ => ?_)
  have h0 : Kp t (t + 1) η0 η0 := Kp.rf
  refine v_aload_n (i := 0) dX14_init_0 rfl rfl ?_
  refine v_callIN (cE_exinit) (lw_meth q1414) q133 q1425 q1413 rfl iX5_init rfl rfl (by decide) (by decide) (Nat.le_of_ble_eq_true rfl) (Nat.le_refl _) (Nat.le_refl _) dX14_init_1 (kr_ev ?_) kx_e
  refine v_aload_n (i := 0) dX14_init_4 rfl rfl ?_
  refine v_iload_n (i := 1) dX14_init_5 rfl rfl ?_
  refine go_put0F h KX14 0 (by decide) rfl q1426 rfl rfl rfl rfl rfl dX14_init_6 (fun η h hk => ?_)
  have h0 := h0.th hk (by omega) (by omega)
  exact v_vret rfl dX14_init_9 ⟨rfl, h, h0⟩
theorem cC_word {G : Gl} {η0 : AH} {t q : Nat} {n : Nat} {ad : Nat → Nat} {σ : MS} (h : GO scX15 η0 (some t) q ad σ) : Ct G yX15_init cX15_init 2 none 2 0 0 [.ref q, .int (nI n)] η0 (rv fun η => GO scX15 η (some t) q ad (sN σ 0 n) ∧ Kp t (t + 1) η0 η) := by
  refine Ct.start rfl rfl (Nat.le_of_ble_eq_true rfl) (fun Γ => ?_)
  have h0 : Kp t (t + 1) η0 η0 := Kp.rf
  refine v_aload_n (i := 0) dX15_init_0 rfl rfl ?_
  refine v_callIN (cE_exinit) (lw_meth q1414) q133 q1666 q1413 rfl iX5_init rfl rfl (by decide) (by decide) (Nat.le_of_ble_eq_true rfl) (Nat.le_refl _) (Nat.le_refl _) dX15_init_1 (kr_ev ?_) kx_e
  refine v_aload_n (i := 0) dX15_init_4 rfl rfl ?_
  refine v_iload_n (i := 1) dX15_init_5 rfl rfl ?_
  refine go_put0F h KX15 0 (by decide) rfl q1667 rfl rfl rfl rfl rfl dX15_init_6 (fun η h hk => ?_)
  have h0 := h0.th hk (by omega) (by omega)
  exact v_vret rfl dX15_init_9 ⟨rfl, h, h0⟩
theorem cC_no {G : Gl} {η0 : AH} {t q : Nat} {e : Nat} {ad : Nat → Nat} {σ : MS} (h : GO scX16 η0 (some t) q ad σ) : Ct G yX16_init cX16_init 2 none 2 0 0 [.ref q, .ref e] η0 (rv fun η => GO scX16 η (some t) q ad (sN σ 0 (e + 1)) ∧ Kp t (t + 1) η0 η) := by
  refine Ct.start rfl rfl (Nat.le_of_ble_eq_true rfl) (fun Γ => ?_)
  have h0 : Kp t (t + 1) η0 η0 := Kp.rf
  refine v_aload_n (i := 0) dX16_init_0 rfl rfl ?_
  refine v_callIN (cE_exinit) (lw_meth q1414) q133 q1714 q1413 rfl iX5_init rfl rfl (by decide) (by decide) (Nat.le_of_ble_eq_true rfl) (Nat.le_refl _) (Nat.le_refl _) dX16_init_1 (kr_ev ?_) kx_e
  refine v_aload_n (i := 0) dX16_init_4 rfl rfl ?_
  refine v_aload_n (i := 1) dX16_init_5 rfl rfl ?_
  refine go_put3F h KX16 0 (by decide) rfl q1715 rfl rfl rfl rfl rfl dX16_init_6 (fun η h hk => ?_)
  have h0 := h0.th hk (by omega) (by omega)
  exact v_vret rfl dX16_init_9 ⟨rfl, h, h0⟩
theorem cC_boat {G : Gl} {η0 : AH} {t q : Nat} {x y z : Nat} {ad : Nat → Nat} {σ : MS} (h : GO scX11 η0 (some t) q ad σ) : Ct G yX11_init cX11_init 4 none 1 0 0 [.ref q, .int (nI x), .int (nI y), .int (nI z)] η0 (rv fun η => GO scX11 η (some t) q ad (sN (sN (sN σ 0 x) 1 y) 2 z) ∧ Kp t (t + 1) η0 η) := by
  refine Ct.start rfl rfl (Nat.le_of_ble_eq_true rfl) (fun Γ => ?_)
  have h0 : Kp t (t + 1) η0 η0 := Kp.rf
  refine v_aload_n (i := 0) dX11_init_0 rfl rfl ?_
  refine v_objI q1343 (by decide) (Nat.le_of_ble_eq_true rfl) dX11_init_1 ?_
  refine v_aload_n (i := 0) dX11_init_4 rfl rfl ?_
  refine v_iload_n (i := 1) dX11_init_5 rfl rfl ?_
  refine go_put0F h KX11 0 (by decide) rfl q1344 rfl rfl rfl rfl rfl dX11_init_6 (fun η h hk => ?_)
  have h0 := h0.th hk (by omega) (by omega)
  refine v_aload_n (i := 0) dX11_init_9 rfl rfl ?_
  refine v_iload_n (i := 2) dX11_init_10 rfl rfl ?_
  refine go_put0F h KX11 1 (by decide) rfl q1347 rfl rfl rfl rfl rfl dX11_init_11 (fun η h hk => ?_)
  have h0 := h0.th hk (by omega) (by omega)
  refine v_aload_n (i := 0) dX11_init_14 rfl rfl ?_
  refine v_iload_n (i := 3) dX11_init_15 rfl rfl ?_
  refine go_put0F h KX11 2 (by decide) rfl q1350 rfl rfl rfl rfl rfl dX11_init_16 (fun η h hk => ?_)
  have h0 := h0.th hk (by omega) (by omega)
  exact v_vret rfl dX11_init_19 ⟨rfl, h, h0⟩
theorem cC_law {G : Gl} {η0 : AH} {t q : Nat} {e : Nat} {ad : Nat → Nat} {σ : MS} (h : GO scX12 η0 (some t) q ad σ) : Ct G yX12_init cX12_init 2 none 1 0 0 [.ref q, .ref e] η0 (rv fun η => GO scX12 η (some t) q ad (sN (sI σ 1 (-3)) 0 (e + 1)) ∧ Kp t (t + 1) η0 η) := by
  refine Ct.start rfl rfl (Nat.le_of_ble_eq_true rfl) (fun Γ => ?_)
  have h0 : Kp t (t + 1) η0 η0 := Kp.rf
  refine v_aload_n (i := 0) dX12_init_0 rfl rfl ?_
  refine v_objI q1724 (by decide) (Nat.le_of_ble_eq_true rfl) dX12_init_1 ?_
  refine v_aload_n (i := 0) dX12_init_4 rfl rfl ?_
  refine v_bipush (v := -3) dX12_init_5 k_bipush_m3 ?_
  refine go_put2 h KX12 1 (by decide) rfl q1726 rfl rfl rfl dX12_init_7 (fun η h hk => ?_)
  have h0 := h0.th hk (by omega) (by omega)
  refine v_aload_n (i := 0) dX12_init_10 rfl rfl ?_
  refine v_aload_n (i := 1) dX12_init_11 rfl rfl ?_
  refine go_put3F h KX12 0 (by decide) rfl q1725 rfl rfl rfl rfl rfl dX12_init_12 (fun η h hk => ?_)
  have h0 := h0.th hk (by omega) (by omega)
  exact v_vret rfl dX12_init_15 ⟨rfl, h, h0⟩
theorem cC_asked {G : Gl} {η0 : AH} {t q : Nat} {e : Nat} {ad : Nat → Nat} {σ : MS} (h : GO scX4 η0 (some t) q ad σ) : Ct G yX4_init cX4_init 2 none 1 0 0 [.ref q, .ref e] η0 (rv fun η => GO scX4 η (some t) q ad (sN σ 0 (e + 1)) ∧ Kp t (t + 1) η0 η) := by
  refine Ct.start rfl rfl (Nat.le_of_ble_eq_true rfl) (fun Γ => ?_)
  have h0 : Kp t (t + 1) η0 η0 := Kp.rf
  refine v_aload_n (i := 0) dX4_init_0 rfl rfl ?_
  refine v_objI q357 (by decide) (Nat.le_of_ble_eq_true rfl) dX4_init_1 ?_
  refine v_aload_n (i := 0) dX4_init_4 rfl rfl ?_
  refine v_aload_n (i := 1) dX4_init_5 rfl rfl ?_
  refine go_put3F h KX4 0 (by decide) rfl q358 rfl rfl rfl rfl rfl dX4_init_6 (fun η h hk => ?_)
  have h0 := h0.th hk (by omega) (by omega)
  exact v_vret rfl dX4_init_9 ⟨rfl, h, h0⟩
