set_option maxRecDepth 100000
theorem cR9_wantY {G : Gl} {η0 : AH} {r k : Nat} : Ct G yX9_want cX9_want 3 none 0 (0) (0) [.ref r, .int (nI 1), .int (nI k)] η0 (re none η0) := by
  refine Ct.start rfl rfl (Nat.le_of_ble_eq_true rfl) (fun Γ => ?_)
  refine v_iload_n (i := 1) dX9_want_0 rfl rfl ?_
  refine vn_if_ne (tgt := 13) dX9_want_1 rfl (by decide) (fun c1 => ?_) (fun c1 => ?_)
  · exact v_vret rfl dX9_want_13 ⟨rfl, rfl⟩
  · exact absurd c1 (by decide)
