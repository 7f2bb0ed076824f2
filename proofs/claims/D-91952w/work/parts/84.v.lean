/-! ===== an object as it is built ===== -/
section VOWN
variable {G : Gl} {Γ : Fx} {mt : MethodName} {cc : ByteArray} {nL : Nat} {ret : Option FieldType} {tb : List ExceptionTableEntry} {d : Nat} {P : Rs → AH → Prop} {kc ks : Nat} {η : AH} {pc : Nat} {lv : List (Option Value)} {rest : List Value}
/-- a cell's owner may be named anew -/
theorem v_own {q o1 o2 : Nat} {c : _} (hη : η q = some (some o1, c)) (kk : V G Γ mt cc nL ret tb d P kc ks (up η q (some o2, c)) pc lv rest) : V G Γ mt cc nL ret tb d P kc ks η pc lv rest := fun Q H locs ls cells slots a1 a2 a3 a4 a5 => by
  refine kk Q H locs ls cells slots ?_ a2 a3 a4 a5
  intro b ob' e' hb
  by_cases hq : b = q
  · subst hq
    rw [up_s] at hb
    cases hb
    exact ⟨fun _ => (a1 b _ _ hη).1 (by simp), (a1 b _ _ hη).2⟩
  · rw [up_n hq] at hb
    exact a1 b _ _ hb
end VOWN
