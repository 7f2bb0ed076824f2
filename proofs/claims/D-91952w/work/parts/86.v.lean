section VOB
variable {G : Gl} {Γ : Fx} {mt : MethodName} {cc : ByteArray} {nL : Nat} {ret : Option FieldType} {tb : List ExceptionTableEntry} {d : Nat} {P : Rs → AH → Prop} {kc ks : Nat} {η : AH} {pc : Nat} {lv : List (Option Value)} {rest : List Value}
/-- only the fields that a class has count -/
theorem v_obj {a ci N : Nat} {ow : Nat} {C : String} {T : _} {ty : _} {F F2 : Nat → Value} (K : Cl ci C T N ty) (hη : η a = some (some ow, ob ci F)) (hF : ∀ k, k < N → F2 k = F k) (kk : V G Γ mt cc nL ret tb d P kc ks (up η a (some ow, ob ci F2)) pc lv rest) : V G Γ mt cc nL ret tb d P kc ks η pc lv rest := fun Q H locs ls cells slots a1 a2 a3 a4 a5 => by
  refine kk Q H locs ls cells slots ?_ a2 a3 a4 a5
  intro b ob' e' hb
  by_cases hq : b = a
  · subst hq
    rw [up_s] at hb
    cases hb
    obtain ⟨hA, r, h1, cell, q1, q2, q3, q4⟩ := (a1 b _ _ hη).1 (by simp)
    have hr : r = (C, T, N) := Option.some.inj (h1.symm.trans K.1)
    subst hr
    have hca : ca G.2.1 b (ob ci F2) _ := ⟨_, h1, cell, q1, q2, q3, fun k hk => by
      have := q4 k hk
      show cell.slots[_]? = some (F2 k)
      rw [hF k hk]
      exact this⟩
    exact ⟨fun _ => ⟨hA, hca⟩, hca.weak⟩
  · rw [up_n hq] at hb
    exact a1 b _ _ hb
end VOB
