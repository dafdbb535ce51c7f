/-! the law's start: what the tables say -/
set_option maxRecDepth 100000
section KN
variable {s : State} {args : Array Value}
theorem arr_i (h : (Cond.arrayClass .int).before args s = true) : ∃ cA, ArrOfT s cA .int ∧ va_RA s cA .int := by
  obtain ⟨c, k, comp, h1, h2, h3⟩ := Cond.arrayClass_spec h
  exact ⟨c, fun n z => ⟨fun k h => (by cases h), k, h2, comp, h3⟩, h1⟩
theorem arr_l (h : (Cond.arrayClass .long).before args s = true) : ∃ cA, ArrOfT s cA .long ∧ va_RA s cA .long := by
  obtain ⟨c, k, comp, h1, h2, h3⟩ := Cond.arrayClass_spec h
  exact ⟨c, fun n z => ⟨fun k h => (by cases h), k, h2, comp, h3⟩, h1⟩
theorem arr_z (h : (Cond.arrayClass .boolean).before args s = true) : ∃ cA, ArrOfT s cA .boolean ∧ va_RA s cA .boolean := by
  obtain ⟨c, k, comp, h1, h2, h3⟩ := Cond.arrayClass_spec h
  exact ⟨c, fun n z => ⟨fun k h => (by cases h), k, h2, comp, h3⟩, h1⟩
theorem arr_b (h : (Cond.arrayClass .byte).before args s = true) : ∃ cA, ArrOfT s cA .byte ∧ va_RA s cA .byte := by
  obtain ⟨c, k, comp, h1, h2, h3⟩ := Cond.arrayClass_spec h
  exact ⟨c, fun n z => ⟨fun k h => (by cases h), k, h2, comp, h3⟩, h1⟩
theorem arr_o {C : String} (h : (Cond.arrayOver (.object C)).before args s = true) : ∃ cA, ArrOfT s cA (.object C) ∧ va_RA s cA (.object C) := by
  obtain ⟨comp, c, k, h1, -, h2, h3, h4⟩ := Cond.arrayOver_spec h
  exact ⟨c, fun n z => ⟨fun k h => (by cases h), k, h2, comp, h3⟩, ⟨k, comp, h2, h3, h1, h4⟩⟩
theorem lam_of {i : Nat} (h : (Cond.lambdaSite yX0_init (lmP i) (lmI i) (lmS i)).before args s = true) : ∃ cK, LamOk cK (lmP i) (lmI i) (lmS i) s := by
  obtain ⟨c, one, h1⟩ := Cond.lambdaSite_spec h
  obtain ⟨m, k, cf, i0, p0, lk, a1, a2, a3, a4, -, a5, a6, a7, a8⟩ := State.lambdaAt?_spec h1
  rcases a8 with ⟨a, cell, -, -, e, -⟩ | ⟨e, -, -⟩
  · exact absurd e (by simp [lmS])
  · subst e
    exact ⟨c, m, k, cf, i0, p0, a1, a2, a3, a4, a5, a6, a7⟩
end KN
