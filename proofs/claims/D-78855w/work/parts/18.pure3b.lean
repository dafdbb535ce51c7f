/-! what a zero answer of the reference's tests says -/
set_option maxRecDepth 100000
theorem truck_ne {amt moist : Int32} (h : q_truck amt moist) : ¬ amt = 0 := fun e => by
  have := h.1.1
  rw [e] at this
  exact absurd this (by decide)
theorem in1_ne {amt hi : Int32} (h : 1 ≤ amt ∧ amt ≤ hi) : ¬ amt = 0 := fun e => by
  have := h.1
  rw [e] at this
  exact absurd this (by decide)
theorem cR0 {r : Nat → Int32} {l b kind amt moist : Int32} (h : (p_cannotReceive r l b kind amt moist).1 = 0) :
    q_leg r l ∧ q_bin r b ∧ (0 ≤ kind ∧ kind ≤ 3) ∧ q_truck amt moist ∧ (p_cannotReceive r l b kind amt moist).2 = r ∧ p_against r l.toNatClampNeg (-1) b.toNatClampNeg kind amt moist ≤ 0 ∧ r 0 + p_min amt (r (82 + 4 * l.toNatClampNeg + 0)) ≤ 1000000 := by
  unfold p_cannotReceive at h ⊢
  by_cases h1 : q_leg r l
  · rw [if_pos h1] at h ⊢
    by_cases h2 : q_bin r b
    · rw [if_pos h2] at h ⊢
      by_cases h3 : 0 ≤ kind ∧ kind ≤ 3
      · rw [if_pos h3] at h ⊢
        by_cases h4 : q_truck amt moist
        · rw [if_pos h4] at h ⊢
          by_cases h5 : p_against r l.toNatClampNeg (-1) b.toNatClampNeg kind amt moist ≤ 0
          · rw [if_pos h5] at h ⊢
            by_cases h6 : r 0 + p_min amt (r (82 + 4 * l.toNatClampNeg + 0)) ≤ 1000000
            · rw [if_pos h6] at h ⊢
              exact ⟨h1, h2, h3, h4, rfl, h5, h6⟩
            · rw [if_neg h6] at h
              exact absurd h (show ¬ ((-5 : Int32) = 0) by decide)
          · rw [if_neg h5] at h
            exact absurd h (show ¬ ((-4 : Int32) = 0) by decide)
        · rw [if_neg h4] at h
          exact absurd h (show ¬ ((-3 : Int32) = 0) by decide)
      · rw [if_neg h3] at h
        exact absurd h (show ¬ ((-2 : Int32) = 0) by decide)
    · rw [if_neg h2] at h
      exact absurd h (show ¬ ((-2 : Int32) = 0) by decide)
  · rw [if_neg h1] at h
    exact absurd h (show ¬ ((-2 : Int32) = 0) by decide)
theorem nM0 {r : Nat → Int32} {l f t amt : Int32} (h : p_isNoMove r l f t amt = 0) : q_leg r l ∧ q_bin r f ∧ q_bin r t ∧ ¬ f = t ∧ (1 ≤ amt ∧ amt ≤ 20000) := by
  unfold p_isNoMove at h
  by_cases h1 : q_leg r l
  · rw [if_pos h1] at h
    by_cases h2 : q_bin r f
    · rw [if_pos h2] at h
      by_cases h3 : q_bin r t
      · rw [if_pos h3] at h
        by_cases h4 : f = t
        · rw [if_pos h4] at h
          exact absurd h (by decide)
        · rw [if_neg h4] at h
          by_cases h5 : 1 ≤ amt ∧ amt ≤ 20000
          · exact ⟨h1, h2, h3, h4, h5⟩
          · rw [if_neg h5] at h
            exact absurd h (by decide)
      · rw [if_neg h3] at h
        exact absurd h (by decide)
    · rw [if_neg h2] at h
      exact absurd h (by decide)
  · rw [if_neg h1] at h
    exact absurd h (by decide)
theorem cM0 {r : Nat → Int32} {l f t amt : Int32} (h : (p_cannotMove r l f t amt).1 = 0) :
    p_isNoMove r l f t amt = 0 ∧ (p_cannotMove r l f t amt).2 = r ∧ p_whyNotMove r l.toNatClampNeg f.toNatClampNeg t.toNatClampNeg amt ≤ 0 ∧ r 0 + p_min amt (r (82 + 4 * l.toNatClampNeg + 0)) ≤ 1000000 := by
  unfold p_cannotMove at h ⊢
  by_cases h1 : p_isNoMove r l f t amt = 0
  · rw [if_pos h1] at h ⊢
    by_cases h5 : p_whyNotMove r l.toNatClampNeg f.toNatClampNeg t.toNatClampNeg amt ≤ 0
    · rw [if_pos h5] at h ⊢
      by_cases h6 : r 0 + p_min amt (r (82 + 4 * l.toNatClampNeg + 0)) ≤ 1000000
      · rw [if_pos h6] at h ⊢
        exact ⟨h1, rfl, h5, h6⟩
      · rw [if_neg h6] at h
        exact absurd h (show ¬ ((-5 : Int32) = 0) by decide)
    · rw [if_neg h5] at h
      exact absurd h (show ¬ ((-4 : Int32) = 0) by decide)
  · rw [if_neg h1] at h
    exact absurd h h1
theorem cC0 {r : Nat → Int32} {l m : Int32} (h : p_cannotClean r l m = 0) : q_leg r l ∧ (1 ≤ m ∧ m ≤ 1000) ∧ r 0 + m ≤ 1000000 := by
  unfold p_cannotClean at h
  by_cases h1 : q_leg r l
  · rw [if_pos h1] at h
    by_cases h2 : 1 ≤ m ∧ m ≤ 1000
    · rw [if_pos h2] at h
      by_cases h3 : r 0 + m ≤ 1000000
      · exact ⟨h1, h2, h3⟩
      · rw [if_neg h3] at h
        exact absurd h (by decide)
    · rw [if_neg h2] at h
      exact absurd h (by decide)
  · rw [if_neg h1] at h
    exact absurd h (by decide)
theorem cD0 {r : Nat → Int32} {b st : Int32} (h : p_cannotDry r b st = 0) : q_bin r b ∧ (1 ≤ st ∧ st ≤ 200) ∧ ¬ r (10 + 9 * b.toNatClampNeg + 3) = 0 ∧ r 0 + 10 * st ≤ 1000000 := by
  unfold p_cannotDry at h
  by_cases h1 : q_bin r b
  · rw [if_pos h1] at h
    by_cases h2 : 1 ≤ st ∧ st ≤ 200
    · rw [if_pos h2] at h
      by_cases h4 : r (10 + 9 * b.toNatClampNeg + 3) = 0
      · rw [if_pos h4] at h
        exact absurd h (by decide)
      · rw [if_neg h4] at h
        by_cases h3 : r 0 + 10 * st ≤ 1000000
        · exact ⟨h1, h2, h4, h3⟩
        · rw [if_neg h3] at h
          exact absurd h (by decide)
    · rw [if_neg h2] at h
      exact absurd h (by decide)
  · rw [if_neg h1] at h
    exact absurd h (by decide)
/-- a number between 1 and hi is nI of itself -/
theorem in1_c {x hi : Int32} {n : Nat} (e : hi = nI n) (hn : n < 2 ^ 31) (h : 1 ≤ x ∧ x ≤ hi) : x = nI x.toNatClampNeg ∧ x.toNatClampNeg ≤ n ∧ 1 ≤ x.toNatClampNeg := by
  have h0 : 0 ≤ x := Int32.le_trans (by decide) h.1
  obtain ⟨e1, h1⟩ := in_c e hn ⟨h0, h.2⟩
  refine ⟨e1, h1, ?_⟩
  have h2 := h.1
  rw [e1, show (1 : Int32) = nI 1 from rfl, nI_leI (by decide) (by omega)] at h2
  exact h2
theorem ne0_l {x : Int32} (h : ¬ x = 0) : ¬ x.toInt64 = 0 := fun e => h (by
  have : x.toInt64.toInt32 = (0 : Int64).toInt32 := by rw [e]
  simpa using this)
theorem pos_ne {x y : Int32} (h1 : 1 ≤ x) (h : x ≤ y) : ¬ y = 0 := fun e => by
  rw [e] at h
  exact absurd (Int32.le_trans h1 h) (by decide)
