/-! a bin stays sound -/
set_option maxRecDepth 100000
theorem BinOk.pass {m : Int32} {v : Nat → Int32} (hm0 : 0 ≤ m.toInt) (hm1 : m.toInt ≤ 20000) (h : BinOk v) : BinOk (b_pass m v) := by
  obtain ⟨⟨a1, a2, a3, a4⟩, ⟨a5, a6⟩, ⟨a7, a8⟩, h0, h1, hc⟩ := id h
  have go : ∀ x : Int32, 0 ≤ x.toInt → x.toInt ≤ 10000 → v 3 ≠ 0 → BinOk (upd v 6 x) := fun x g1 g2 g3 => ⟨⟨a1, a2, a3, a4⟩, ⟨a5, a6⟩, ⟨g1, g2⟩, fun q => absurd q g3, h1, hc⟩
  unfold b_pass
  by_cases q0 : v 3 = 0
  · rw [if_pos q0]; exact h
  · rw [if_neg q0]
    obtain ⟨hp, hd, hm2, hm3⟩ := bmo h q0
    by_cases q1 : b_moist v ≤ 150
    · rw [if_pos q1]
      by_cases q2 : b_sp v
      · rw [if_pos q2]; exact h
      · rw [if_neg q2]
        by_cases q3 : (v 6).toInt64 - m.toInt64 * 20 < 0
        · rw [if_pos q3]; exact go _ (by decide) (by decide) q0
        · rw [if_neg q3]
          have h9 : ¬ ((v 6).toInt64 - m.toInt64 * 20).toInt < 0 := fun q => q3 (i64_lt.mpr q)
          have e2 : (m.toInt64 * 20).toInt = m.toInt * 20 := by
            have c20 : ((20 : Int64)).toInt = 20 := rfl
            rw [i64_mul (by rw [i3264, c20]; omega) (by rw [i3264, c20]; omega), i3264, c20]
          have e3 : ((v 6).toInt64 - m.toInt64 * 20).toInt = (v 6).toInt - m.toInt * 20 := by
            rw [i64_sub (by rw [e2, i3264]; omega) (by rw [e2, i3264]; omega), e2, i3264]
          exact go _ (by rw [i6432 (by omega) (by omega)]; omega) (by rw [i6432 (by omega) (by omega)]; omega) q0
    · rw [if_neg q1]
      by_cases q3 : (v 6).toInt64 + m.toInt64 * (b_moist v - 150).toInt64 < 10000
      · rw [if_pos q3]
        have h151 : ¬ (b_moist v).toInt ≤ (150 : Int) := fun q => q1 (i32_le.mpr q)
        have es : (b_moist v - 150).toInt = (b_moist v).toInt - 150 := i32_sub (y := 150) (by show _ ≤ _ - (150 : Int); omega) (by show _ - (150 : Int) < _; omega)
        have hpr : 0 ≤ m.toInt * ((b_moist v).toInt - 150) ∧ m.toInt * ((b_moist v).toInt - 150) ≤ 20000 * 250 := ⟨Int.mul_nonneg hm0 (by omega), Int.mul_le_mul hm1 (by omega) (by omega) (by omega)⟩
        have e2 : (m.toInt64 * (b_moist v - 150).toInt64).toInt = m.toInt * ((b_moist v).toInt - 150) := by rw [i64_mul (by rw [i3264, i3264, es]; omega) (by rw [i3264, i3264, es]; omega), i3264, i3264, es]
        have e64 : ((v 6).toInt64 + m.toInt64 * (b_moist v - 150).toInt64).toInt = (v 6).toInt + m.toInt * ((b_moist v).toInt - 150) := by
          rw [i64_add (by rw [e2, i3264]; omega) (by rw [e2, i3264]; omega), e2, i3264]
        have h9 : ((v 6).toInt64 + m.toInt64 * (b_moist v - 150).toInt64).toInt < 10000 := i64_lt.mp q3
        exact go _ (by rw [i6432 (by omega) (by omega)]; omega) (by rw [i6432 (by omega) (by omega)]; omega) q0
      · rw [if_neg q3]; exact go _ (by decide) (by decide) q0
theorem share_int {a p u : Int} (ha : 0 < a) (hu0 : 0 ≤ u) (hu : u ≤ a) (hp0 : 0 ≤ p) (hp : p ≤ 400 * a) : 0 ≤ p * u / a ∧ p * u / a ≤ p ∧ p * u / a ≤ 400 * u ∧ p - p * u / a ≤ 400 * (a - u) := by
  have h1 : a * (p * u / a) ≤ p * u := Int.mul_ediv_self_le (by omega)
  have h2 : p * u < a * (p * u / a) + a := by
    have := Int.lt_mul_ediv_self_add (x := p * u) ha
    exact this
  have hq0 : 0 ≤ p * u / a := Int.ediv_nonneg (Int.mul_nonneg hp0 hu0) (by omega)
  have h3 : p * u ≤ p * a := Int.mul_le_mul_of_nonneg_left hu hp0
  have h4 : p * u ≤ 400 * a * u := Int.mul_le_mul_of_nonneg_right hp hu0
  have h5 : p * (a - u) ≤ 400 * a * (a - u) := Int.mul_le_mul_of_nonneg_right hp (by omega)
  generalize p * u / a = q at h1 h2 hq0 ⊢
  refine ⟨hq0, ?_, ?_, ?_⟩
  · apply Int.le_of_mul_le_mul_left (a := a) _ ha
    rw [Int.mul_comm p a] at h3; omega
  · apply Int.le_of_mul_le_mul_left (a := a) _ ha
    have e : a * (400 * u) = 400 * a * u := by rw [← Int.mul_assoc, Int.mul_comm a 400]
    omega
  · apply Classical.byContradiction
    intro hn
    have h6 : 400 * (a - u) + 1 ≤ p - q := by omega
    have h7 : a * (400 * (a - u) + 1) ≤ a * (p - q) := Int.mul_le_mul_of_nonneg_left h6 (by omega)
    have e8 : a * (p - q) = a * p - a * q := Int.mul_sub _ _ _
    have e9 : a * (400 * (a - u) + 1) = 400 * (a * (a - u)) + a := by rw [Int.mul_add, Int.mul_one, Int.mul_left_comm]
    have e10 : p * (a - u) = a * p - p * u := by rw [Int.mul_sub, Int.mul_comm p a]
    have e11 : 400 * a * (a - u) = 400 * (a * (a - u)) := Int.mul_assoc _ _ _
    rw [e8, e9] at h7
    rw [e10, e11] at h5
    generalize a * (a - u) = X at h5 h7
    omega
theorem share_v {v : Nat → Int32} (h : BinOk v) {u : Int32} (hu0 : 1 ≤ u.toInt) (hu : u.toInt ≤ (v 3).toInt) : (b_share v u).toInt = (if u = v 3 then (v 4).toInt else (v 4).toInt * u.toInt / (v 3).toInt) ∧ 0 ≤ (b_share v u).toInt ∧ (b_share v u).toInt ≤ (v 4).toInt ∧ (b_share v u).toInt ≤ 400 * u.toInt ∧ (v 4).toInt - (b_share v u).toInt ≤ 400 * ((v 3).toInt - u.toInt) := by
  obtain ⟨⟨a1, a2, a3, a4⟩, ⟨a5, a6⟩, -⟩ := id h
  unfold b_share
  by_cases q : u = v 3
  · rw [if_pos q, if_pos q]
    have := i32_eq.mp q
    refine ⟨rfl, a5, by omega, by omega, by omega⟩
  · rw [if_neg q, if_neg q]
    obtain ⟨s1, s2, s3, s4⟩ := share_int (a := (v 3).toInt) (p := (v 4).toInt) (u := u.toInt) (by omega) (by omega) hu a5 a6
    have hb : (v 4).toInt * u.toInt ≤ 8000000 * 20000 := Int.mul_le_mul (by omega) (by omega) (by omega) (by omega)
    have hb0 : 0 ≤ (v 4).toInt * u.toInt := Int.mul_nonneg a5 (by omega)
    have e1 : ((v 4).toInt64 * u.toInt64).toInt = (v 4).toInt * u.toInt := by rw [i64_mul (by rw [i3264, i3264]; omega) (by rw [i3264, i3264]; omega), i3264, i3264]
    have e2 : ((v 4).toInt64 * u.toInt64 / (v 3).toInt64).toInt = (v 4).toInt * u.toInt / (v 3).toInt := by rw [i64_div (by rw [e1]; exact hb0) (by rw [i3264]; omega), e1, i3264]
    have e3 : ((v 4).toInt64 * u.toInt64 / (v 3).toInt64).toInt32.toInt = (v 4).toInt * u.toInt / (v 3).toInt := by rw [i6432 (by rw [e2]; omega) (by rw [e2]; omega), e2]
    rw [e3]
    exact ⟨rfl, s1, s2, s3, s4⟩
theorem take_v {v : Nat → Int32} (h : BinOk v) {u : Int32} (hu0 : 1 ≤ u.toInt) (hu : u.toInt ≤ (v 3).toInt) : BinOk (b_take v u) ∧ (b_take v u 3).toInt = (v 3).toInt - u.toInt ∧ b_take v u 0 = v 0 := by
  obtain ⟨⟨a1, a2, a3, a4⟩, ⟨a5, a6⟩, ⟨a7, a8⟩, h0, h1, hc⟩ := id h
  obtain ⟨-, s1, s2, s3, s4⟩ := share_v h hu0 hu
  have e3 : (v 3 - u).toInt = (v 3).toInt - u.toInt := i32_sub (by omega) (by omega)
  have e4 : (v 4 - b_share v u).toInt = (v 4).toInt - (b_share v u).toInt := i32_sub (by omega) (by omega)
  have hcc : v 7 - (v 8 + u) = v 3 - u := by rw [← hc]; grind
  have hne : v 3 ≠ 0 := fun q => by have := i32_eq.mp q; rw [show ((0 : Int32)).toInt = 0 from rfl] at this; omega
  unfold b_take b_emp
  by_cases q : v 3 - u = 0
  · rw [if_pos (show upd (upd (upd v 3 (v 3 - u)) 4 (v 4 - b_share v u)) 8 (v 8 + u) 3 = 0 from q)]
    have q' := i32_eq.mp q
    rw [e3, show ((0 : Int32)).toInt = 0 from rfl] at q'
    refine ⟨⟨⟨?_, ?_, a3, a4⟩, ⟨show 0 ≤ ((0 : Int32)).toInt by decide, ?_⟩, ⟨show 0 ≤ ((0 : Int32)).toInt by decide, show ((0 : Int32)).toInt ≤ 10000 by decide⟩, fun _ => ⟨rfl, rfl⟩, fun q2 => absurd q q2, hcc⟩, e3, rfl⟩
    · show 0 ≤ (v 3 - u).toInt; omega
    · show (v 3 - u).toInt ≤ (v 0).toInt; omega
    · show ((0 : Int32)).toInt ≤ 400 * (v 3 - u).toInt; rw [e3, show ((0 : Int32)).toInt = 0 from rfl]; omega
  · rw [if_neg (show ¬ upd (upd (upd v 3 (v 3 - u)) 4 (v 4 - b_share v u)) 8 (v 8 + u) 3 = 0 from q)]
    refine ⟨⟨⟨?_, ?_, a3, a4⟩, ⟨?_, ?_⟩, ⟨a7, a8⟩, fun q2 => absurd q2 q, fun _ => h1 hne, hcc⟩, e3, rfl⟩
    · show 0 ≤ (v 3 - u).toInt; omega
    · show (v 3 - u).toInt ≤ (v 0).toInt; omega
    · show 0 ≤ (v 4 - b_share v u).toInt; omega
    · show (v 4 - b_share v u).toInt ≤ 400 * (v 3 - u).toInt; omega
theorem put_v {v : Nat → Int32} (h : BinOk v) {u pts kind : Int32} (hu0 : 1 ≤ u.toInt) (hu : (v 3).toInt + u.toInt ≤ (v 0).toInt) (hp0 : 0 ≤ pts.toInt) (hp : pts.toInt ≤ 400 * u.toInt) (hk : 0 ≤ kind.toInt ∧ kind.toInt ≤ 3) : BinOk (b_put v u pts kind) ∧ (b_put v u pts kind 3).toInt = (v 3).toInt + u.toInt ∧ b_put v u pts kind 0 = v 0 := by
  obtain ⟨⟨a1, a2, a3, a4⟩, ⟨a5, a6⟩, ⟨a7, a8⟩, h0, h1, hc⟩ := id h
  have e3 : (v 3 + u).toInt = (v 3).toInt + u.toInt := i32_add (by omega) (by omega)
  have e4 : (v 4 + pts).toInt = (v 4).toInt + pts.toInt := i32_add (by omega) (by omega)
  have hcc : (v 7 + u) - v 8 = v 3 + u := by rw [← hc]; grind
  have hne : v 3 + u ≠ 0 := fun q => by have := i32_eq.mp q; rw [e3, show ((0 : Int32)).toInt = 0 from rfl] at this; omega
  refine ⟨⟨⟨?_, ?_, a3, a4⟩, ⟨?_, ?_⟩, ⟨a7, a8⟩, fun q2 => absurd q2 hne, fun _ => hk, hcc⟩, e3, rfl⟩
  · show 0 ≤ (v 3 + u).toInt; omega
  · show (v 3 + u).toInt ≤ (v 0).toInt; omega
  · show 0 ≤ (v 4 + pts).toInt; omega
  · show (v 4 + pts).toInt ≤ 400 * (v 3 + u).toInt; omega
theorem dry_v {v : Nat → Int32} (h : BinOk v) (hne : v 3 ≠ 0) : BinOk (b_dry v) ∧ (b_dry v 3).toInt = (v 3).toInt - (b_lost v).toInt ∧ b_dry v 0 = v 0 ∧ b_dry v 3 ≠ 0 ∧ 0 ≤ (b_lost v).toInt ∧ (b_lost v).toInt ≤ (v 3).toInt := by
  obtain ⟨⟨a1, a2, a3, a4⟩, ⟨a5, a6⟩, ⟨a7, a8⟩, h0, h1, hc⟩ := id h
  have hp : 0 < (v 3).toInt := by
    have : (v 3).toInt ≠ 0 := fun q => hne (i32_eq.mpr q)
    omega
  have e1 : (v 3 - 1).toInt = (v 3).toInt - 1 := i32_sub (y := 1) (by show _ ≤ _ - (1 : Int); omega) (by show _ - (1 : Int) < _; omega)
  have e2 : (v 4 / 20).toInt = (v 4).toInt / 20 := i32_div (y := 20) a5 (by decide)
  have e3 : (v 4 / 20 / 1000).toInt = (v 4).toInt / 20 / 1000 := by rw [i32_div (y := 1000) (by rw [e2]; omega) (by decide), e2]; rfl
  have el : (b_lost v).toInt = (if v 3 - 1 < v 4 / 20 / 1000 then (v 3).toInt - 1 else (v 4).toInt / 20 / 1000) := by
    unfold b_lost; split
    · exact e1
    · exact e3
  have hl : 0 ≤ (b_lost v).toInt ∧ (b_lost v).toInt ≤ (v 3).toInt - 1 ∧ (b_lost v).toInt ≤ (v 4).toInt / 20 / 1000 := by
    rw [el]
    split
    · rename_i q; have q' := i32_lt.mp q; rw [e1, e3] at q'; omega
    · rename_i q; have q' : ¬ (v 3).toInt - 1 < (v 4).toInt / 20 / 1000 := fun z => q (i32_lt.mpr (by rw [e1, e3]; exact z)); omega
  have f3 : (v 3 - b_lost v).toInt = (v 3).toInt - (b_lost v).toInt := i32_sub (by omega) (by omega)
  have f4 : (v 4 - v 4 / 20).toInt = (v 4).toInt - (v 4).toInt / 20 := by rw [i32_sub (by rw [e2]; omega) (by rw [e2]; omega), e2]
  have hcc : v 7 - (v 8 + b_lost v) = v 3 - b_lost v := by rw [← hc]; grind
  have hn2 : v 3 - b_lost v ≠ 0 := fun q => by have := i32_eq.mp q; rw [f3, show ((0 : Int32)).toInt = 0 from rfl] at this; omega
  refine ⟨⟨⟨?_, ?_, a3, a4⟩, ⟨?_, ?_⟩, ⟨a7, a8⟩, fun q2 => absurd q2 hn2, fun _ => h1 hne, hcc⟩, f3, rfl, hn2, hl.1, by omega⟩
  · show 0 ≤ (v 3 - b_lost v).toInt; omega
  · show (v 3 - b_lost v).toInt ≤ (v 0).toInt; omega
  · show 0 ≤ (v 4 - v 4 / 20).toInt; omega
  · show (v 4 - v 4 / 20).toInt ≤ 400 * (v 3 - b_lost v).toInt; omega
