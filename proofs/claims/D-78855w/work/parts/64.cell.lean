/-! the reference's steps as steps of one bin, one leg -/
set_option maxRecDepth 100000
theorem pb_self (r : Nat → Int32) (i : Nat) : pb r i (bv r i) = r := by
  funext j; unfold pb; split
  · rename_i h; show r (10 + 9 * i + (j - (10 + 9 * i))) = r j; rw [show 10 + 9 * i + (j - (10 + 9 * i)) = j by omega]
  · rfl
theorem pb_upd (r : Nat → Int32) (i : Nat) (v : Nat → Int32) {k : Nat} (hk : k < 9) (x : Int32) : upd (pb r i v) (10 + 9 * i + k) x = pb r i (upd v k x) := by
  funext j; simp only [pb, upd]
  by_cases h : 10 + 9 * i ≤ j ∧ j < 10 + 9 * i + 9
  · rw [if_pos h, if_pos h]
    by_cases q : j = 10 + 9 * i + k
    · rw [if_pos q, if_pos (by omega)]
    · rw [if_neg q, if_neg (by omega)]
  · rw [if_neg h, if_neg h, if_neg (by omega)]
theorem pb_at (r : Nat → Int32) (i : Nat) (v : Nat → Int32) {k : Nat} (hk : k < 9) : pb r i v (10 + 9 * i + k) = v k := (pb_in k hk).symm
theorem upd_pb (r : Nat → Int32) (i : Nat) {k : Nat} (hk : k < 9) (x : Int32) : upd r (10 + 9 * i + k) x = pb r i (upd (bv r i) k x) := by
  rw [← pb_upd r i (bv r i) hk, pb_self]
theorem pg_self (r : Nat → Int32) (i : Nat) : pg4 r i (gv r i) = r := by
  funext j; unfold pg4; split
  · rename_i h; show r (82 + 4 * i + (j - (82 + 4 * i))) = r j; rw [show 82 + 4 * i + (j - (82 + 4 * i)) = j by omega]
  · rfl
theorem pg_upd (r : Nat → Int32) (i : Nat) (v : Nat → Int32) {k : Nat} (hk : k < 4) (x : Int32) : upd (pg4 r i v) (82 + 4 * i + k) x = pg4 r i (upd v k x) := by
  funext j; simp only [pg4, upd]
  by_cases h : 82 + 4 * i ≤ j ∧ j < 82 + 4 * i + 4
  · rw [if_pos h, if_pos h]
    by_cases q : j = 82 + 4 * i + k
    · rw [if_pos q, if_pos (by omega)]
    · rw [if_neg q, if_neg (by omega)]
  · rw [if_neg h, if_neg h, if_neg (by omega)]
theorem pg_at (r : Nat → Int32) (i : Nat) (v : Nat → Int32) {k : Nat} (hk : k < 4) : pg4 r i v (82 + 4 * i + k) = v k := (pg_in k hk).symm
theorem upd_pg (r : Nat → Int32) (i : Nat) {k : Nat} (hk : k < 4) (x : Int32) : upd r (82 + 4 * i + k) x = pg4 r i (upd (gv r i) k x) := by
  rw [← pg_upd r i (gv r i) hk, pg_self]
theorem pb_pb (r : Nat → Int32) (i : Nat) (v w : Nat → Int32) : pb (pb r i v) i w = pb r i w := by
  funext j; unfold pb; split <;> rfl
theorem moist_b (r : Nat → Int32) (b : Nat) : p_moist r b = b_moist (bv r b) := rfl
theorem share_b (r : Nat → Int32) (b : Nat) (u : Int32) : p_share r b u = b_share (bv r b) u := rfl
theorem takes_b (r : Nat → Int32) (b : Nat) (u : Int32) : p_takes r b u = (b_share (bv r b) u, pb r b (b_take (bv r b) u)) := by
  unfold p_takes
  dsimp only
  rw [share_b, upd_pb r b (by decide : 3 < 9), pb_at _ _ _ (by decide : 4 < 9), pb_upd _ _ _ (by decide : 4 < 9), pb_at _ _ _ (by decide : 8 < 9), pb_upd _ _ _ (by decide : 8 < 9), pb_at _ _ _ (by decide : 3 < 9)]
  refine Prod.ext rfl ?_
  dsimp only
  have key : ∀ w : Nat → Int32, (if w 3 = 0 then p_empties (pb r b w) b else pb r b w) = pb r b (b_emp w) := by
    intro w
    unfold b_emp p_empties
    by_cases h : w 3 = 0
    · rw [if_pos h, if_pos h, pb_upd _ _ _ (by decide : 4 < 9), pb_upd _ _ _ (by decide : 5 < 9), pb_upd _ _ _ (by decide : 6 < 9)]
    · rw [if_neg h, if_neg h]
  exact key (upd (upd (upd (bv r b) 3 (bv r b 3 - u)) 4 (bv r b 4 - b_share (bv r b) u)) 8 (bv r b 8 + u))
theorem brings_b (r : Nat → Int32) (b : Nat) (kind u pts : Int32) : p_brings r b kind u pts = pb r b (b_put (bv r b) u pts kind) := by
  unfold p_brings b_put
  dsimp only
  rw [upd_pb r b (by decide : 3 < 9), pb_at _ _ _ (by decide : 4 < 9), pb_upd _ _ _ (by decide : 4 < 9), pb_upd _ _ _ (by decide : 5 < 9), pb_at _ _ _ (by decide : 7 < 9), pb_upd _ _ _ (by decide : 7 < 9)]
  rfl
theorem dusts_b (r : Nat → Int32) (l : Nat) (u pts : Int32) : p_dusts r l u pts = pg4 r l (l_lift (gv r l) u (pts / u)) := by
  unfold p_dusts l_lift
  dsimp only
  rw [upd_pg r l (by decide : 2 < 4), pg_at _ _ _ (by decide : 3 < 4), pg_upd _ _ _ (by decide : 3 < 4)]
  rfl
/-- what holds of a bin -/
def BinOk (v : Nat → Int32) : Prop := (0 ≤ (v 3).toInt ∧ (v 3).toInt ≤ (v 0).toInt ∧ 10 ≤ (v 0).toInt ∧ (v 0).toInt ≤ 20000) ∧ (0 ≤ (v 4).toInt ∧ (v 4).toInt ≤ 400 * (v 3).toInt) ∧ (0 ≤ (v 6).toInt ∧ (v 6).toInt ≤ 10000) ∧ (v 3 = 0 → v 5 = -1 ∧ v 6 = 0) ∧ (v 3 ≠ 0 → 0 ≤ (v 5).toInt ∧ (v 5).toInt ≤ 3) ∧ v 7 - v 8 = v 3
theorem bmo {v : Nat → Int32} (h : BinOk v) (h3 : v 3 ≠ 0) : 0 < (v 3).toInt ∧ (b_moist v).toInt = (v 4).toInt / (v 3).toInt ∧ 0 ≤ (b_moist v).toInt ∧ (b_moist v).toInt ≤ 400 := by
  obtain ⟨⟨a1, a2, a3, a4⟩, ⟨a5, a6⟩, -⟩ := h
  have hp : 0 < (v 3).toInt := by
    have : (v 3).toInt ≠ 0 := fun q => h3 (i32_eq.mpr q)
    omega
  have e : b_moist v = v 4 / v 3 := if_neg h3
  rw [e, i32_div a5 hp]
  refine ⟨hp, rfl, Int.ediv_nonneg a5 (by omega), ?_⟩
  have := Int.ediv_le_ediv hp a6
  rwa [Int.mul_ediv_cancel _ (by omega : (v 3).toInt ≠ 0)] at this
theorem pass_b {m : Int32} {r : Nat → Int32} {b : Nat} (hm0 : 0 ≤ m.toInt) (hm1 : m.toInt ≤ 20000) (h : BinOk (bv r b)) : p_pass1 m b r = pb r b (b_pass m (bv r b)) := by
  have h' := h
  obtain ⟨-, -, ⟨a7, a8⟩, -⟩ := h'
  have a7' : 0 ≤ (r (10 + 9 * b + 6)).toInt := a7
  have a8' : (r (10 + 9 * b + 6)).toInt ≤ 10000 := a8
  unfold p_pass1 b_pass
  by_cases h3 : bv r b 3 = 0
  · have hmo : p_moist r b = -1 := if_pos h3
    rw [if_pos h3, hmo, if_pos (by decide), if_pos rfl, pb_self]
  · rw [if_neg h3]
    obtain ⟨hp, hd, hm2, hm3⟩ := bmo h h3
    rw [moist_b]
    have e20 : (m * 20).toInt = m.toInt * 20 := i32_mul (y := 20) (by show _ ≤ m.toInt * 20; omega) (by show m.toInt * 20 < _; omega)
    have c20 : ((20 : Int64)).toInt = 20 := rfl
    by_cases h150 : b_moist (bv r b) ≤ 150
    · rw [if_pos h150, if_pos h150, if_neg (fun q => by have := i32_eq.mp q; rw [show ((-1 : Int32)).toInt = -1 from rfl] at this; omega)]
      by_cases hs : q_spoilt r b
      · rw [if_pos hs, if_pos (show b_sp (bv r b) from hs), pb_self]
      · rw [if_neg hs, if_neg (show ¬ b_sp (bv r b) from hs)]
        have e1 : (r (10 + 9 * b + 6) - m * 20).toInt = (r (10 + 9 * b + 6)).toInt - m.toInt * 20 := by rw [i32_sub (by omega) (by omega), e20]
        have e64 : ((bv r b 6).toInt64 - m.toInt64 * 20).toInt = (r (10 + 9 * b + 6)).toInt - m.toInt * 20 := by
          have e2 : (m.toInt64 * 20).toInt = m.toInt * 20 := by rw [i64_mul (by rw [i3264, c20]; omega) (by rw [i3264, c20]; omega), i3264, c20]
          rw [i64_sub (by rw [e2, i3264]; show _ ≤ (r (10 + 9 * b + 6)).toInt - _; omega) (by rw [e2, i3264]; show (r (10 + 9 * b + 6)).toInt - _ < _; omega), e2, i3264]
        by_cases hge : 0 ≤ r (10 + 9 * b + 6) - m * 20
        · rw [if_pos hge, upd_pb r b (by decide : 6 < 9)]
          have hge' := i32_le.mp hge
          rw [e1] at hge'
          have hn : ¬ (bv r b 6).toInt64 - m.toInt64 * 20 < 0 := fun q => by
            have := i64_lt.mp q; rw [e64] at this
            have h0 : ((0 : Int64)).toInt = 0 := rfl
            have h00 : ((0 : Int32)).toInt = 0 := rfl
            omega
          rw [if_neg hn]
          congr 2
          apply i32_eq.mpr
          rw [i6432 (by rw [e64]; omega) (by rw [e64]; omega), e64, e1]
        · rw [if_neg hge, upd_pb r b (by decide : 6 < 9)]
          have hge' : ¬ (0 : Int) ≤ (r (10 + 9 * b + 6)).toInt - m.toInt * 20 := fun q => hge (i32_le.mpr (by rw [e1]; exact q))
          have hn : (bv r b 6).toInt64 - m.toInt64 * 20 < 0 := i64_lt.mpr (by rw [e64]; show _ < (0 : Int); omega)
          rw [if_pos hn]
          rfl
    · rw [if_neg h150, if_neg h150]
      have h151 : 150 < (b_moist (bv r b)).toInt := by
        have h9 : ¬ (b_moist (bv r b)).toInt ≤ (150 : Int) := fun q => h150 (i32_le.mpr q)
        omega
      have es : (b_moist (bv r b) - 150).toInt = (b_moist (bv r b)).toInt - 150 := i32_sub (y := 150) (by show _ ≤ _ - (150 : Int); omega) (by show _ - (150 : Int) < _; omega)
      have hpr : 0 ≤ m.toInt * ((b_moist (bv r b)).toInt - 150) ∧ m.toInt * ((b_moist (bv r b)).toInt - 150) ≤ 20000 * 250 := ⟨Int.mul_nonneg hm0 (by omega), Int.mul_le_mul hm1 (by omega) (by omega) (by omega)⟩
      have em : (m * (b_moist (bv r b) - 150)).toInt = m.toInt * ((b_moist (bv r b)).toInt - 150) := by rw [i32_mul (by rw [es]; omega) (by rw [es]; omega), es]
      have e1 : (r (10 + 9 * b + 6) + m * (b_moist (bv r b) - 150)).toInt = (r (10 + 9 * b + 6)).toInt + m.toInt * ((b_moist (bv r b)).toInt - 150) := by rw [i32_add (by rw [em]; omega) (by rw [em]; omega), em]
      have e64 : ((bv r b 6).toInt64 + m.toInt64 * (b_moist (bv r b) - 150).toInt64).toInt = (r (10 + 9 * b + 6)).toInt + m.toInt * ((b_moist (bv r b)).toInt - 150) := by
        have e2 : (m.toInt64 * (b_moist (bv r b) - 150).toInt64).toInt = m.toInt * ((b_moist (bv r b)).toInt - 150) := by rw [i64_mul (by rw [i3264, i3264, es]; omega) (by rw [i3264, i3264, es]; omega), i3264, i3264, es]
        rw [i64_add (by rw [e2, i3264]; show _ ≤ (r (10 + 9 * b + 6)).toInt + _; omega) (by rw [e2, i3264]; show (r (10 + 9 * b + 6)).toInt + _ < _; omega), e2, i3264]
      have c1 : ((10000 : Int32)).toInt = 10000 := rfl
      have c2 : ((10000 : Int64)).toInt = 10000 := rfl
      by_cases hle : r (10 + 9 * b + 6) + m * (b_moist (bv r b) - 150) ≤ 10000
      · rw [if_pos hle, upd_pb r b (by decide : 6 < 9)]
        have hle' := i32_le.mp hle
        rw [e1, c1] at hle'
        congr 2
        apply i32_eq.mpr
        rw [e1]
        by_cases hlt : (bv r b 6).toInt64 + m.toInt64 * (b_moist (bv r b) - 150).toInt64 < 10000
        · rw [if_pos hlt, i6432 (by rw [e64]; omega) (by rw [e64]; omega), e64]
        · rw [if_neg hlt]
          have : ¬ (r (10 + 9 * b + 6)).toInt + m.toInt * ((b_moist (bv r b)).toInt - 150) < 10000 := fun q => hlt (i64_lt.mpr (by rw [e64, c2]; exact q))
          show _ = (10000 : Int)
          omega
      · rw [if_neg hle, upd_pb r b (by decide : 6 < 9)]
        have hle' : ¬ (r (10 + 9 * b + 6)).toInt + m.toInt * ((b_moist (bv r b)).toInt - 150) ≤ 10000 := fun q => hle (i32_le.mpr (by rw [e1, c1]; exact q))
        have hn : ¬ (bv r b 6).toInt64 + m.toInt64 * (b_moist (bv r b) - 150).toInt64 < 10000 := fun q => by
          have := i64_lt.mp q; rw [e64, c2] at this; omega
        rw [if_neg hn]
        rfl
