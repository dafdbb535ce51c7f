/-! the class's words are the reference's, on a sound row: moves -/
set_option maxRecDepth 100000
section EQ
variable {r : Nat → Int32} {b : Nat → Int64} {nb nl nc : Nat}
theorem time_eq {m : Int32} (h0 : 0 ≤ (r 0).toInt) (h1 : (r 0).toInt ≤ 1000000) (m0 : 0 ≤ m.toInt) (m1 : m.toInt ≤ 1000000) : q_time r m.toInt64 ↔ r 0 + m ≤ 1000000 := by
  have e1 : (r 0 + m).toInt = (r 0).toInt + m.toInt := i32_add (by omega) (by omega)
  have e2 : ((r 0).toInt64 + m.toInt64).toInt = (r 0).toInt + m.toInt := by rw [i64_add (by rw [i3264, i3264]; omega) (by rw [i3264, i3264]; omega), i3264, i3264]
  unfold q_time
  rw [lgc_gt, i64_lt, i32_le, e1, e2]
  show ¬ (1000000 : Int) < _ ↔ _ ≤ (1000000 : Int)
  omega
theorem ref_eq (h : SInv r b nb nl nc) {le bi : Nat} (hb : bi < nb) {kind amt mo : Int32} (a0 : 0 ≤ amt.toInt) (a1 : amt.toInt ≤ 20000) : s_ref r le bi kind amt mo = p_against r le (-1) bi kind amt mo := by
  obtain ⟨⟨g1, g2, g3, g4⟩, -⟩ := h.2.1 bi hb
  have g1' : 0 ≤ (r (10 + 9 * bi + 3)).toInt := g1
  have g2' : (r (10 + 9 * bi + 3)).toInt ≤ (r (10 + 9 * bi + 0)).toInt := g2
  have g4' : (r (10 + 9 * bi + 0)).toInt ≤ 20000 := g4
  have e : (r (10 + 9 * bi + 3) + amt ≤ r (10 + 9 * bi + 0)) ↔ (amt ≤ r (10 + 9 * bi + 0) - r (10 + 9 * bi + 3)) := by
    rw [i32_le, i32_le, i32_add (by omega) (by omega), i32_sub (by omega) (by omega)]; omega
  unfold s_ref p_against p_ag1 p_ag2
  simp only [e, if_true]
theorem rF_eq (h : SInv r b nb nl nc) (h2 : r 2 = nI nb) (h3 : r 3 = nI nl) (le bi kind amt mo : Int32) : x_rF r nb nl le bi kind amt mo = p_cannotReceive r le bi kind amt mo := by
  unfold x_rF p_cannotReceive q_leg q_bin q_n q_truck
  rw [h2, h3]
  by_cases c1 : 0 ≤ le ∧ le ≤ nI nl - 1
  · by_cases c2 : 0 ≤ bi ∧ bi ≤ nI nb - 1
    · by_cases c3 : 0 ≤ kind ∧ kind ≤ 3
      · rw [if_pos (show ((0 ≤ le ∧ le ≤ nI nl - 1) ∧ 0 ≤ bi ∧ bi ≤ nI nb - 1) ∧ (0 ≤ kind ∧ kind ≤ 4 - 1) from ⟨⟨c1, c2⟩, c3⟩), if_pos c1, if_pos c2, if_pos c3]
        by_cases c4 : 1 ≤ amt ∧ amt ≤ 5000
        · by_cases c5 : 50 ≤ mo ∧ mo ≤ 400
          · rw [if_pos c4, if_pos c5, if_pos (show (1 ≤ amt ∧ amt ≤ 5000) ∧ (50 ≤ mo ∧ mo ≤ 400) from ⟨c4, c5⟩)]
            have hl := (isB_c (n := nl) rfl (by have := h.1.2.1; omega) c1).2
            have hb := (isB_c (n := nb) rfl (by have := h.1.1; omega) c2).2
            have d1 : (1 : Int) ≤ amt.toInt := i32_le.mp c4.1
            have d2 : amt.toInt ≤ (5000 : Int) := i32_le.mp c4.2
            rw [ref_eq h hb (by omega) (by omega)]
            obtain ⟨l1, l2⟩ := h.2.2.1 _ hl
            obtain ⟨-, m0, m1, -, -⟩ := min_v (u := amt) (sp := r (82 + 4 * le.toNatClampNeg + 0)) (by omega) (by omega) l1 l2
            have ht := time_eq (r := r) (m := p_min amt (r (82 + 4 * le.toNatClampNeg + 0))) h.2.2.2.2.2.1.1 h.2.2.2.2.2.1.2 m0 (by omega)
            by_cases c6 : p_against r le.toNatClampNeg (-1) bi.toNatClampNeg kind amt mo ≤ 0
            · rw [if_pos c6, if_pos c6]
              by_cases c7 : r 0 + p_min amt (r (82 + 4 * le.toNatClampNeg + 0)) ≤ 1000000
              · rw [if_pos c7, if_pos (ht.mpr c7)]
              · rw [if_neg c7, if_neg (fun q => c7 (ht.mp q))]
            · rw [if_neg c6, if_neg c6]
          · rw [if_pos c4, if_neg c5, if_neg (fun q => c5 q.2)]
        · rw [if_neg c4, if_neg (fun q => c4 q.1)]
      · rw [if_neg (fun q => c3 q.2), if_pos c1, if_pos c2, if_neg c3]
    · rw [if_neg (fun q => c2 q.1.2), if_pos c1, if_neg c2]
  · rw [if_neg (fun q => c1 q.1.1), if_neg c1]
theorem mA_eq (h2 : r 2 = nI nb) (h3 : r 3 = nI nl) (le bi bj amt : Int32) : x_mA nb nl le bi bj amt = p_isNoMove r le bi bj amt := by
  unfold x_mA p_isNoMove q_leg q_bin q_n
  rw [h2, h3]
  by_cases c1 : 0 ≤ le ∧ le ≤ nI nl - 1
  · by_cases c2 : 0 ≤ bi ∧ bi ≤ nI nb - 1
    · by_cases c3 : 0 ≤ bj ∧ bj ≤ nI nb - 1
      · rw [if_pos ⟨⟨c1, c2⟩, c3⟩, if_pos c1, if_pos c2, if_pos c3]
      · rw [if_neg (fun q => c3 q.2), if_pos c1, if_pos c2, if_neg c3]
    · rw [if_neg (fun q => c2 q.1.2), if_pos c1, if_neg c2]
  · rw [if_neg (fun q => c1 q.1.1), if_neg c1]
theorem isNo_le (le bi bj amt : Int32) : 0 ≤ p_isNoMove r le bi bj amt ↔ p_isNoMove r le bi bj amt = 0 := by
  unfold p_isNoMove
  repeat' split
  all_goals decide
theorem mref_eq (h : SInv r b nb nl nc) {le bi bj : Nat} (hb : bi < nb) (hj : bj < nb) {amt : Int32} (a0 : 1 ≤ amt.toInt) (a1 : amt.toInt ≤ 20000) : s_mref r le bi bj amt = p_whyNotMove r le bi bj amt := by
  unfold s_mref p_whyNotMove
  by_cases c : amt ≤ r (10 + 9 * bi + 3)
  · rw [if_pos c, if_pos c, ref_eq h hj (by omega) a1]
    have hn1 : ¬ nI bi = -1 := fun q => by
      have h1 := i32_eq.mp q
      have h8 := h.1.1
      rw [nI_toInt (by omega), show ((-1 : Int32)).toInt = -1 from rfl] at h1
      omega
    unfold p_against
    simp only [if_true, if_neg hn1]
    by_cases s1 : q_stands r le
    · rw [if_pos s1, if_pos s1, if_pos s1]
    · rw [if_neg s1, if_neg s1]
      by_cases s2 : q_leads r le (nI bi)
      · rw [if_pos s2, if_neg s1]
        by_cases s3 : q_leads r le (nI bj)
        · rw [if_pos s3, if_pos s3, if_pos s2]
        · rw [if_neg s3, if_neg s3]
      · rw [if_neg s2]
        by_cases s3 : q_leads r le (nI bj)
        · rw [if_pos s3, if_neg s2, if_neg s1]
        · rw [if_neg s3, if_neg s1]
  · rw [if_neg c, if_neg c]
theorem mF_eq (h : SInv r b nb nl nc) (h2 : r 2 = nI nb) (h3 : r 3 = nI nl) (le bi bj amt : Int32) : x_mF r nb nl le bi bj amt = p_cannotMove r le bi bj amt := by
  unfold x_mF p_cannotMove
  rw [mA_eq h2 h3]
  by_cases c0 : p_isNoMove r le bi bj amt = 0
  · rw [if_pos ((isNo_le le bi bj amt).mpr c0), if_pos c0]
    obtain ⟨⟨⟨q1, q2⟩, q3⟩, qn, qa⟩ := x_mA0 (show 0 ≤ x_mA nb nl le bi bj amt by rw [mA_eq h2 h3, c0]; decide)
    have hl := (isB_c (n := nl) rfl (by have := h.1.2.1; omega) q1).2
    have hb := (isB_c (n := nb) rfl (by have := h.1.1; omega) q2).2
    have hj := (isB_c (n := nb) rfl (by have := h.1.1; omega) q3).2
    have d1 : (1 : Int) ≤ amt.toInt := i32_le.mp qa.1
    have d2 : amt.toInt ≤ (20000 : Int) := i32_le.mp qa.2
    rw [mref_eq h hb hj d1 d2]
    obtain ⟨l1, l2⟩ := h.2.2.1 _ hl
    obtain ⟨-, m0, m1, -, -⟩ := min_v (u := amt) (sp := r (82 + 4 * le.toNatClampNeg + 0)) (by omega) (by omega) l1 l2
    have ht := time_eq (r := r) (m := p_min amt (r (82 + 4 * le.toNatClampNeg + 0))) h.2.2.2.2.2.1.1 h.2.2.2.2.2.1.2 m0 (by omega)
    by_cases c6 : p_whyNotMove r le.toNatClampNeg bi.toNatClampNeg bj.toNatClampNeg amt ≤ 0
    · rw [if_pos c6, if_pos c6]
      by_cases c7 : r 0 + p_min amt (r (82 + 4 * le.toNatClampNeg + 0)) ≤ 1000000
      · rw [if_pos c7, if_pos (ht.mpr c7)]
      · rw [if_neg c7, if_neg (fun q => c7 (ht.mp q))]
    · rw [if_neg c6, if_neg c6]
  · rw [if_neg (fun q => c0 ((isNo_le le bi bj amt).mp q)), if_neg c0]
theorem wN_eq (h : SInv r b nb nl nc) (h2 : r 2 = nI nb) (h3 : r 3 = nI nl) (le bi bj amt : Int32) : x_wN r nb nl le bi bj amt = p_whyNot r le bi bj amt := by
  unfold x_wN p_whyNot
  rw [mA_eq h2 h3]
  by_cases c0 : p_isNoMove r le bi bj amt = 0
  · rw [if_pos ((isNo_le le bi bj amt).mpr c0), if_pos c0]
    obtain ⟨⟨⟨q1, q2⟩, q3⟩, qn, qa⟩ := x_mA0 (show 0 ≤ x_mA nb nl le bi bj amt by rw [mA_eq h2 h3, c0]; decide)
    have hb := (isB_c (n := nb) rfl (by have := h.1.1; omega) q2).2
    have hj := (isB_c (n := nb) rfl (by have := h.1.1; omega) q3).2
    exact mref_eq h hb hj (i32_le.mp qa.1) (i32_le.mp qa.2)
  · rw [if_neg (fun q => c0 ((isNo_le le bi bj amt).mp q)), if_neg c0]
theorem cF_eq (h : SInv r b nb nl nc) (h3 : r 3 = nI nl) (le mi : Int32) : x_cF r nl le mi = p_cannotClean r le mi := by
  unfold x_cF p_cannotClean q_leg q_n
  rw [h3]
  by_cases c1 : 0 ≤ le ∧ le ≤ nI nl - 1
  · rw [if_pos c1, if_pos c1]
    by_cases c2 : 1 ≤ mi ∧ mi ≤ 1000
    · rw [if_pos c2, if_pos c2]
      have d1 : (1 : Int) ≤ mi.toInt := i32_le.mp c2.1
      have d2 : mi.toInt ≤ (1000 : Int) := i32_le.mp c2.2
      have ht := time_eq (r := r) (m := mi) h.2.2.2.2.2.1.1 h.2.2.2.2.2.1.2 (by omega) (by omega)
      by_cases c7 : r 0 + mi ≤ 1000000
      · rw [if_pos c7, if_pos (ht.mpr c7)]
      · rw [if_neg c7, if_neg (fun q => c7 (ht.mp q))]
    · rw [if_neg c2, if_neg c2]
  · rw [if_neg c1, if_neg c1]
theorem dF_eq (h : SInv r b nb nl nc) (h2 : r 2 = nI nb) (bi st : Int32) : x_dF r nb bi st = p_cannotDry r bi st := by
  unfold x_dF p_cannotDry q_bin q_n
  rw [h2]
  by_cases c1 : 0 ≤ bi ∧ bi ≤ nI nb - 1
  · rw [if_pos c1, if_pos c1]
    by_cases c2 : 1 ≤ st ∧ st ≤ 200
    · rw [if_pos c2, if_pos c2]
      by_cases c3 : r (10 + 9 * bi.toNatClampNeg + 3) = 0
      · rw [if_pos c3, if_pos c3]
      · rw [if_neg c3, if_neg c3]
        have d1 : (1 : Int) ≤ st.toInt := i32_le.mp c2.1
        have d2 : st.toInt ≤ (200 : Int) := i32_le.mp c2.2
        have e10 : (10 * st).toInt = 10 * st.toInt := i32_mul (x := 10) (by show _ ≤ (10 : Int) * _; omega) (by show (10 : Int) * _ < _; omega)
        have ht := time_eq (r := r) (m := 10 * st) h.2.2.2.2.2.1.1 h.2.2.2.2.2.1.2 (by omega) (by omega)
        by_cases c7 : r 0 + 10 * st ≤ 1000000
        · rw [if_pos c7, if_pos (ht.mpr c7)]
        · rw [if_neg c7, if_neg (fun q => c7 (ht.mp q))]
    · rw [if_neg c2, if_neg c2]
  · rw [if_neg c1, if_neg c1]
end EQ
