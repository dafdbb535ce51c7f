/-! moving, cleaning, drying, dumping, passing: the reference's steps are the class's, and a sound row stays sound -/
set_option maxRecDepth 100000
section ST2
variable {r : Nat → Int32} {b b' : Nat → Int64} {nb nl nc : Nat}
theorem t_time (h : SInv r b nb nl nc) {m : Int32} (m0 : 0 ≤ m.toInt) (m1 : m.toInt ≤ 1000000) (ht : r 0 + m ≤ 1000000) : (r 0).toInt + m.toInt ≤ 1000000 := by
  have hc := h.2.2.2.2.2.1
  have := i32_le.mp ht
  rw [i32_add (by omega) (by omega)] at this
  exact this
theorem bk_sum (h : SInv r b nb nl nc) : 0 ≤ (b 0).toInt ∧ (b 0).toInt ≤ 500000000 ∧ 0 ≤ (b 1).toInt ∧ (b 1).toInt ≤ (b 0).toInt ∧ 0 ≤ (b 2).toInt ∧ (b 2).toInt ≤ (b 0).toInt ∧ 0 ≤ sumI r nb ∧ sumI r nb ≤ (b 0).toInt := by
  obtain ⟨⟨k1, k2⟩, k3, k4, k5⟩ := h.2.2.2.2.2.2
  have hc := h.2.2.2.2.2.1
  have hs := sumI_nn h.2.1
  omega
/-- a bin gives up u units, which the book j (1 or 2) takes -/
theorem SInv.take (h : SInv r b nb nl nc) {bi : Nat} (hb : bi < nb) {u : Int32} (u0 : 1 ≤ u.toInt) (u1 : u.toInt ≤ (r (10 + 9 * bi + 3)).toInt) : SInv (pb r bi (b_take (bv r bi) u)) (vp_updL b 2 (b 2 + u.toInt64)) nb nl nc := by
  have hn := h.1
  obtain ⟨T1, T2, -⟩ := take_v (h.2.1 bi hb) u0 u1
  obtain ⟨s0, s1, s2, s3, s4, s5, s6, s7⟩ := bk_sum h
  obtain ⟨k1, k2, k3, k4⟩ := h.2.2.2.2.2.2
  obtain ⟨⟨g1, g2, g3, g4⟩, -⟩ := h.2.1 bi hb
  have g2' : (r (10 + 9 * bi + 3)).toInt ≤ (r (10 + 9 * bi + 0)).toInt := g2
  have g4' : (r (10 + 9 * bi + 0)).toInt ≤ 20000 := g4
  have e2 : (b 2 + u.toInt64).toInt = (b 2).toInt + u.toInt := by rw [i64_add (by rw [i3264]; omega) (by rw [i3264]; omega), i3264]
  refine h.bin hb T1 ⟨?_, k2, ?_, ?_⟩
  · rw [pb_out _ (by omega)]; exact k1
  · show 0 ≤ (b 2 + u.toInt64).toInt
    rw [e2]; omega
  · show (b 0).toInt - (b 1).toInt - (b 2 + u.toInt64).toInt = _
    rw [sumI_1 (r := r) (i := bi) (d := - u.toInt) hb (fun j hj hne => pb_out _ (by omega)) (by rw [pb_at _ _ _ (by decide), T2]; show (r (10 + 9 * bi + 3)).toInt - _ = _; omega), e2, ← k4]
    omega
theorem mref_ok {le bi bj : Nat} {amt : Int32} (h : s_mref r le bi bj amt ≤ 0) : amt ≤ r (10 + 9 * bi + 3) ∧ s_ref r le bj (r (10 + 9 * bi + 5)) amt (p_share r bi amt / amt) ≤ 0 := by
  unfold s_mref at h
  by_cases c1 : amt ≤ r (10 + 9 * bi + 3)
  · rw [if_pos c1] at h
    refine ⟨c1, ?_⟩
    by_cases c2 : q_stands r le
    · rw [if_pos c2] at h; exact h
    · rw [if_neg c2] at h
      by_cases c3 : q_leads r le (nI bi)
      · rw [if_pos c3] at h; exact h
      · rw [if_neg c3] at h; exact absurd h (by decide)
  · rw [if_neg c1] at h; exact absurd h (by decide)
theorem mv_step (h : SInv r b nb nl nc) {le bi bj : Nat} (hl : le < nl) (hb : bi < nb) (hj : bj < nb) (hne : bi ≠ bj) {amt : Int32} (a0 : 1 ≤ amt.toInt) (a1 : amt.toInt ≤ 20000) (hr : s_mref r le bi bj amt ≤ 0) (ht : r 0 + p_min amt (r (82 + 4 * le + 0)) ≤ 1000000) :
    p_moves r nb le bi bj amt = (xmP r nb le bi amt, xm4 r nb le bi bj amt) ∧ SInv (xm4 r nb le bi bj amt) b nb nl nc := by
  obtain ⟨l1, l2⟩ := h.2.2.1 _ hl
  obtain ⟨-, q0, q1, q2, -⟩ := min_v (u := amt) (sp := r (82 + 4 * le + 0)) (by omega) (by omega) l1 l2
  have hn := h.1
  have ht' := t_time h q0 (by omega) ht
  refine ⟨?_, ?_⟩
  · unfold p_moves
    dsimp only
    rw [passes_s q0 (by omega) h.2.1, takes_b]
    dsimp only
    rw [brings_b, dusts_b]
  · have I1 : SInv (xr1 r nb le amt) b nb nl nc := pass_inv q0 (by omega) ht' h
    obtain ⟨o1, o2⟩ := mref_ok hr
    obtain ⟨o3, -⟩ := ref_ok o2
    have x3 : xr1 r nb le amt (10 + 9 * bi + 3) = r (10 + 9 * bi + 3) := sps_ne (fun z hz => by omega) (by omega)
    have y3 : xr1 r nb le amt (10 + 9 * bj + 3) = r (10 + 9 * bj + 3) := sps_ne (fun z hz => by omega) (by omega)
    have y0 : xr1 r nb le amt (10 + 9 * bj + 0) = r (10 + 9 * bj + 0) := sps_ne (fun z hz => by omega) (by omega)
    have u1 : amt.toInt ≤ (xr1 r nb le amt (10 + 9 * bi + 3)).toInt := by rw [x3]; exact i32_le.mp o1
    have I2 : SInv (xm2 r nb le bi amt) (vp_updL b 2 (b 2 + amt.toInt64)) nb nl nc := I1.take hb a0 u1
    obtain ⟨-, sh1, sh2, sh3, -⟩ := share_v (I1.2.1 bi hb) a0 u1
    have z3 : bv (xm2 r nb le bi amt) bj 3 = r (10 + 9 * bj + 3) := (pb_out _ (by omega)).trans y3
    have z0 : bv (xm2 r nb le bi amt) bj 0 = r (10 + 9 * bj + 0) := (pb_out _ (by omega)).trans y0
    obtain ⟨⟨g1, g2, g3, g4⟩, -⟩ := h.2.1 bj hj
    have g1' : 0 ≤ (r (10 + 9 * bj + 3)).toInt := g1
    have g2' : (r (10 + 9 * bj + 3)).toInt ≤ (r (10 + 9 * bj + 0)).toInt := g2
    have g4' : (r (10 + 9 * bj + 0)).toInt ≤ 20000 := g4
    have o3' := i32_le.mp o3
    rw [i32_add (by omega) (by omega)] at o3'
    have hkd : 0 ≤ (xr1 r nb le amt (10 + 9 * bi + 5)).toInt ∧ (xr1 r nb le amt (10 + 9 * bi + 5)).toInt ≤ 3 := (I1.2.1 bi hb).2.2.2.2.1 (fun z => by
      have : (xr1 r nb le amt (10 + 9 * bi + 3)).toInt = 0 := by rw [show xr1 r nb le amt (10 + 9 * bi + 3) = 0 from z]; rfl
      omega)
    obtain ⟨P1, P2, P3⟩ := put_v (I2.2.1 bj hj) (u := amt) (pts := xmP r nb le bi amt) (kind := xr1 r nb le amt (10 + 9 * bi + 5)) a0 (by rw [z3, z0]; exact o3') sh1 sh3 hkd
    obtain ⟨T1, T2, -⟩ := take_v (I1.2.1 bi hb) a0 u1
    have Bk : BkOk (xm3 r nb le bi bj amt) b nb := by
      obtain ⟨k1, k2, k3, k4⟩ := I1.2.2.2.2.2.2
      refine ⟨?_, k2, k3, ?_⟩
      · rw [show xm3 r nb le bi bj amt 0 = xr1 r nb le amt 0 from (pb_out _ (by omega)).trans (pb_out _ (by omega))]; exact k1
      · rw [sumI_1 (r := xm2 r nb le bi amt) (i := bj) (d := amt.toInt) hj (fun j hj hne => pb_out _ (by omega)) (by rw [pb_at _ _ _ (by decide)]; exact P2),
          sumI_1 (r := xr1 r nb le amt) (i := bi) (d := - amt.toInt) hb (fun j hj hne => pb_out _ (by omega)) (by rw [pb_at _ _ _ (by decide), T2]; show (xr1 r nb le amt (10 + 9 * bi + 3)).toInt - _ = _; omega), ← k4]
        omega
    refine (I2.bin hj P1 Bk).leg hl ?_
    show 1 ≤ (xm3 r nb le bi bj amt (82 + 4 * le + 0)).toInt ∧ (xm3 r nb le bi bj amt (82 + 4 * le + 0)).toInt ≤ 500
    rw [show xm3 r nb le bi bj amt (82 + 4 * le + 0) = r (82 + 4 * le + 0) from (pb_out _ (by omega)).trans ((pb_out _ (by omega)).trans (sps_ne (fun z hz => by omega) (by omega)))]
    exact ⟨l1, l2⟩
theorem cl_step (h : SInv r b nb nl nc) {le : Nat} (hl : le < nl) {mi : Int32} (m0 : 1 ≤ mi.toInt) (m1 : mi.toInt ≤ 1000) (ht : r 0 + mi ≤ 1000000) :
    p_cleans r nb le mi = (x_cl r nb le mi (82 + 4 * le + 2), x_cl r nb le mi) ∧ SInv (x_cl r nb le mi) b nb nl nc := by
  have ht' := t_time h (by omega) (by omega) ht
  have I1 : SInv (s_passes mi r nb) b nb nl nc := pass_inv (by omega) (by omega) ht' h
  refine ⟨?_, ?_⟩
  · unfold p_cleans
    dsimp only
    rw [passes_s (by omega) (by omega) h.2.1]
    have e : ∀ d : Int32, (if 0 ≤ d then d else 0) = (if 0 < d then d else (0 : Int32)) := by
      intro d
      by_cases c : 0 < d
      · rw [if_pos c, if_pos (Int32.le_of_lt c)]
      · rw [if_neg c]
        by_cases c2 : 0 ≤ d
        · rw [if_pos c2]
          apply i32_eq.mpr
          have := i32_le.mp c2
          have : ¬ (0 : Int32).toInt < d.toInt := fun q => c (i32_lt.mpr q)
          omega
        · rw [if_neg c2]
    rw [e]
  · show SInv (upd (s_passes mi r nb) (82 + 4 * le + 2) _) b nb nl nc
    rw [upd_pg _ _ (by decide)]
    exact I1.leg hl (I1.2.2.1 le hl)
theorem ps_step (h : SInv r b nb nl nc) {mi : Int32} (m0 : 1 ≤ mi.toInt) (m1 : mi.toInt ≤ 10000) (ht : r 0 + mi ≤ 1000000) :
    p_passes mi r nb = s_passes mi r nb ∧ SInv (s_passes mi r nb) b nb nl nc :=
  ⟨passes_s (by omega) (by omega) h.2.1, pass_inv (by omega) (by omega) (t_time h (by omega) (by omega) ht) h⟩
theorem dry1_eq (h : SInv r b nb nl nc) {bi : Nat} : p_dry1 bi nb (r, b) = (xd1 bi nb r, xdB bi nb r b) := by
  have e1 : ∀ x y : Int32, (if x ≤ y then x else y) = (if x < y then x else y) := by
    intro x y
    by_cases c : x < y
    · rw [if_pos c, if_pos (Int32.le_of_lt c)]
    · rw [if_neg c]
      by_cases c2 : x ≤ y
      · rw [if_pos c2]
        apply i32_eq.mpr
        have := i32_le.mp c2
        have : ¬ x.toInt < y.toInt := fun q => c (i32_lt.mpr q)
        omega
      · rw [if_neg c2]
  unfold p_dry1
  dsimp only
  rw [passes_s (by decide) (by decide) h.2.1, e1]
  refine Prod.ext ?_ rfl
  dsimp only
  rw [upd_pb _ bi (k := 4) (by decide), pb_upd _ _ _ (by decide), pb_at _ _ _ (by decide), pb_upd _ _ _ (by decide), pb_at _ _ _ (by decide)]
  rfl
theorem dr1_inv (h : SInv r b nb nl nc) {bi : Nat} (hb : bi < nb) (hne : r (10 + 9 * bi + 3) ≠ 0) (ht : (r 0).toInt + 10 ≤ 1000000) : SInv (xd1 bi nb r) (xdB bi nb r b) nb nl nc ∧ xd1 bi nb r (10 + 9 * bi + 3) ≠ 0 ∧ (xd1 bi nb r 0).toInt = (r 0).toInt + 10 := by
  have hn := h.1
  have I1 : SInv (s_passes 10 r nb) b nb nl nc := pass_inv (by decide) (by decide) ht h
  have x3 : s_passes 10 r nb (10 + 9 * bi + 3) = r (10 + 9 * bi + 3) := sps_ne (fun z hz => by omega) (by omega)
  obtain ⟨D1, D2, D3, D4, D5, D6⟩ := dry_v (I1.2.1 bi hb) (by show s_passes 10 r nb (10 + 9 * bi + 3) ≠ 0; rw [x3]; exact hne)
  obtain ⟨k1, k2, k3, k4⟩ := I1.2.2.2.2.2.2
  obtain ⟨s0, s1, s2, s3, s4, s5, s6, s7⟩ := bk_sum I1
  obtain ⟨⟨g1, g2, g3, g4⟩, -⟩ := I1.2.1 bi hb
  have D5' : 0 ≤ (xdL bi nb r).toInt := D5
  have D6' : (xdL bi nb r).toInt ≤ (bv (s_passes 10 r nb) bi 3).toInt := D6
  have e2 : (b 2 + (xdL bi nb r).toInt64).toInt = (b 2).toInt + (xdL bi nb r).toInt := by rw [i64_add (by rw [i3264]; omega) (by rw [i3264]; omega), i3264]
  refine ⟨I1.bin hb D1 ⟨?_, k2, ?_, ?_⟩, ?_, ?_⟩
  · rw [pb_out _ (by omega)]; exact k1
  · show 0 ≤ (b 2 + (xdL bi nb r).toInt64).toInt
    rw [e2]; omega
  · show (b 0).toInt - (b 1).toInt - (b 2 + (xdL bi nb r).toInt64).toInt = _
    rw [sumI_1 (r := s_passes 10 r nb) (i := bi) (d := - (xdL bi nb r).toInt) hb (fun j hj hne => pb_out _ (by omega)) (by rw [pb_at _ _ _ (by decide), D2]; show (s_passes 10 r nb (10 + 9 * bi + 3)).toInt - (xdL bi nb r).toInt = _; omega), e2, ← k4]
    omega
  · show pb _ _ _ _ ≠ 0
    rw [pb_at _ _ _ (by decide)]; exact D4
  · rw [show xd1 bi nb r 0 = r 0 + 10 from (pb_out _ (by omega)).trans sps_0, i32_add (by have := h.2.2.2.2.2.1; show _ ≤ _ + (10 : Int); omega) (by show _ + (10 : Int) < _; omega)]; rfl
theorem dr_step {bi : Nat} (hb : bi < nb) (f : Nat) : ∀ (n : Nat) (r : Nat → Int32) (b : Nat → Int64), SInv r b nb nl nc → r (10 + 9 * bi + 3) ≠ 0 → (r 0).toInt + 10 * f ≤ 1000000 →
    p_dries bi nb f n (r, b) = (nI (x_dries bi nb f n (r, b)).1, (x_dries bi nb f n (r, b)).2) ∧ SInv (x_dries bi nb f n (r, b)).2.1 (x_dries bi nb f n (r, b)).2.2 nb nl nc := by
  induction f with
  | zero => intro n r b h hne ht; exact ⟨rfl, h⟩
  | succ f ih =>
    intro n r b h hne ht
    unfold p_dries x_dries
    rw [moist_b]
    dsimp only
    by_cases c : b_moist (bv r bi) ≤ 50
    · rw [if_pos c, if_pos c]; exact ⟨rfl, h⟩
    · rw [if_neg c, if_neg c, dry1_eq h]
      obtain ⟨i1, i2, i3⟩ := dr1_inv h hb hne (by omega)
      exact ih (n + 1) _ _ i1 i2 (by rw [i3]; omega)
theorem dump_eq (h : SInv r b nb nl nc) {bi : Nat} (hb : bi < nb) : p_empties (upd (upd r (10 + 9 * bi + 8) (r (10 + 9 * bi + 8) + r (10 + 9 * bi + 3))) (10 + 9 * bi + 3) 0) bi = (if r (10 + 9 * bi + 3) ≤ 0 then r else pb r bi (b_take (bv r bi) (r (10 + 9 * bi + 3)))) := by
  unfold p_empties
  rw [upd_pb _ bi (k := 8) (by decide), pb_upd _ _ _ (by decide), pb_upd _ _ _ (by decide), pb_upd _ _ _ (by decide), pb_upd _ _ _ (by decide)]
  obtain ⟨⟨g1, g2, g3, g4⟩, ⟨g5, g6⟩, -, g7, -⟩ := h.2.1 bi hb
  by_cases c : r (10 + 9 * bi + 3) ≤ 0
  · rw [if_pos c]
    have e3 : r (10 + 9 * bi + 3) = 0 := i32_eq.mpr (by have := i32_le.mp c; have : (r (10 + 9 * bi + 3)).toInt ≤ 0 := this; have : 0 ≤ (r (10 + 9 * bi + 3)).toInt := g1; show _ = (0 : Int); omega)
    obtain ⟨e5, e6⟩ := g7 e3
    have e4 : r (10 + 9 * bi + 4) = 0 := i32_eq.mpr (by
      have q1 : 0 ≤ (r (10 + 9 * bi + 4)).toInt := g5
      have q2 : (r (10 + 9 * bi + 4)).toInt ≤ 400 * (r (10 + 9 * bi + 3)).toInt := g6
      rw [e3] at q2
      have q3 : (r (10 + 9 * bi + 4)).toInt ≤ 400 * (0 : Int) := q2
      show _ = (0 : Int); omega)
    have e8 : r (10 + 9 * bi + 8) + r (10 + 9 * bi + 3) = r (10 + 9 * bi + 8) := by rw [e3]; grind
    have e : upd (upd (upd (upd (upd (bv r bi) 8 (r (10 + 9 * bi + 8) + r (10 + 9 * bi + 3))) 3 0) 4 0) 5 (-1)) 6 0 = bv r bi := by
      rw [e8]
      funext j
      by_cases j6 : j = 6
      · subst j6; exact e6.symm
      · rw [upd_ne j6]
        by_cases j5 : j = 5
        · subst j5; exact e5.symm
        · rw [upd_ne j5]
          by_cases j4 : j = 4
          · subst j4; exact e4.symm
          · rw [upd_ne j4]
            by_cases j3 : j = 3
            · subst j3; exact e3.symm
            · rw [upd_ne j3]
              by_cases j8 : j = 8
              · subst j8; rfl
              · rw [upd_ne j8]
    rw [e, pb_self]
  · rw [if_neg c]
    congr 1
    unfold b_take b_share
    rw [if_pos rfl]
    unfold b_emp
    have z0 : ∀ x : Int32, x - x = 0 := fun x => by grind
    have hz : (upd (upd (upd (bv r bi) 3 (bv r bi 3 - r (10 + 9 * bi + 3))) 4 (bv r bi 4 - bv r bi 4)) 8 (bv r bi 8 + r (10 + 9 * bi + 3))) 3 = 0 := by
      rw [upd_ne (by decide), upd_ne (by decide), upd_eq]; exact z0 _
    rw [if_pos hz]
    funext j
    by_cases j6 : j = 6
    · subst j6; rfl
    · rw [upd_ne j6, upd_ne j6]
      by_cases j5 : j = 5
      · subst j5; rfl
      · rw [upd_ne j5, upd_ne j5]
        by_cases j4 : j = 4
        · subst j4; rfl
        · rw [upd_ne j4, upd_ne j4]
          by_cases j8 : j = 8
          · subst j8; rfl
          · rw [upd_ne j8, upd_ne j4]
            by_cases j3 : j = 3
            · subst j3; rw [upd_eq, upd_eq]; exact (z0 _).symm
            · rw [upd_ne j3, upd_ne j3, upd_ne j8]
theorem du_step (h : SInv r b nb nl nc) {bi : Nat} (hb : bi < nb) : SInv (if r (10 + 9 * bi + 3) ≤ 0 then r else pb r bi (b_take (bv r bi) (r (10 + 9 * bi + 3)))) (vp_updL b 2 (b 2 + (r (10 + 9 * bi + 3)).toInt64)) nb nl nc := by
  by_cases c : r (10 + 9 * bi + 3) ≤ 0
  · rw [if_pos c]
    have e3 : r (10 + 9 * bi + 3) = 0 := i32_eq.mpr (by have := i32_le.mp c; have : (r (10 + 9 * bi + 3)).toInt ≤ 0 := this; have : 0 ≤ (r (10 + 9 * bi + 3)).toInt := (h.2.1 bi hb).1.1; show _ = (0 : Int); omega)
    rw [e3]
    refine h.congr rfl (fun _ _ _ => rfl) (fun _ _ _ _ => rfl) (fun _ _ _ _ => rfl) (fun _ _ _ _ => rfl) (fun j hj => ?_)
    by_cases j2 : j = 2
    · subst j2
      rw [updL_eq]
      show b 2 + 0 = b 2
      grind
    · rw [updL_ne j2]
  · rw [if_neg c]
    refine h.take hb ?_ (Int.le_refl _)
    have : ¬ (r (10 + 9 * bi + 3)).toInt ≤ (0 : Int) := fun q => c (i32_le.mpr q)
    omega
end ST2
