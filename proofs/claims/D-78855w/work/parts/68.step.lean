/-! a sound row stays sound: the moves' steps; the reference's steps are the class's -/
set_option maxRecDepth 100000
section ST
variable {r : Nat → Int32} {b b' : Nat → Int64} {nb nl nc : Nat}
theorem SInv.bin (h : SInv r b nb nl nc) {i : Nat} {v : Nat → Int32} (hi : i < nb) (hv : BinOk v) (hb : BkOk (pb r i v) b' nb) : SInv (pb r i v) b' nb nl nc := by
  obtain ⟨⟨n1, n2, n3⟩, hbn, hl, hco, hpr, hc, -⟩ := h
  refine ⟨⟨n1, n2, n3⟩, fun j hj => ?_, fun j hj => ?_, fun j hj => ?_, fun k hk => ?_, ?_, hb⟩
  · by_cases q : j = i
    · subst q; exact hv.congr (fun k hk => (pb_at _ _ _ hk).symm)
    · exact (hbn j hj).congr (fun k hk => (pb_out _ (by omega)).symm)
  · show 1 ≤ (pb r i v (82 + 4 * j + 0)).toInt ∧ (pb r i v (82 + 4 * j + 0)).toInt ≤ 500
    rw [pb_out _ (by omega)]; exact hl j hj
  · have e : ∀ k, k < 6 → tv (pb r i v) j k = tv r j k := fun k hk => pb_out _ (by omega)
    have := hco j hj
    unfold ConOk at this ⊢
    rw [e 0 (by decide), e 1 (by decide), e 2 (by decide), e 3 (by decide), e 4 (by decide), e 5 (by decide)]; exact this
  · rw [pb_out _ (by omega)]; exact hpr k hk
  · rw [pb_out _ (by omega)]; exact hc
theorem SInv.leg (h : SInv r b nb nl nc) {i : Nat} {v : Nat → Int32} (hi : i < nl) (hv : LegOk v) : SInv (pg4 r i v) b nb nl nc := by
  obtain ⟨⟨n1, n2, n3⟩, hbn, hl, hco, hpr, hc, hk1, hk2, hk3, hk4⟩ := h
  refine ⟨⟨n1, n2, n3⟩, fun j hj => (hbn j hj).congr (fun k hk => (pg_out _ (by omega)).symm), fun j hj => ?_, fun j hj => ?_, fun k hk => ?_, ?_, ?_, hk2, hk3, ?_⟩
  · by_cases q : j = i
    · subst q
      show 1 ≤ (pg4 r j v (82 + 4 * j + 0)).toInt ∧ (pg4 r j v (82 + 4 * j + 0)).toInt ≤ 500
      rw [pg_at _ _ _ (by decide)]; exact hv
    · show 1 ≤ (pg4 r i v (82 + 4 * j + 0)).toInt ∧ (pg4 r i v (82 + 4 * j + 0)).toInt ≤ 500
      rw [pg_out _ (by omega)]; exact hl j hj
  · have e : ∀ k, k < 6 → tv (pg4 r i v) j k = tv r j k := fun k hk => pg_out _ (by omega)
    have := hco j hj
    unfold ConOk at this ⊢
    rw [e 0 (by decide), e 1 (by decide), e 2 (by decide), e 3 (by decide), e 4 (by decide), e 5 (by decide)]; exact this
  · rw [pg_out _ (by omega)]; exact hpr k hk
  · rw [pg_out _ (by omega)]; exact hc
  · rw [pg_out _ (by omega)]; exact hk1
  · rw [hk4]; exact sumI_congr (fun i hi => (pg_out _ (by omega)).symm)
/-- the places that a sound row's soundness looks at -/
theorem SInv.congr {r' : Nat → Int32} (h : SInv r b nb nl nc) (e0 : r' 0 = r 0) (ep : ∀ j, 6 ≤ j → j < 10 → r' j = r j) (eb : ∀ i, i < nb → ∀ j, j < 9 → r' (10 + 9 * i + j) = r (10 + 9 * i + j)) (el : ∀ i, i < nl → ∀ j, j < 4 → r' (82 + 4 * i + j) = r (82 + 4 * i + j)) (ec : ∀ i, i < nc → ∀ j, j < 6 → r' (94 + 6 * i + j) = r (94 + 6 * i + j)) (hbk : ∀ j, j < 3 → b' j = b j) : SInv r' b' nb nl nc := by
  obtain ⟨⟨n1, n2, n3⟩, hbn, hl, hco, hpr, hc, hk1, hk2, hk3, hk4⟩ := h
  refine ⟨⟨n1, n2, n3⟩, fun j hj => (hbn j hj).congr (fun k hk => (eb j hj k hk).symm), fun j hj => ?_, fun j hj => ?_, fun k hk => ?_, ?_, ?_, ?_, ?_, ?_⟩
  · show 1 ≤ (r' (82 + 4 * j + 0)).toInt ∧ (r' (82 + 4 * j + 0)).toInt ≤ 500
    rw [el j hj 0 (by decide)]; exact hl j hj
  · have e : ∀ k, k < 6 → tv r' j k = tv r j k := fun k hk => ec j hj k hk
    have := hco j hj
    unfold ConOk at this ⊢
    rw [e 0 (by decide), e 1 (by decide), e 2 (by decide), e 3 (by decide), e 4 (by decide), e 5 (by decide)]; exact this
  · rw [ep _ (by omega) (by omega)]; exact hpr k hk
  · rw [e0]; exact hc
  · rw [e0, hbk 0 (by decide)]; exact hk1
  · rw [hbk 1 (by decide)]; exact hk2
  · rw [hbk 2 (by decide)]; exact hk3
  · rw [hbk 0 (by decide), hbk 1 (by decide), hbk 2 (by decide), hk4]; exact sumI_congr (fun i hi => (eb i hi 3 (by decide)).symm)
theorem SInv.lo (h : SInv r b nb nl nc) {k : Nat} {x : Int32} (hk : 1 ≤ k) (hk5 : k ≤ 5) : SInv (upd r k x) b nb nl nc :=
  h.congr (upd_ne (by omega)) (fun j h1 h2 => upd_ne (by omega)) (fun i _ j _ => upd_ne (by omega)) (fun i _ j _ => upd_ne (by omega)) (fun i _ j _ => upd_ne (by omega)) (fun _ _ => rfl)
theorem ref_ok {le bi : Nat} {kind amt mo : Int32} (h : s_ref r le bi kind amt mo ≤ 0) : r (10 + 9 * bi + 3) + amt ≤ r (10 + 9 * bi + 0) ∧ (r (10 + 9 * bi + 3) ≤ 0 ∨ r (10 + 9 * bi + 5) = kind) := by
  unfold s_ref at h
  by_cases c1 : q_stands r le
  · rw [if_pos c1] at h; exact absurd h (by decide)
  · rw [if_neg c1] at h
    by_cases c2 : q_leads r le (nI bi)
    · rw [if_pos c2] at h
      have fin : (if r (10 + 9 * bi + 1) ≤ mo ∧ mo ≤ r (10 + 9 * bi + 2) then if r (10 + 9 * bi + 3) + amt ≤ r (10 + 9 * bi + 0) then if q_spoilt r bi then (6 : Int32) else 0 else 5 else 4) ≤ 0 → r (10 + 9 * bi + 3) + amt ≤ r (10 + 9 * bi + 0) := by
        intro h
        by_cases c4 : r (10 + 9 * bi + 1) ≤ mo ∧ mo ≤ r (10 + 9 * bi + 2)
        · rw [if_pos c4] at h
          by_cases c5 : r (10 + 9 * bi + 3) + amt ≤ r (10 + 9 * bi + 0)
          · exact c5
          · rw [if_neg c5] at h; exact absurd h (by decide)
        · rw [if_neg c4] at h; exact absurd h (by decide)
      by_cases c3 : r (10 + 9 * bi + 3) ≤ 0
      · rw [if_pos c3] at h; exact ⟨fin h, Or.inl c3⟩
      · rw [if_neg c3] at h
        by_cases c6 : r (10 + 9 * bi + 5) = kind
        · rw [if_pos c6] at h; exact ⟨fin h, Or.inr c6⟩
        · rw [if_neg c6] at h; exact absurd h (by decide)
    · rw [if_neg c2] at h; exact absurd h (by decide)
theorem pay_v (h : SInv r b nb nl nc) {kd : Nat} (hk : kd < 4) {amt mo : Int32} (a0 : 1 ≤ amt.toInt) (a1 : amt.toInt ≤ 5000) (m0 : 50 ≤ mo.toInt) (m1 : mo.toInt ≤ 400) : (s_pay r kd amt mo).toInt32.toInt64 = s_pay r kd amt mo := by
  obtain ⟨p0, p1⟩ := h.2.2.2.2.1 kd hk
  have ea : (if 0 < mo - 140 then mo - 140 else 0).toInt = (if 140 < mo.toInt then mo.toInt - 140 else 0) := by
    have e1 : (mo - 140).toInt = mo.toInt - 140 := i32_sub (y := 140) (by show _ ≤ _ - (140 : Int); omega) (by show _ - (140 : Int) < _; omega)
    by_cases c : 0 < mo - 140
    · have c' := i32_lt.mp c
      rw [e1] at c'
      have c'' : (0 : Int) < mo.toInt - 140 := c'
      rw [if_pos c, if_pos (by omega), e1]
    · have c' : ¬ (0 : Int) < mo.toInt - 140 := fun q => c (i32_lt.mpr (by rw [e1]; exact q))
      rw [if_neg c, if_neg (by omega)]; rfl
  generalize hx : (if 0 < mo - 140 then mo - 140 else (0 : Int32)) = x at ea
  have hxr : 0 ≤ x.toInt ∧ x.toInt ≤ 260 := by rw [ea]; split <;> omega
  have e2 : (2 * x).toInt = 2 * x.toInt := i32_mul (x := 2) (by show _ ≤ (2 : Int) * _; omega) (by show (2 : Int) * _ < _; omega)
  have e3 : (1000 - 2 * x).toInt = 1000 - 2 * x.toInt := by rw [i32_sub (x := 1000) (by rw [e2]; show _ ≤ (1000 : Int) - _; omega) (by rw [e2]; show (1000 : Int) - _ < _; omega), e2]; rfl
  have b1 : amt.toInt * (r (6 + kd)).toInt ≤ 5000 * 1000 := Int.mul_le_mul a1 p1 (by omega) (by omega)
  have b0 : 0 ≤ amt.toInt * (r (6 + kd)).toInt := Int.mul_nonneg (by omega) (by omega)
  have f1 : (amt.toInt64 * (r (6 + kd)).toInt64).toInt = amt.toInt * (r (6 + kd)).toInt := by rw [i64_mul (by rw [i3264, i3264]; omega) (by rw [i3264, i3264]; omega), i3264, i3264]
  have c1 : amt.toInt * (r (6 + kd)).toInt * (1000 - 2 * x.toInt) ≤ 5000 * 1000 * 1000 := Int.mul_le_mul b1 (by omega) (by omega) (by omega)
  have c0 : 0 ≤ amt.toInt * (r (6 + kd)).toInt * (1000 - 2 * x.toInt) := Int.mul_nonneg b0 (by omega)
  have f2 : (amt.toInt64 * (r (6 + kd)).toInt64 * (1000 - 2 * x).toInt64).toInt = amt.toInt * (r (6 + kd)).toInt * (1000 - 2 * x.toInt) := by rw [i64_mul (by rw [f1, i3264, e3]; omega) (by rw [f1, i3264, e3]; omega), f1, i3264, e3]
  have f3 : (s_pay r kd amt mo).toInt = amt.toInt * (r (6 + kd)).toInt * (1000 - 2 * x.toInt) / 1000 := by
    unfold s_pay
    rw [hx, i64_div (by rw [f2]; exact c0) (by decide), f2]; rfl
  apply i64_eq.mpr
  rw [i3264, i6432 (by rw [f3]; omega) (by rw [f3]; omega)]
/-- receiving: the row and the books -/
theorem rec_step (h : SInv r b nb nl nc) {le bi kd : Nat} (hl : le < nl) (hb : bi < nb) (hk : kd < 4) {amt mo : Int32} (a0 : 1 ≤ amt.toInt) (a1 : amt.toInt ≤ 5000) (m0 : 50 ≤ mo.toInt) (m1 : mo.toInt ≤ 400) (hr : s_ref r le bi (nI kd) amt mo ≤ 0) (ht : r 0 + p_min amt (r (82 + 4 * le + 0)) ≤ 1000000) :
    p_receives r b nb le bi (nI kd) amt mo = ((s_pay (xr3 r nb le bi (nI kd) amt mo) kd amt mo).toInt32, xr3 r nb le bi (nI kd) amt mo, vp_updL (vp_updL b 0 (b 0 + amt.toInt64)) 3 (b 3 + s_pay (xr3 r nb le bi (nI kd) amt mo) kd amt mo)) ∧ SInv (xr3 r nb le bi (nI kd) amt mo) (vp_updL (vp_updL b 0 (b 0 + amt.toInt64)) 3 (b 3 + s_pay (xr3 r nb le bi (nI kd) amt mo) kd amt mo)) nb nl nc := by
  obtain ⟨l1, l2⟩ := h.2.2.1 _ hl
  obtain ⟨-, q0, q1, q2, -⟩ := min_v (u := amt) (sp := r (82 + 4 * le + 0)) (by omega) (by omega) l1 l2
  have hn := h.1
  have ht' : (r 0).toInt + (p_min amt (r (82 + 4 * le + 0))).toInt ≤ 1000000 := by
    have hc := h.2.2.2.2.2.1
    have := i32_le.mp ht
    rw [i32_add (by omega) (by omega)] at this
    exact this
  have I1 : SInv (xr1 r nb le amt) b nb nl nc := pass_inv q0 (by omega) ht' h
  have em : (amt * mo).toInt = amt.toInt * mo.toInt := by
    have : amt.toInt * mo.toInt ≤ 5000 * 400 := Int.mul_le_mul a1 m1 (by omega) (by omega)
    have : 0 ≤ amt.toInt * mo.toInt := Int.mul_nonneg (by omega) (by omega)
    exact i32_mul (by omega) (by omega)
  have hmul : amt.toInt * mo.toInt ≤ 400 * amt.toInt := by rw [Int.mul_comm]; exact Int.mul_le_mul_of_nonneg_right m1 (by omega)
  have hmul0 : 0 ≤ amt.toInt * mo.toInt := Int.mul_nonneg (by omega) (by omega)
  obtain ⟨o1, -⟩ := ref_ok hr
  have x3 : bv (xr1 r nb le amt) bi 3 = r (10 + 9 * bi + 3) := sps_ne (fun z hz => by omega) (by omega)
  have x0 : bv (xr1 r nb le amt) bi 0 = r (10 + 9 * bi + 0) := sps_ne (fun z hz => by omega) (by omega)
  obtain ⟨⟨g1, g2, g3, g4⟩, -⟩ := h.2.1 bi hb
  have g1' : 0 ≤ (r (10 + 9 * bi + 3)).toInt := g1
  have g2' : (r (10 + 9 * bi + 3)).toInt ≤ (r (10 + 9 * bi + 0)).toInt := g2
  have g4' : (r (10 + 9 * bi + 0)).toInt ≤ 20000 := g4
  have o1' := i32_le.mp o1
  rw [i32_add (by omega) (by omega)] at o1'
  obtain ⟨P1, P2, P3⟩ := put_v (I1.2.1 bi hb) (u := amt) (pts := amt * mo) (kind := nI kd) a0 (by rw [x3, x0]; exact o1') (by rw [em]; exact hmul0) (by rw [em]; exact hmul) (by rw [nI_toInt (by omega)]; omega)
  have ediv : amt * mo / amt = mo := by
    apply i32_eq.mpr
    rw [i32_div (by rw [em]; exact hmul0) (by omega), em]
    exact Int.mul_ediv_cancel_left _ (by omega)
  have hrow : (p_receives r b nb le bi (nI kd) amt mo).2.1 = xr3 r nb le bi (nI kd) amt mo := by
    unfold p_receives
    dsimp only
    rw [passes_s q0 (by omega) h.2.1, brings_b, dusts_b, ediv]
  have e0 : ∀ j, j < 10 → xr3 r nb le bi (nI kd) amt mo j = xr1 r nb le amt j := fun j hj => (pg_out _ (by omega)).trans (pb_out _ (by omega))
  have hpk : xr3 r nb le bi (nI kd) amt mo (6 + kd) = r (6 + kd) := (e0 _ (by omega)).trans (sps_ne (fun z hz => by omega) (by omega))
  have hpay : s_pay (xr3 r nb le bi (nI kd) amt mo) kd amt mo = s_pay r kd amt mo := by unfold s_pay; rw [hpk]
  have hpv := pay_v h hk a0 a1 m0 m1
  refine ⟨?_, ?_⟩
  · have e1 : p_above mo = (if 0 < mo - 140 then mo - 140 else 0) := by
      unfold p_above
      have e1 : (mo - 140).toInt = mo.toInt - 140 := i32_sub (y := 140) (by show _ ≤ _ - (140 : Int); omega) (by show _ - (140 : Int) < _; omega)
      by_cases c : mo ≤ 140
      · have c' : mo.toInt ≤ (140 : Int) := i32_le.mp c
        rw [if_pos c, if_neg (fun q => by have q' := i32_lt.mp q; rw [e1] at q'; have q'' : (0 : Int) < mo.toInt - 140 := q'; omega)]
      · have c' : ¬ mo.toInt ≤ (140 : Int) := fun q => c (i32_le.mpr q)
        rw [if_neg c, if_pos (i32_lt.mpr (by rw [e1]; show (0 : Int) < _; omega))]
    have hpay2 : (p_receives r b nb le bi (nI kd) amt mo).1 = (s_pay (xr3 r nb le bi (nI kd) amt mo) kd amt mo).toInt32 := by
      rw [← hrow]
      unfold p_receives s_pay
      dsimp only
      rw [nI_clamp (by omega), e1]
    have hbk : (p_receives r b nb le bi (nI kd) amt mo).2.2 = vp_updL (vp_updL b 0 (b 0 + amt.toInt64)) 3 (b 3 + (p_receives r b nb le bi (nI kd) amt mo).1.toInt64) := rfl
    refine Prod.ext hpay2 (Prod.ext hrow ?_)
    rw [hbk, hpay2, hpay, hpv]
  · have Bk : BkOk (xr2 r nb le bi (nI kd) amt mo) (vp_updL (vp_updL b 0 (b 0 + amt.toInt64)) 3 (b 3 + s_pay (xr3 r nb le bi (nI kd) amt mo) kd amt mo)) nb := by
      obtain ⟨k1, k2, k3, k4⟩ := I1.2.2.2.2.2.2
      obtain ⟨k1o, -, -, k4o⟩ := h.2.2.2.2.2.2
      have hs0 := sumI_nn h.2.1
      have eb0 : (b 0 + amt.toInt64).toInt = (b 0).toInt + amt.toInt := by
        have := h.2.2.2.2.2.1
        rw [i64_add (by rw [i3264]; omega) (by rw [i3264]; omega), i3264]
      have ec : (xr2 r nb le bi (nI kd) amt mo 0).toInt = (r 0).toInt + (p_min amt (r (82 + 4 * le + 0))).toInt := by
        rw [show xr2 r nb le bi (nI kd) amt mo 0 = r 0 + p_min amt (r (82 + 4 * le + 0)) from (pb_out _ (by omega)).trans sps_0, i32_add (by have := h.2.2.2.2.2.1; omega) (by omega)]
      refine ⟨?_, k2, k3, ?_⟩
      · show 0 ≤ (b 0 + amt.toInt64).toInt ∧ (b 0 + amt.toInt64).toInt ≤ 500 * _
        rw [eb0, ec]; omega
      · show (b 0 + amt.toInt64).toInt - (b 1).toInt - (b 2).toInt = _
        rw [eb0, sumI_1 (r := xr1 r nb le amt) (i := bi) (d := amt.toInt) hb (fun j hj hne => pb_out _ (by omega)) (by rw [show (pb (xr1 r nb le amt) bi (b_put (bv (xr1 r nb le amt) bi) amt (amt * mo) (nI kd))) (10 + 9 * bi + 3) = _ from pb_at _ _ _ (by decide)]; exact P2), ← k4]
        omega
    refine (I1.bin hb P1 Bk).leg hl ?_
    show 1 ≤ (xr2 r nb le bi (nI kd) amt mo (82 + 4 * le + 0)).toInt ∧ (xr2 r nb le bi (nI kd) amt mo (82 + 4 * le + 0)).toInt ≤ 500
    rw [show xr2 r nb le bi (nI kd) amt mo (82 + 4 * le + 0) = r (82 + 4 * le + 0) from (pb_out _ (by omega)).trans (sps_ne (fun z hz => by omega) (by omega))]
    exact ⟨l1, l2⟩
end ST
