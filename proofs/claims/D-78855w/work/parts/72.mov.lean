/-! receiving, moving, cleaning, passing, drying, dumping -/
set_option maxRecDepth 100000
def rwO : Option Int32 → (Nat → Int32) → (Nat → Int32)
  | none, r => r
  | some x, r => upd r 5 x
section MV
variable {K : KT} {r r' : Nat → Int32} {nb nl : Nat}
theorem ag_cong (e : ∀ j, j < 130 → r j = r' j) {l b : Nat} (hl : l < 3) (hb : b < 8) (f kind amt mo : Int32) : p_against r l f b kind amt mo = p_against r' l f b kind amt mo := by
  unfold p_against p_ag1 p_ag2 q_stands q_leads q_spoilt
  rw [e (82 + 4 * l + 2) (by omega), e 1 (by omega), e (82 + 4 * l + 1) (by omega), e (10 + 9 * b + 3) (by omega), e (10 + 9 * b + 5) (by omega), e (10 + 9 * b + 1) (by omega), e (10 + 9 * b + 2) (by omega), e (10 + 9 * b + 0) (by omega), e (10 + 9 * b + 6) (by omega)]
theorem cr_cong (e : ∀ j, j < 130 → r j = r' j) (h2 : r 2 = nI nb) (hb : nb ≤ 8) (h3 : r 3 = nI nl) (hl : nl ≤ 3) (l b kind amt mo : Int32) :
    ∃ c o, p_cannotReceive r l b kind amt mo = (c, rwO o r) ∧ p_cannotReceive r' l b kind amt mo = (c, rwO o r') ∧ ((c = 0 ∧ o = none) ∨ ¬ 0 ≤ c) := by
  have el : q_leg r l = q_leg r' l := by unfold q_leg; rw [e 3 (by decide)]
  have eb : q_bin r b = q_bin r' b := by unfold q_bin; rw [e 2 (by decide)]
  unfold p_cannotReceive
  by_cases c1 : q_leg r l
  · rw [if_pos c1, if_pos (show q_leg r' l from el ▸ c1)]
    have hl' := (isB_c h3 (by omega) c1).2
    by_cases c2 : q_bin r b
    · rw [if_pos c2, if_pos (show q_bin r' b from eb ▸ c2)]
      have hb' := (isB_c h2 (by omega) c2).2
      by_cases c3 : 0 ≤ kind ∧ kind ≤ 3
      · rw [if_pos c3, if_pos c3]
        by_cases c4 : q_truck amt mo
        · rw [if_pos c4, if_pos c4, ← ag_cong e (by omega) (by omega), ← e 0 (by omega), ← e (82 + 4 * l.toNatClampNeg + 0) (by omega)]
          by_cases c5 : p_against r l.toNatClampNeg (-1) b.toNatClampNeg kind amt mo ≤ 0
          · rw [if_pos c5, if_pos c5]
            by_cases c6 : r 0 + p_min amt (r (82 + 4 * l.toNatClampNeg + 0)) ≤ 1000000
            · rw [if_pos c6, if_pos c6]; exact ⟨0, none, rfl, rfl, Or.inl ⟨rfl, rfl⟩⟩
            · rw [if_neg c6, if_neg c6]; exact ⟨-5, none, rfl, rfl, Or.inr (by decide)⟩
          · rw [if_neg c5, if_neg c5]; exact ⟨-4, some _, rfl, rfl, Or.inr (by decide)⟩
        · rw [if_neg c4, if_neg c4]; exact ⟨-3, none, rfl, rfl, Or.inr (by decide)⟩
      · rw [if_neg c3, if_neg c3]; exact ⟨-2, none, rfl, rfl, Or.inr (by decide)⟩
    · rw [if_neg c2, if_neg (show ¬ q_bin r' b from eb ▸ c2)]; exact ⟨-2, none, rfl, rfl, Or.inr (by decide)⟩
  · rw [if_neg c1, if_neg (show ¬ q_leg r' l from el ▸ c1)]; exact ⟨-2, none, rfl, rfl, Or.inr (by decide)⟩
theorem nm_cong (e : ∀ j, j < 130 → r j = r' j) (l f t amt : Int32) : p_isNoMove r l f t amt = p_isNoMove r' l f t amt := by
  unfold p_isNoMove q_leg q_bin
  rw [e 3 (by decide), e 2 (by decide)]
theorem wm_cong (e : ∀ j, j < 130 → r j = r' j) {l f t : Nat} (hl : l < 3) (hf : f < 8) (ht : t < 8) (amt : Int32) : p_whyNotMove r l f t amt = p_whyNotMove r' l f t amt := by
  unfold p_whyNotMove
  rw [ag_cong e hl ht]
  unfold p_share
  rw [e (10 + 9 * f + 3) (by omega), e (10 + 9 * f + 5) (by omega), e (10 + 9 * f + 4) (by omega)]
theorem nm_neg (l f t amt : Int32) : p_isNoMove r l f t amt = 0 ∨ ¬ 0 ≤ p_isNoMove r l f t amt := by
  unfold p_isNoMove
  repeat' split
  all_goals first | exact Or.inl rfl | exact Or.inr (by decide)
theorem cm_cong (e : ∀ j, j < 130 → r j = r' j) (h2 : r 2 = nI nb) (hb : nb ≤ 8) (h3 : r 3 = nI nl) (hl : nl ≤ 3) (l f t amt : Int32) :
    ∃ c o, p_cannotMove r l f t amt = (c, rwO o r) ∧ p_cannotMove r' l f t amt = (c, rwO o r') ∧ ((c = 0 ∧ o = none) ∨ ¬ 0 ≤ c) := by
  unfold p_cannotMove
  rw [← nm_cong e]
  by_cases c1 : p_isNoMove r l f t amt = 0
  · obtain ⟨q1, q2, q3, -, -⟩ := nM0 c1
    have hl' := (isB_c h3 (by omega) q1).2
    have hf' := (isB_c h2 (by omega) q2).2
    have ht' := (isB_c h2 (by omega) q3).2
    rw [if_pos c1, if_pos c1, ← wm_cong e (by omega) (by omega) (by omega), ← e 0 (by omega), ← e (82 + 4 * l.toNatClampNeg + 0) (by omega)]
    by_cases c5 : p_whyNotMove r l.toNatClampNeg f.toNatClampNeg t.toNatClampNeg amt ≤ 0
    · rw [if_pos c5, if_pos c5]
      by_cases c6 : r 0 + p_min amt (r (82 + 4 * l.toNatClampNeg + 0)) ≤ 1000000
      · rw [if_pos c6, if_pos c6]; exact ⟨0, none, rfl, rfl, Or.inl ⟨rfl, rfl⟩⟩
      · rw [if_neg c6, if_neg c6]; exact ⟨-5, none, rfl, rfl, Or.inr (by decide)⟩
    · rw [if_neg c5, if_neg c5]; exact ⟨-4, some _, rfl, rfl, Or.inr (by decide)⟩
  · rw [if_neg c1, if_neg c1]; exact ⟨_, none, rfl, rfl, Or.inr ((nm_neg l f t amt).resolve_left c1)⟩
theorem cc_cong (e : ∀ j, j < 130 → r j = r' j) (l m : Int32) : p_cannotClean r l m = p_cannotClean r' l m := by
  unfold p_cannotClean q_leg
  rw [e 3 (by decide), e 0 (by decide)]
theorem cd_cong (e : ∀ j, j < 130 → r j = r' j) (h2 : r 2 = nI nb) (hb : nb ≤ 8) (b st : Int32) : p_cannotDry r b st = p_cannotDry r' b st := by
  have eb : q_bin r b = q_bin r' b := by unfold q_bin; rw [e 2 (by decide)]
  unfold p_cannotDry
  by_cases c1 : q_bin r b
  · have hb' := (isB_c h2 (by omega) c1).2
    rw [if_pos c1, if_pos (show q_bin r' b from eb ▸ c1), e 0 (by decide), e _ (show 10 + 9 * b.toNatClampNeg + 3 < 130 by omega)]
  · rw [if_neg c1, if_neg (show ¬ q_bin r' b from eb ▸ c1)]
theorem cc_neg (l m : Int32) : p_cannotClean r l m = 0 ∨ ¬ 0 ≤ p_cannotClean r l m := by
  unfold p_cannotClean
  repeat' split
  all_goals first | exact Or.inl rfl | exact Or.inr (by decide)
theorem cd_neg (l m : Int32) : p_cannotDry r l m = 0 ∨ ¬ 0 ≤ p_cannotDry r l m := by
  unfold p_cannotDry
  repeat' split
  all_goals first | exact Or.inl rfl | exact Or.inr (by decide)
theorem XRel.rwO (h : KS K) (c : Int32) (o : Option Int32) : XRel K (c, false, (nbK K, nlK K, ncK K), rwO o (Rw K), Bw K) (c, (rwO o K.1, K.2)) := by
  cases o with
  | none => exact XRel.no h c
  | some x => exact XRel.code h c x
theorem R2 (h : KS K) : Rw K 2 = nI (nbK K) := svK_2 h.1
theorem R3 (h : KS K) : Rw K 3 = nI (nlK K) := svK_3 h.1
theorem kx_receive (h : KS K) (le bi kind amt mo : Int32) : XRel K (y_receive (Rw K) (Bw K) (nbK K) (nlK K) (ncK K) le bi kind amt mo) (p_receive K le bi kind amt mo) := by
  unfold y_receive p_receive
  have hn := h.1.1.2
  have hln := h.1.2.1.2
  obtain ⟨c, o, e1, e2, e3⟩ := cr_cong (r := K.1) (r' := Rw K) (fun j hj => (svK_lo K hj).symm) h.1.1.1 h.1.1.2 h.1.2.1.1 h.1.2.1.2 le bi kind amt mo
  rw [rF_eq h.R (R2 h) (R3 h)]
  rcases e3 with ⟨rfl, rfl⟩ | hneg
  · have c0 : (p_cannotReceive (Rw K) le bi kind amt mo).1 = 0 := by rw [e2]
    obtain ⟨q1, q2, q3, q4, -, q5, q6⟩ := cR0 c0
    rw [e1, e2]
    dsimp only
    rw [if_pos (by decide), if_pos rfl]
    have hl' := (isB_c (R3 h) (by omega) q1).2
    have hb' := (isB_c (R2 h) (by omega) q2).2
    obtain ⟨hk, hk'⟩ := in_c (n := 3) rfl (by decide) q3
    have a0 : 1 ≤ amt.toInt := i32_le.mp q4.1.1
    have a1 : amt.toInt ≤ 5000 := i32_le.mp q4.1.2
    have m0 : 50 ≤ mo.toInt := i32_le.mp q4.2.1
    have m1 : mo.toInt ≤ 400 := i32_le.mp q4.2.2
    obtain ⟨s1, s2⟩ := rec_step h.R (kd := kind.toNatClampNeg) hl' hb' (by omega) (amt := amt) (mo := mo) a0 a1 m0 m1 (by rw [← hk, ref_eq h.R hb' (by omega) (by omega)]; exact q5) q6
    rw [← hk] at s1 s2
    rw [← hk, show (p_receives (svK (rwO none K.1, K.2)).1 (svK (rwO none K.1, K.2)).2.1 (nbK K) le.toNatClampNeg bi.toNatClampNeg kind amt mo) = ((s_pay (xr3 (Rw K) (nbK K) le.toNatClampNeg bi.toNatClampNeg kind amt mo) kind.toNatClampNeg amt mo).toInt32, xr3 (Rw K) (nbK K) le.toNatClampNeg bi.toNatClampNeg kind amt mo, vp_updL (vp_updL (Bw K) 0 (Bw K 0 + amt.toInt64)) 3 (Bw K 3 + s_pay (xr3 (Rw K) (nbK K) le.toNatClampNeg bi.toNatClampNeg kind amt mo) kind.toNatClampNeg amt mo)) from s1]
    refine XRel.yes h s2 (fun j hj => ?_) (fun j hj => (updL_ne (by omega)).trans (updL_ne (by omega)))
    exact (pg_out _ (by omega)).trans ((pb_out _ (by omega)).trans (sps_ne (fun z hz => by omega) (by omega)))
  · rw [e1, e2]
    dsimp only
    rw [if_neg hneg, if_neg (fun q => hneg (by rw [q]; decide))]
    exact XRel.rwO h c o
theorem kx_move (h : KS K) (le bi bj amt : Int32) : XRel K (y_move (Rw K) (Bw K) (nbK K) (nlK K) (ncK K) le bi bj amt) (p_move K le bi bj amt) := by
  unfold y_move p_move
  have hn := h.1.1.2
  have hln := h.1.2.1.2
  obtain ⟨c, o, e1, e2, e3⟩ := cm_cong (r := K.1) (r' := Rw K) (fun j hj => (svK_lo K hj).symm) h.1.1.1 h.1.1.2 h.1.2.1.1 h.1.2.1.2 le bi bj amt
  rw [mF_eq h.R (R2 h) (R3 h)]
  rcases e3 with ⟨rfl, rfl⟩ | hneg
  · have c0 : (p_cannotMove (Rw K) le bi bj amt).1 = 0 := by rw [e2]
    obtain ⟨q0, -, q5, q6⟩ := cM0 c0
    obtain ⟨q1, q2, q3, q4, q7⟩ := nM0 q0
    rw [e1, e2]
    dsimp only
    rw [if_pos (by decide), if_pos rfl]
    have hl' := (isB_c (R3 h) (by omega) q1).2
    obtain ⟨eb, hb'⟩ := isB_c (R2 h) (by omega) q2
    obtain ⟨ej, hj'⟩ := isB_c (R2 h) (by omega) q3
    have a0 : 1 ≤ amt.toInt := i32_le.mp q7.1
    have a1 : amt.toInt ≤ 20000 := i32_le.mp q7.2
    obtain ⟨s1, s2⟩ := mv_step h.R hl' hb' hj' (fun q => q4 (by rw [eb, ej, q])) a0 a1 (by rw [mref_eq h.R hb' hj' a0 a1]; exact q5) q6
    rw [show (p_moves (svK (rwO none K.1, K.2)).1 (nbK K) le.toNatClampNeg bi.toNatClampNeg bj.toNatClampNeg amt) = _ from s1]
    refine XRel.yes h s2 (fun j hj => ?_) (fun j hj => rfl)
    exact (pg_out _ (by omega)).trans ((pb_out _ (by omega)).trans ((pb_out _ (by omega)).trans (sps_ne (fun z hz => by omega) (by omega))))
  · rw [e1, e2]
    dsimp only
    rw [if_neg hneg, if_neg (fun q => hneg (by rw [q]; decide))]
    exact XRel.rwO h c o
theorem kx_clean (h : KS K) (le mi : Int32) : XRel K (y_clean (Rw K) (Bw K) (nbK K) (nlK K) (ncK K) le mi) (p_clean K le mi) := by
  unfold y_clean p_clean
  have hn := h.1.1.2
  have hln := h.1.2.1.2
  rw [cF_eq h.R (R3 h), cc_cong (r := K.1) (r' := Rw K) (fun j hj => (svK_lo K hj).symm)]
  rcases cc_neg (r := Rw K) le mi with c | c
  · rw [if_pos (show 0 ≤ p_cannotClean (Rw K) le mi by rw [c]; decide), if_pos c]
    obtain ⟨q1, q2, q3⟩ := cC0 c
    have hl' := (isB_c (R3 h) (by omega) q1).2
    obtain ⟨s1, s2⟩ := cl_step h.R hl' (i32_le.mp q2.1) (i32_le.mp q2.2) q3
    dsimp only
    rw [s1]
    refine XRel.yes h s2 (fun j hj => (upd_ne (by omega)).trans (sps_ne (fun z hz => by omega) (by omega))) (fun j hj => rfl)
  · rw [if_neg c, if_neg (fun q => c (by rw [q]; decide))]; exact XRel.no h _
theorem kx_pass (h : KS K) (mi : Int32) : XRel K (y_pass (Rw K) (Bw K) (nbK K) (nlK K) (ncK K) mi) (p_pass K mi) := by
  unfold y_pass p_pass
  have hn := h.1.1.2
  by_cases c : 1 ≤ mi ∧ mi ≤ 10000
  · rw [if_pos c, if_pos c]
    have m0 : 1 ≤ mi.toInt := i32_le.mp c.1
    have m1 : mi.toInt ≤ 10000 := i32_le.mp c.2
    have ht := time_eq (r := Rw K) (m := mi) h.R.2.2.2.2.2.1.1 h.R.2.2.2.2.2.1.2 (by omega) (by omega)
    rw [← svK_lo K (j := 0) (by decide)]
    by_cases c2 : Rw K 0 + mi ≤ 1000000
    · rw [if_pos (ht.mpr c2), if_pos c2]
      obtain ⟨s1, s2⟩ := ps_step h.R m0 m1 c2
      dsimp only
      rw [show p_passes mi (svK K).1 (nbK K) = s_passes mi (Rw K) (nbK K) from s1]
      exact XRel.yes h s2 (fun j hj => sps_ne (fun z hz => by omega) (by omega)) (fun j hj => rfl)
    · rw [if_neg (fun q => c2 (ht.mp q)), if_neg c2]; exact XRel.no h _
  · rw [if_neg c, if_neg c]; exact XRel.no h _
theorem xdr_o {bi nb : Nat} (hn : nb ≤ 8) (hb : bi < nb) (f : Nat) : ∀ (n : Nat) (r : Nat → Int32) (b : Nat → Int64), (∀ j, j = 2 ∨ j = 3 ∨ j = 4 ∨ 130 ≤ j → (x_dries bi nb f n (r, b)).2.1 j = r j) ∧ (∀ j, 6 ≤ j → (x_dries bi nb f n (r, b)).2.2 j = b j) := by
  induction f with
  | zero => intro n r b; exact ⟨fun _ _ => rfl, fun _ _ => rfl⟩
  | succ f ih =>
    intro n r b
    unfold x_dries
    dsimp only
    split
    · exact ⟨fun _ _ => rfl, fun _ _ => rfl⟩
    · obtain ⟨i1, i2⟩ := ih (n + 1) (xd1 bi nb r) (xdB bi nb r b)
      exact ⟨fun j hj => (i1 j hj).trans ((pb_out _ (by omega)).trans (sps_ne (fun z hz => by omega) (by omega))), fun j hj => (i2 j hj).trans ((updL_ne (by omega)).trans (updL_ne (by omega)))⟩
theorem kx_dry (h : KS K) (bi st : Int32) : XRel K (y_dry (Rw K) (Bw K) (nbK K) (nlK K) (ncK K) bi st) (p_dry K bi st) := by
  unfold y_dry p_dry
  have hn := h.1.1.2
  rw [dF_eq h.R (R2 h), cd_cong (r := K.1) (r' := Rw K) (fun j hj => (svK_lo K hj).symm) h.1.1.1 h.1.1.2]
  rcases cd_neg (r := Rw K) bi st with c | c
  · rw [if_pos (show 0 ≤ p_cannotDry (Rw K) bi st by rw [c]; decide), if_pos c]
    obtain ⟨q1, q2, q3, q4⟩ := cD0 c
    have hb' := (isB_c (R2 h) (by omega) q1).2
    obtain ⟨hs, hs1, hs2⟩ := in1_c (n := 200) rfl (by decide) q2
    have ht : (Rw K 0).toInt + 10 * (st.toNatClampNeg : Int) ≤ 1000000 := by
      have e : (10 * st).toInt = 10 * (st.toNatClampNeg : Int) := by
        rw [hs, i32_mul (x := 10) (by rw [nI_toInt (by omega)]; show _ ≤ (10 : Int) * _; omega) (by rw [nI_toInt (by omega)]; show (10 : Int) * _ < _; omega), nI_toInt (by omega), nI_clamp (by omega)]; rfl
      have := t_time h.R (m := 10 * st) (by rw [e]; omega) (by rw [e]; omega) q4
      rw [e] at this; exact this
    obtain ⟨s1, s2⟩ := dr_step hb' st.toNatClampNeg 0 (Rw K) (Bw K) h.R q3 ht
    dsimp only
    rw [show p_dries bi.toNatClampNeg (nbK K) st.toNatClampNeg 0 ((svK K).1, (svK K).2.1) = _ from s1]
    obtain ⟨o1, o2⟩ := xdr_o hn hb' st.toNatClampNeg 0 (Rw K) (Bw K)
    exact XRel.yes h s2 o1 o2
  · rw [if_neg c, if_neg (fun q => c (by rw [q]; decide))]; exact XRel.no h _
theorem kx_dump (h : KS K) (bi : Int32) : XRel K (y_dump (Rw K) (Bw K) (nbK K) (nlK K) (ncK K) bi) (p_dump K bi) := by
  unfold y_dump p_dump
  have hn := h.1.1.2
  by_cases c : q_n (nbK K) bi
  · have c' : q_bin K.1 bi := by unfold q_bin; rw [h.1.1.1]; exact c
    rw [if_pos c, if_pos c']
    have hb' := (isB_c h.1.1.1 (by omega) c').2
    have s := du_step h.R hb'
    dsimp only
    rw [show (svK K).1 = Rw K from rfl, dump_eq h.R hb']
    by_cases c3 : Rw K (10 + 9 * bi.toNatClampNeg + 3) ≤ 0
    · rw [if_pos c3] at s
      rw [if_pos c3, if_pos c3]
      exact XRel.yes h s (fun j hj => rfl) (fun j hj => updL_ne (by omega))
    · rw [if_neg c3] at s
      rw [if_neg c3, if_neg c3]
      exact XRel.yes h s (fun j hj => pb_out _ (by omega)) (fun j hj => updL_ne (by omega))
  · have c' : ¬ q_bin K.1 bi := by unfold q_bin; rw [h.1.1.1]; exact c
    rw [if_neg c, if_neg c']; exact XRel.no h _
end MV
