/-! the orders of a text, carried out -/
set_option maxRecDepth 100000
/-- a row and books that stay sound, counts and other blocks untouched -/
def Kp (nb nl nc : Nat) (r r' : Nat → Int32) (b b' : Nat → Int64) : Prop := SInv r' b' nb nl nc ∧ (∀ j, j = 2 ∨ j = 3 ∨ j = 4 ∨ 130 ≤ j → r' j = r j) ∧ (∀ j, 6 ≤ j → b' j = b j)
section OR
variable {r : Nat → Int32} {b : Nat → Int64} {nb nl nc : Nat}
theorem Kp.refl (h : SInv r b nb nl nc) : Kp nb nl nc r r b b := ⟨h, fun _ _ => rfl, fun _ _ => rfl⟩
theorem Kp.code (h : SInv r b nb nl nc) (x : Int32) : Kp nb nl nc r (upd r 5 x) b b := ⟨h.lo (by decide) (by decide), fun _ _ => upd_ne (by omega), fun _ _ => rfl⟩
theorem Kp.trans {r1 r2 : Nat → Int32} {b1 b2 : Nat → Int64} (h1 : Kp nb nl nc r r1 b b1) (h2 : Kp nb nl nc r1 r2 b1 b2) : Kp nb nl nc r r2 b b2 := ⟨h2.1, fun j hj => (h2.2.1 j hj).trans (h1.2.1 j hj), fun j hj => (h2.2.2 j hj).trans (h1.2.2 j hj)⟩
/-- one order -/
theorem carr_r (h : SInv r b nb nl nc) (h2 : r 2 = nI nb) (h3 : r 3 = nI nl) (l x k a m : Int32) (td : Nat → Int32) (e0 : td 0 = l) (e1 : td 1 = x) (e2 : td 2 = k) (e3 : td 3 = a) (e4 : td 4 = m) :
    (if (p_cannotReceive r l x k a m).1 = 0 then ((1 : Int32), (p_receives (p_cannotReceive r l x k a m).2 b nb l.toNatClampNeg x.toNatClampNeg k a m).2) else (0, (p_cannotReceive r l x k a m).2, b)) = (if (xcF r nb nl 0 td).1 = 0 then (1, xcD r b nb 0 td) else (0, (xcF r nb nl 0 td).2, b)) ∧
    ((xcF r nb nl 0 td).1 = 0 → Kp nb nl nc r (xcD r b nb 0 td).1 b (xcD r b nb 0 td).2) ∧ Kp nb nl nc r (xcF r nb nl 0 td).2 b b := by
  subst e0 e1 e2 e3 e4
  have hn := h.1
  have eF : xcF r nb nl 0 td = p_cannotReceive r (td 0) (td 1) (td 2) (td 3) (td 4) := rF_eq h h2 h3 _ _ _ _ _
  rw [eF]
  obtain ⟨c, o, f1, -, f3⟩ := cr_cong (r := r) (r' := r) (fun _ _ => rfl) h2 h.1.1 h3 h.1.2.1 (td 0) (td 1) (td 2) (td 3) (td 4)
  have kF : Kp nb nl nc r (p_cannotReceive r (td 0) (td 1) (td 2) (td 3) (td 4)).2 b b := by
    rw [f1]
    cases o with
    | none => exact Kp.refl h
    | some x => exact Kp.code h x
  by_cases c0 : (p_cannotReceive r (td 0) (td 1) (td 2) (td 3) (td 4)).1 = 0
  · obtain ⟨q1, q2, q3, q4, q7, q5, q6⟩ := cR0 c0
    have hl' := (isB_c h3 (by omega) q1).2
    have hb' := (isB_c h2 (by omega) q2).2
    obtain ⟨hk, hk'⟩ := in_c (n := 3) rfl (by decide) q3
    have a0 : 1 ≤ (td 3).toInt := i32_le.mp q4.1.1
    have a1 : (td 3).toInt ≤ 5000 := i32_le.mp q4.1.2
    have m0 : 50 ≤ (td 4).toInt := i32_le.mp q4.2.1
    have m1 : (td 4).toInt ≤ 400 := i32_le.mp q4.2.2
    obtain ⟨s1, s2⟩ := rec_step h (kd := (td 2).toNatClampNeg) hl' hb' (by omega) (amt := td 3) (mo := td 4) a0 a1 m0 m1 (by rw [← hk, ref_eq h hb' (by omega) (by omega)]; exact q5) q6
    refine ⟨?_, fun _ => ⟨s2, fun j hj => (pg_out _ (by omega)).trans ((pb_out _ (by omega)).trans (sps_ne (fun z hz => by omega) (by omega))), fun j hj => (updL_ne (by omega)).trans (updL_ne (by omega))⟩, kF⟩
    rw [if_pos c0, if_pos c0, q7]
    rw [← hk] at s1
    rw [s1]
    show ((1 : Int32), (xr3 r nb (td 0).toNatClampNeg (td 1).toNatClampNeg (td 2) (td 3) (td 4), vp_updL (vp_updL b 0 (b 0 + (td 3).toInt64)) 3 (b 3 + s_pay (xr3 r nb (td 0).toNatClampNeg (td 1).toNatClampNeg (td 2) (td 3) (td 4)) (td 2).toNatClampNeg (td 3) (td 4)))) = (1, (xlRr r nb td, xlRb r b nb td))
    show _ = ((1 : Int32), (xr3 r nb (td 0).toNatClampNeg (td 1).toNatClampNeg (nI (td 2).toNatClampNeg) (td 3) (td 4), vp_updL (vp_updL b 0 (b 0 + (td 3).toInt64)) 3 (b 3 + s_pay (xr3 r nb (td 0).toNatClampNeg (td 1).toNatClampNeg (nI (td 2).toNatClampNeg) (td 3) (td 4)) (td 2).toNatClampNeg (td 3) (td 4))))
    rw [← hk]
  · refine ⟨?_, fun q => absurd q c0, kF⟩
    rw [if_neg c0, if_neg c0]
theorem carr_m (h : SInv r b nb nl nc) (h2 : r 2 = nI nb) (h3 : r 3 = nI nl) (l x k a : Int32) (td : Nat → Int32) (e0 : td 0 = l) (e1 : td 1 = x) (e2 : td 2 = k) (e3 : td 3 = a) :
    (if (p_cannotMove r l x k a).1 = 0 then ((1 : Int32), (p_moves (p_cannotMove r l x k a).2 nb l.toNatClampNeg x.toNatClampNeg k.toNatClampNeg a).2, b) else (0, (p_cannotMove r l x k a).2, b)) = (if (xcF r nb nl 1 td).1 = 0 then (1, xcD r b nb 1 td) else (0, (xcF r nb nl 1 td).2, b)) ∧
    ((xcF r nb nl 1 td).1 = 0 → Kp nb nl nc r (xcD r b nb 1 td).1 b (xcD r b nb 1 td).2) ∧ Kp nb nl nc r (xcF r nb nl 1 td).2 b b := by
  subst e0 e1 e2 e3
  have hn := h.1
  have eF : xcF r nb nl 1 td = p_cannotMove r (td 0) (td 1) (td 2) (td 3) := mF_eq h h2 h3 _ _ _ _
  rw [eF]
  obtain ⟨c, o, f1, -, f3⟩ := cm_cong (r := r) (r' := r) (fun _ _ => rfl) h2 h.1.1 h3 h.1.2.1 (td 0) (td 1) (td 2) (td 3)
  have kF : Kp nb nl nc r (p_cannotMove r (td 0) (td 1) (td 2) (td 3)).2 b b := by
    rw [f1]
    cases o with
    | none => exact Kp.refl h
    | some x => exact Kp.code h x
  by_cases c0 : (p_cannotMove r (td 0) (td 1) (td 2) (td 3)).1 = 0
  · obtain ⟨q0, qr, q5, q6⟩ := cM0 c0
    obtain ⟨q1, q2, q3, q4, q7⟩ := nM0 q0
    have hl' := (isB_c h3 (by omega) q1).2
    obtain ⟨eb, hb'⟩ := isB_c h2 (by omega) q2
    obtain ⟨ej, hj'⟩ := isB_c h2 (by omega) q3
    have a0 : 1 ≤ (td 3).toInt := i32_le.mp q7.1
    have a1 : (td 3).toInt ≤ 20000 := i32_le.mp q7.2
    obtain ⟨s1, s2⟩ := mv_step h hl' hb' hj' (fun q => q4 (by rw [eb, ej, q])) a0 a1 (by rw [mref_eq h hb' hj' a0 a1]; exact q5) q6
    refine ⟨?_, fun _ => ⟨s2, fun j hj => (pg_out _ (by omega)).trans ((pb_out _ (by omega)).trans ((pb_out _ (by omega)).trans (sps_ne (fun z hz => by omega) (by omega)))), fun j hj => rfl⟩, kF⟩
    rw [if_pos c0, if_pos c0, qr, s1]; rfl
  · refine ⟨?_, fun q => absurd q c0, kF⟩
    rw [if_neg c0, if_neg c0]
theorem carr_c (h : SInv r b nb nl nc) (h2 : r 2 = nI nb) (h3 : r 3 = nI nl) (l x : Int32) (td : Nat → Int32) (e0 : td 0 = l) (e1 : td 1 = x) :
    (if p_cannotClean r l x = 0 then ((1 : Int32), (p_cleans r nb l.toNatClampNeg x).2, b) else (0, r, b)) = (if (xcF r nb nl 2 td).1 = 0 then (1, xcD r b nb 2 td) else (0, (xcF r nb nl 2 td).2, b)) ∧
    ((xcF r nb nl 2 td).1 = 0 → Kp nb nl nc r (xcD r b nb 2 td).1 b (xcD r b nb 2 td).2) ∧ Kp nb nl nc r (xcF r nb nl 2 td).2 b b := by
  subst e0 e1
  have hn := h.1
  have eF : xcF r nb nl 2 td = (p_cannotClean r (td 0) (td 1), r) := Prod.ext (cF_eq h h3 _ _) rfl
  rw [eF]
  dsimp only
  by_cases c0 : p_cannotClean r (td 0) (td 1) = 0
  · obtain ⟨q1, q2, q3⟩ := cC0 c0
    have hl' := (isB_c h3 (by omega) q1).2
    obtain ⟨s1, s2⟩ := cl_step h hl' (i32_le.mp q2.1) (i32_le.mp q2.2) q3
    refine ⟨?_, fun _ => ⟨s2, fun j hj => (upd_ne (by omega)).trans (sps_ne (fun z hz => by omega) (by omega)), fun j hj => rfl⟩, Kp.refl h⟩
    rw [if_pos c0, if_pos c0, s1]; rfl
  · refine ⟨?_, fun q => absurd q c0, Kp.refl h⟩
    rw [if_neg c0, if_neg c0]
theorem carr_d (h : SInv r b nb nl nc) (h2 : r 2 = nI nb) (h3 : r 3 = nI nl) (l x : Int32) (td : Nat → Int32) (e0 : td 0 = l) (e1 : td 1 = x) :
    (if p_cannotDry r l x = 0 then ((1 : Int32), (p_dries l.toNatClampNeg nb x.toNatClampNeg 0 (r, b)).2) else (0, r, b)) = (if (xcF r nb nl 3 td).1 = 0 then (1, xcD r b nb 3 td) else (0, (xcF r nb nl 3 td).2, b)) ∧
    ((xcF r nb nl 3 td).1 = 0 → Kp nb nl nc r (xcD r b nb 3 td).1 b (xcD r b nb 3 td).2) ∧ Kp nb nl nc r (xcF r nb nl 3 td).2 b b := by
  subst e0 e1
  have hn := h.1
  have eF : xcF r nb nl 3 td = (p_cannotDry r (td 0) (td 1), r) := Prod.ext (dF_eq h h2 _ _) rfl
  rw [eF]
  dsimp only
  by_cases c0 : p_cannotDry r (td 0) (td 1) = 0
  · obtain ⟨q1, q2, q3, q4⟩ := cD0 c0
    have hb' := (isB_c h2 (by omega) q1).2
    obtain ⟨hs, hs1, hs2⟩ := in1_c (n := 200) rfl (by decide) q2
    have ht : (r 0).toInt + 10 * ((td 1).toNatClampNeg : Int) ≤ 1000000 := by
      have e : (10 * (td 1)).toInt = 10 * ((td 1).toNatClampNeg : Int) := by
        have e' : (td 1).toInt = ((td 1).toNatClampNeg : Int) := by
          have := nI_toInt (n := (td 1).toNatClampNeg) (by omega)
          rw [← hs] at this; exact this
        rw [i32_mul (x := 10) (by rw [e']; show _ ≤ (10 : Int) * _; omega) (by rw [e']; show (10 : Int) * _ < _; omega), e']; rfl
      have := t_time h (m := 10 * td 1) (by rw [e]; omega) (by rw [e]; omega) q4
      rw [e] at this; exact this
    obtain ⟨s1, s2⟩ := dr_step hb' (td 1).toNatClampNeg 0 r b h q3 ht
    obtain ⟨o1, o2⟩ := xdr_o h.1.1 hb' (td 1).toNatClampNeg 0 r b
    refine ⟨?_, fun _ => ⟨s2, o1, o2⟩, Kp.refl h⟩
    rw [if_pos c0, if_pos c0, s1]; rfl
  · refine ⟨?_, fun q => absurd q c0, Kp.refl h⟩
    rw [if_neg c0, if_neg c0]
theorem carr_x (h : SInv r b nb nl nc) (h2 : r 2 = nI nb) (h3 : r 3 = nI nl) {sg : Int32} (hs : ¬ mny sg = 0) {td td' : Nat → Int32} (ha : ∀ j, j < mny sg → td j = td' j) :
    p_carries r b nb sg td' = (if (xcF r nb nl (jx sg) td).1 = 0 then (1, xcD r b nb (jx sg) td) else (0, (xcF r nb nl (jx sg) td).2, b)) ∧
    ((xcF r nb nl (jx sg) td).1 = 0 → Kp nb nl nc r (xcD r b nb (jx sg) td).1 b (xcD r b nb (jx sg) td).2) ∧ Kp nb nl nc r (xcF r nb nl (jx sg) td).2 b b := by
  unfold mny at hs ha
  unfold p_carries jx
  by_cases c1 : sg = 114
  · rw [if_pos c1] at ha
    rw [if_pos c1, if_pos c1]
    exact carr_r h h2 h3 _ _ _ _ _ td (ha 0 (by decide)) (ha 1 (by decide)) (ha 2 (by decide)) (ha 3 (by decide)) (ha 4 (by decide))
  · rw [if_neg c1] at ha hs
    rw [if_neg c1, if_neg c1]
    by_cases c2 : sg = 109
    · rw [if_pos c2] at ha
      rw [if_pos c2, if_pos c2]
      exact carr_m h h2 h3 _ _ _ _ td (ha 0 (by decide)) (ha 1 (by decide)) (ha 2 (by decide)) (ha 3 (by decide))
    · rw [if_neg c2] at ha hs
      rw [if_neg c2, if_neg c2]
      by_cases c3 : sg = 99
      · rw [if_pos c3] at ha
        rw [if_pos c3, if_pos c3]
        exact carr_c h h2 h3 _ _ td (ha 0 (by decide)) (ha 1 (by decide))
      · rw [if_neg c3] at ha hs
        rw [if_neg c3, if_neg c3]
        by_cases c4 : sg = 100
        · rw [if_pos c4] at ha
          exact carr_d h h2 h3 _ _ td (ha 0 (by decide)) (ha 1 (by decide))
        · rw [if_neg c4] at hs; exact absurd rfl hs
/-- once an order has failed, the rest is only read -/
theorem rt_stop {t : Nat → Int32} {ln nb : Nat} (f : Nat) : ∀ (ok : Bool) (q : Nat) (x : XT), x.2.2.2.2.2 = 0 → (rtL true t ln nb f ok q x).2.2.1 = x.1 ∧ (rtL true t ln nb f ok q x).2.2.2.1 = x.2.1 ∧ (rtL true t ln nb f ok q x).2.2.2.2.2.2.1 = x.2.2.2.2.1 := by
  induction f with
  | zero => intro ok q x h; exact ⟨rfl, rfl, rfl⟩
  | succ f ih =>
    intro ok q x h
    rw [rtL]
    by_cases c1 : ok = true
    · rw [if_pos c1]
      by_cases c2 : hv t ln q = -1
      · rw [if_pos c2]; exact ⟨rfl, rfl, rfl⟩
      · rw [if_neg c2]
        by_cases c3 : hv t ln q = 59
        · rw [if_pos c3]
          have ho : (ordX true t ln nb (q + 1) x).2.2.2.2.2.2.2 = 0 ∧ (ordX true t ln nb (q + 1) x).2.2.1 = x.1 ∧ (ordX true t ln nb (q + 1) x).2.2.2.1 = x.2.1 ∧ (ordX true t ln nb (q + 1) x).2.2.2.2.2.2.1 = x.2.2.2.2.1 := by
            unfold ordX
            dsimp only
            rw [if_pos rfl, if_pos h]
            split <;> exact ⟨h, rfl, rfl, rfl⟩
          obtain ⟨i1, i2, i3⟩ := ih (ordX true t ln nb (q + 1) x).1 (sk t ln (ordX true t ln nb (q + 1) x).2.1) (ordX true t ln nb (q + 1) x).2.2 ho.1
          exact ⟨i1.trans ho.2.1, i2.trans ho.2.2.1, i3.trans ho.2.2.2⟩
        · rw [if_neg c3]; exact ⟨rfl, rfl, rfl⟩
    · rw [if_neg c1]; exact ⟨rfl, rfl, rfl⟩
theorem nI_m1 {n : Nat} (h : n < 2 ^ 31) : ¬ nI n = -1 := fun q => by
  have := congrArg Int32.toInt q
  rw [nI_toInt h] at this
  have : (n : Int) = -1 := this
  omega
theorem ord_L {t : Nat → Int32} {ln : Nat} (h120 : ln ≤ 120) (f : Nat) : ∀ (dn q : Nat) (td td' : Nat → Int32) (num : Int32) (sg : Int32) (r : Nat → Int32) (b : Nat → Int64), ResX t ln (xtL t ln f true q td) = -1 → SInv r b nb nl nc → r 2 = nI nb → r 3 = nI nl → ¬ mny sg = 0 → (∀ j, j < mny sg → td j = td' j) → q ≤ ln → ln + 1 ≤ q + f →
    Kp nb nl nc r (xoL t ln nb nl (f + 1) dn true q td sg r b).2.1 b (xoL t ln nb nl (f + 1) dn true q td sg r b).2.2 ∧
    (∃ ok q' num' td'' g', rtL true t ln nb f true (sk t ln q) ((p_carries r b nb sg td').2.1, (p_carries r b nb sg td').2.2, num, td', nI dn + bI (¬ (p_carries r b nb sg td').1 = 0), (p_carries r b nb sg td').1) = (ok, q', (xoL t ln nb nl (f + 1) dn true q td sg r b).2.1, (xoL t ln nb nl (f + 1) dn true q td sg r b).2.2, num', td'', nI (xoL t ln nb nl (f + 1) dn true q td sg r b).1, g')) := by
  induction f with
  | zero => intro dn q td td' num sg r b hR hS h2 h3 hs ha hq hf; omega
  | succ f ih =>
    intro dn q td td' num sg r b hR hS h2 h3 hs ha hq hf
    obtain ⟨c1, c2, c3⟩ := carr_x hS h2 h3 hs ha
    have hsk := sk_le (t := t) hq
    rw [xoL, if_pos rfl]
    by_cases c : (xcF r nb nl (jx sg) td).1 = 0
    · rw [if_pos c] at c1
      rw [if_pos c, c1]
      dsimp only
      rw [bI_t (show ¬ (1 : Int32) = 0 by decide), show nI dn + 1 = nI (dn + 1) from nI_add dn 1]
      have k2 := c2 c
      rw [xtL, if_pos rfl] at hR
      by_cases c5 : hv t ln (sk t ln q) = 59
      · rw [if_pos (show xP t ln q 59 from c5)] at hR
        rw [if_pos (show xP t ln q 59 from c5), rtL, if_pos rfl, if_neg (show ¬ hv t ln (sk t ln q) = -1 by rw [c5]; decide), if_pos c5]
        have hl := hv_lt c5 (by decide)
        have hx := xro_le t ln (sk t ln q + 1) td (by omega)
        have hok : (xro t ln (sk t ln q + 1) td).1 = true := by
          cases hh : (xro t ln (sk t ln q + 1) td).1 with
          | true => rfl
          | false =>
            rw [hh] at hR
            exfalso
            have : xtL t ln f false (xro t ln (sk t ln q + 1) td).2.1 (xro t ln (sk t ln q + 1) td).2.2 = (false, (xro t ln (sk t ln q + 1) td).2.1, (xro t ln (sk t ln q + 1) td).2.2) := by
              cases f with
              | zero => rfl
              | succ f => rw [xtL, if_neg Bool.false_ne_true]
            rw [this] at hR
            have hR' : nI (xro t ln (sk t ln q + 1) td).2.1 = -1 := hR
            exact nI_m1 (by omega) hR'
        have hQ := Qr_o (t := t) (ln := ln) (k := sk t ln q + 1) (by omega) num td td'
        rcases hQ with ⟨a1, a2, a3, a4⟩ | ⟨a1, -⟩ | ⟨a1, -⟩
        · have ho : ro t ln (sk t ln q + 1) num td' = (true, (xro t ln (sk t ln q + 1) td).2.1, (ro t ln (sk t ln q + 1) num td').2.2.1, (ro t ln (sk t ln q + 1) num td').2.2.2) := Prod.ext a2 (Prod.ext a3 rfl)
          rw [ordX_2 (x := ((xcD r b nb (jx sg) td).1, (xcD r b nb (jx sg) td).2, num, td', nI (dn + 1), 1)) ho (show ¬ (1 : Int32) = 0 by decide)]
          dsimp only
          rw [hok] at hR ⊢
          obtain ⟨i1, i2⟩ := ih (dn + 1) (xro t ln (sk t ln q + 1) td).2.1 (xro t ln (sk t ln q + 1) td).2.2 (ro t ln (sk t ln q + 1) num td').2.2.2 (ro t ln (sk t ln q + 1) num td').2.2.1 (hv t ln (sk t ln (sk t ln q + 1))) (xcD r b nb (jx sg) td).1 (xcD r b nb (jx sg) td).2 hR k2.1 ((k2.2.1 2 (by omega)).trans h2) ((k2.2.1 3 (by omega)).trans h3) (xro_ok hok) a4 hx.2 (by omega)
          exact ⟨k2.trans i1, i2⟩
        · rw [hok] at a1; exact absurd a1 (by decide)
        · rw [hok] at a1; exact absurd a1 (by decide)
      · rw [if_neg (show ¬ xP t ln q 59 from c5)] at hR
        rw [if_neg (show ¬ xP t ln q 59 from c5)]
        have c6 : hv t ln (sk t ln q) = -1 := by
          unfold ResX at hR
          dsimp only at hR
          rw [if_pos rfl] at hR
          by_cases c6 : hv t ln (sk t ln q) = -1
          · exact c6
          · rw [if_neg (show ¬ xP t ln (sk t ln q) (-1) by show ¬ hv t ln (sk t ln (sk t ln q)) = -1; rw [sk_sk hq]; exact c6)] at hR
            exact absurd hR (nI_m1 (by rw [sk_sk hq]; omega))
        rw [rtL, if_pos rfl, if_pos c6]
        exact ⟨k2, _, _, _, _, _, rfl⟩
    · rw [if_neg c] at c1
      rw [if_neg c, c1]
      dsimp only
      rw [bI_f (show ¬ ¬ (0 : Int32) = 0 by decide), show nI dn + 0 = nI dn from nI_add dn 0]
      refine ⟨c3, ?_⟩
      obtain ⟨s1, s2, s3⟩ := rt_stop (t := t) (ln := ln) (nb := nb) (f + 1) true (sk t ln q) ((xcF r nb nl (jx sg) td).2, b, num, td', nI dn, 0) rfl
      generalize rtL true t ln nb (f + 1) true (sk t ln q) ((xcF r nb nl (jx sg) td).2, b, num, td', nI dn, 0) = z at s1 s2 s3 ⊢
      obtain ⟨o1, q1, r1, b1, n1, t1, d1, g1⟩ := z
      dsimp only at s1 s2 s3
      subst s1 s2 s3
      exact ⟨_, _, _, _, _, rfl⟩
end OR
theorem rtL_le {rl : Bool} {t : Nat → Int32} {ln nb : Nat} (f : Nat) : ∀ (ok : Bool) (q : Nat) (x : XT), q ≤ ln → (rtL rl t ln nb f ok q x).2.1 ≤ ln := by
  induction f with
  | zero => intro ok q x h; exact h
  | succ f ih =>
    intro ok q x h
    rw [rtL]
    by_cases c1 : ok = true
    · rw [if_pos c1]
      by_cases c2 : hv t ln q = -1
      · rw [if_pos c2]; exact h
      · rw [if_neg c2]
        by_cases c3 : hv t ln q = 59
        · rw [if_pos c3]
          have hl := hv_lt c3 (by decide)
          have := ordX_le rl t ln nb (q + 1) x (by omega)
          exact ih _ _ _ (sk_le this.2).2
        · rw [if_neg c3]; exact h
    · rw [if_neg c1]; exact h
theorem kx_orders {K : KT} (h : KS K) {T : (Nat → Int32) × Int32} {ln : Nat} (h120 : ln ≤ 120) (P : Int32 × Int32 × (Nat → Int32) × Int32 × Int32) : XRel K (y_orders (Rw K) (Bw K) (nbK K) (nlK K) (ncK K) T.1 ln) (p_orders T ln K P) := by
  have hT := text_eq T.1 ln (nbK K) K.1 K.2.1 P.2.1 P.2.2.1
  have hz : (rt false T.1 ln (nbK K) K.1 K.2.1 P.2.1 P.2.2.1).2.1 ≤ ln := rtL_le _ _ _ _ (sk_le (ordX_le false T.1 ln (nbK K) 0 _ (Nat.zero_le _)).2).2
  unfold y_orders p_orders
  generalize rt false T.1 ln (nbK K) K.1 K.2.1 P.2.1 P.2.2.1 = z at hT hz
  unfold ResP at hT
  by_cases c : bB z.1 = 0
  · rw [if_pos c] at hT ⊢
    rw [if_neg (show ¬ xtf T.1 ln = -1 by rw [hT]; exact nI_m1 (by omega))]
    exact XRel.no h _
  · rw [if_neg c] at hT ⊢
    rw [if_pos hT]
    have hR : ResX T.1 ln (xtL T.1 ln (ln + 2) (xro T.1 ln 0 (fun _ => 0)).1 (xro T.1 ln 0 (fun _ => 0)).2.1 (xro T.1 ln 0 (fun _ => 0)).2.2) = -1 := hT
    have hx := xro_le T.1 ln 0 (fun _ => 0) (Nat.zero_le _)
    have hok : (xro T.1 ln 0 (fun _ => 0)).1 = true := by
      cases hh : (xro T.1 ln 0 (fun _ => 0)).1 with
      | true => rfl
      | false =>
        rw [hh, xtL, if_neg Bool.false_ne_true] at hR
        have hR' : nI (xro T.1 ln 0 (fun _ => 0)).2.1 = -1 := hR
        exact absurd hR' (nI_m1 (by omega))
    have hQ := Qr_o (t := T.1) (ln := ln) (k := 0) (Nat.zero_le _) z.2.2.2.2.1 (fun _ => 0) z.2.2.2.2.2.1
    rcases hQ with ⟨a1, a2, a3, a4⟩ | ⟨a1, -⟩ | ⟨a1, -⟩
    · have ho : ro T.1 ln 0 z.2.2.2.2.1 z.2.2.2.2.2.1 = (true, (xro T.1 ln 0 (fun _ => 0)).2.1, (ro T.1 ln 0 z.2.2.2.2.1 z.2.2.2.2.2.1).2.2.1, (ro T.1 ln 0 z.2.2.2.2.1 z.2.2.2.2.2.1).2.2.2) := Prod.ext a2 (Prod.ext a3 rfl)
      rw [hok] at hR
      obtain ⟨i1, ok, q', num', td'', g', i2⟩ := ord_L (nb := nbK K) (nl := nlK K) (nc := ncK K) h120 (ln + 2) 0 (xro T.1 ln 0 (fun _ => 0)).2.1 (xro T.1 ln 0 (fun _ => 0)).2.2 (ro T.1 ln 0 z.2.2.2.2.1 z.2.2.2.2.2.1).2.2.2 (ro T.1 ln 0 z.2.2.2.2.1 z.2.2.2.2.2.1).2.2.1 (hv T.1 ln (sk T.1 ln 0)) (Rw K) (Bw K) hR h.R (R2 h) (R3 h) (xro_ok hok) a4 hx.2 (by omega)
      have e : rt true T.1 ln (nbK K) (svK K).1 (svK K).2.1 z.2.2.2.2.1 z.2.2.2.2.2.1 = (ok, q', (xoZ T.1 ln (nbK K) (nlK K) (Rw K) (Bw K)).2.1, (xoZ T.1 ln (nbK K) (nlK K) (Rw K) (Bw K)).2.2, num', td'', nI (xoZ T.1 ln (nbK K) (nlK K) (Rw K) (Bw K)).1, g') := by
        unfold rt
        rw [ordX_2 (x := ((svK K).1, (svK K).2.1, z.2.2.2.2.1, z.2.2.2.2.2.1, 0, 1)) ho (show ¬ (1 : Int32) = 0 by decide)]
        dsimp only [xoZ]
        rw [hok]
        exact i2
      rw [e]
      dsimp only
      have i1' : Kp (nbK K) (nlK K) (ncK K) (Rw K) (xoZ T.1 ln (nbK K) (nlK K) (Rw K) (Bw K)).2.1 (Bw K) (xoZ T.1 ln (nbK K) (nlK K) (Rw K) (Bw K)).2.2 := by
        dsimp only [xoZ]
        rw [hok]
        exact i1
      exact XRel.yes h i1'.1 i1'.2.1 i1'.2.2
    · rw [hok] at a1; exact absurd a1 (by decide)
    · rw [hok] at a1; exact absurd a1 (by decide)
