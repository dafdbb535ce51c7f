/-! the class's step against the reference's: the relation, and the house's steps -/
set_option maxRecDepth 100000
def Hi (K K0 : KT) : Prop := (∀ j, 130 ≤ j → K.1 j = K0.1 j) ∧ (∀ j, 6 ≤ j → K.2.1 j = K0.2.1 j) ∧ K.2.2 = K0.2.2
/-- the places of a row that a State's cells are made of -/
def Agx (nb nl nc : Nat) (r r' : Nat → Int32) : Prop := (r 0 = r' 0 ∧ r 1 = r' 1 ∧ r 5 = r' 5) ∧ (∀ j, j < 4 → r (6 + j) = r' (6 + j)) ∧ (∀ i, i < nb → ∀ j, j < 9 → r (10 + 9 * i + j) = r' (10 + 9 * i + j)) ∧ (∀ i, i < nl → ∀ j, j < 4 → r (82 + 4 * i + j) = r' (82 + 4 * i + j)) ∧ (∀ i, i < nc → ∀ j, j < 6 → j ≠ 4 → r (94 + 6 * i + j) = r' (94 + 6 * i + j))
/-- a sound elevator, as to its present state -/
def KS (K : KT) : Prop := KOk K ∧ SInv K.1 K.2.1 (nbK K) (nlK K) (ncK K)
/-- what the class answers and leaves (y, from the row R of svK K) fits what the reference answers and leaves (p) -/
def XRel (K : KT) (y : Int32 × XO) (p : Int32 × KT) : Prop :=
  y.1 = p.1 ∧ KS p.2 ∧ y.2.2.1 = (nbK p.2, nlK p.2, ncK p.2) ∧ Agx (nbK p.2) (nlK p.2) (ncK p.2) y.2.2.2.1 p.2.1 ∧ (∀ j, j < 6 → y.2.2.2.2 j = p.2.2.1 j) ∧ Hi p.2 (if y.2.1 = true then svK K else K)
abbrev Rw (K : KT) : Nat → Int32 := (svK K).1
abbrev Bw (K : KT) : Nat → Int64 := (svK K).2.1
theorem Agx.refl (nb nl nc : Nat) (r : Nat → Int32) : Agx nb nl nc r r := ⟨⟨rfl, rfl, rfl⟩, fun _ _ => rfl, fun _ _ _ _ => rfl, fun _ _ _ _ => rfl, fun _ _ _ _ _ => rfl⟩
theorem Agx.lo {nb nl nc : Nat} {r r' : Nat → Int32} (hb : nb ≤ 8) (hl : nl ≤ 3) (hc : nc ≤ 6) (h : ∀ j, j < 130 → r j = r' j) : Agx nb nl nc r r' :=
  ⟨⟨h 0 (by decide), h 1 (by decide), h 5 (by decide)⟩, fun j hj => h _ (by omega), fun i hi j hj => h _ (by omega), fun i hi j hj => h _ (by omega), fun i hi j hj _ => h _ (by omega)⟩
theorem SInv.low {r r' : Nat → Int32} {b b' : Nat → Int64} {nb nl nc : Nat} (h : SInv r b nb nl nc) (e : ∀ j, j < 130 → r' j = r j) (eb : ∀ j, j < 6 → b' j = b j) : SInv r' b' nb nl nc := by
  have hn := h.1
  exact h.congr (e 0 (by decide)) (fun j h1 h2 => e j (by omega)) (fun i hi j hj => e _ (by omega)) (fun i hi j hj => e _ (by omega)) (fun i hi j hj => e _ (by omega)) (fun j hj => eb j (by omega))
section RL
variable {K : KT}
theorem KS.R (h : KS K) : SInv (Rw K) (Bw K) (nbK K) (nlK K) (ncK K) := h.2.low (fun _ hj => svK_lo K hj) (fun _ hj => svK_loB K hj)
theorem svN_le {n : Nat} (h : n ≤ 5) : svN n ≤ 5 := by unfold svN; split <;> omega
theorem sv_ok (h : KS K) : (svK K).2.2.1 = nI (svN (svOf K)) ∧ svN (svOf K) ≤ 5 := ⟨rfl, svN_le h.1.2.2.2.2⟩
theorem KOk.mk' {K' : KT} {nb nl nc sv : Nat} (h2 : K'.1 2 = nI nb) (hb : nb ≤ 8) (h3 : K'.1 3 = nI nl) (hl : nl ≤ 3) (h4 : K'.1 4 = nI nc) (hc : nc ≤ 6) (h5 : K'.2.2.1 = nI sv) (hs : sv ≤ 5) : KOk K' ∧ nbK K' = nb ∧ nlK K' = nl ∧ ncK K' = nc ∧ svOf K' = sv := by
  have eb : nbK K' = nb := by unfold nbK; rw [h2, nI_clamp (by omega)]
  have el : nlK K' = nl := by unfold nlK; rw [h3, nI_clamp (by omega)]
  have ec : ncK K' = nc := by unfold ncK; rw [h4, nI_clamp (by omega)]
  have es : svOf K' = sv := by unfold svOf; rw [h5, nI_clamp (by omega)]
  exact ⟨⟨⟨by rw [eb]; exact h2, by omega⟩, ⟨by rw [el]; exact h3, by omega⟩, ⟨by rw [ec]; exact h4, by omega⟩, ⟨by rw [es]; exact h5, by omega⟩⟩, eb, el, ec, es⟩
/-- nothing is changed -/
theorem XRel.no (h : KS K) (c : Int32) : XRel K (c, false, (nbK K, nlK K, ncK K), Rw K, Bw K) (c, K) :=
  ⟨rfl, h, rfl, Agx.lo h.1.1.2 h.1.2.1.2 h.1.2.2.1.2 (fun _ hj => svK_lo K hj), fun _ hj => svK_loB K hj, ⟨fun _ _ => rfl, fun _ _ => rfl, rfl⟩⟩
/-- the last refusal is noted -/
theorem XRel.code (h : KS K) (c x : Int32) : XRel K (c, false, (nbK K, nlK K, ncK K), upd (Rw K) 5 x, Bw K) (c, (upd K.1 5 x, K.2)) := by
  refine ⟨rfl, ⟨h.1, h.2.lo (by decide) (by decide)⟩, rfl, Agx.lo h.1.1.2 h.1.2.1.2 h.1.2.2.1.2 (fun j hj => ?_), fun _ hj => svK_loB K hj, ⟨fun j hj => upd_ne (by omega), fun _ _ => rfl, rfl⟩⟩
  show upd (Rw K) 5 x j = upd K.1 5 x j
  by_cases q : j = 5
  · subst q; rw [upd_eq, upd_eq]
  · rw [upd_ne q, upd_ne q]; exact svK_lo K hj
/-- the same row on both sides, counts unchanged -/
theorem XRel.yes (h : KS K) {c : Int32} {r' : Nat → Int32} {b' : Nat → Int64} (hi : SInv r' b' (nbK K) (nlK K) (ncK K)) (e : ∀ j, j = 2 ∨ j = 3 ∨ j = 4 ∨ 130 ≤ j → r' j = Rw K j) (eb : ∀ j, 6 ≤ j → b' j = Bw K j) : XRel K (c, true, (nbK K, nlK K, ncK K), r', b') (c, (r', b', (svK K).2.2)) := by
  obtain ⟨k, eb', el, ec, es⟩ := KOk.mk' (K' := (r', b', (svK K).2.2)) ((e 2 (by omega)).trans (svK_2 h.1)) h.1.1.2 ((e 3 (by omega)).trans (svK_3 h.1)) h.1.2.1.2 ((e 4 (by omega)).trans (svK_4 h.1)) h.1.2.2.1.2 (sv_ok h).1 (sv_ok h).2
  refine ⟨rfl, ⟨k, ?_⟩, ?_, ?_, fun _ _ => rfl, ⟨fun j hj => e j (by omega), eb, rfl⟩⟩
  · rw [eb', el, ec]; exact hi
  · dsimp only; rw [eb', el, ec]
  · exact Agx.refl _ _ _ _
theorem SInv.bin0 {r : Nat → Int32} {b : Nat → Int64} {nb nl nc : Nat} (h : SInv r b nb nl nc) {i : Nat} {v : Nat → Int32} (hi : i < nb) (hv : BinOk v) (e3 : v 3 = r (10 + 9 * i + 3)) : SInv (pb r i v) b nb nl nc := by
  obtain ⟨k1, k2, k3, k4⟩ := h.2.2.2.2.2.2
  refine h.bin hi hv ⟨by rw [pb_out _ (by omega)]; exact k1, k2, k3, ?_⟩
  rw [k4]
  refine sumI_congr (fun j hj => ?_)
  by_cases q : j = i
  · subst q; rw [pb_at _ _ _ (by decide)]; exact e3.symm
  · rw [pb_out _ (by omega)]
theorem pg_ext {r : Nat → Int32} {i : Nat} {v w : Nat → Int32} (h : ∀ j, j < 4 → v j = w j) : pg4 r i v = pg4 r i w := by
  funext j
  unfold pg4
  split
  · exact h _ (by omega)
  · rfl
theorem pb_ext {r : Nat → Int32} {i : Nat} {v w : Nat → Int32} (h : ∀ j, j < 9 → v j = w j) : pb r i v = pb r i w := by
  funext j
  unfold pb
  split
  · exact h _ (by omega)
  · rfl
theorem pc_ext {r : Nat → Int32} {i : Nat} {v w : Nat → Int32} (h : ∀ j, j < 6 → v j = w j) : pc6 r i v = pc6 r i w := by
  funext j
  unfold pc6
  split
  · exact h _ (by omega)
  · rfl
theorem pc_o {r : Nat → Int32} {i j : Nat} (v : Nat → Int32) (h : j < 94 + 6 * i ∨ 94 + 6 * i + 6 ≤ j) : pc6 r i v j = r j := by unfold pc6; rw [if_neg (by omega)]
theorem pc_at (r : Nat → Int32) (i : Nat) (v : Nat → Int32) {k : Nat} (hk : k < 6) : pc6 r i v (94 + 6 * i + k) = v k := by
  unfold pc6
  rw [if_pos (by omega), show 94 + 6 * i + k - (94 + 6 * i) = k by omega]
theorem pc_upd (r : Nat → Int32) (i : Nat) (v : Nat → Int32) {k : Nat} (hk : k < 6) (x : Int32) : upd (pc6 r i v) (94 + 6 * i + k) x = pc6 r i (upd v k x) := by
  funext j
  by_cases q : j = 94 + 6 * i + k
  · subst q; rw [upd_eq, pc_at _ _ _ hk, upd_eq]
  · rw [upd_ne q]
    unfold pc6
    by_cases c : 94 + 6 * i ≤ j ∧ j < 94 + 6 * i + 6
    · rw [if_pos c, if_pos c, upd_ne (by omega)]
    · rw [if_neg c, if_neg c]
theorem pc_self (r : Nat → Int32) (i : Nat) : pc6 r i (tv r i) = r := by
  funext j
  unfold pc6
  by_cases c : 94 + 6 * i ≤ j ∧ j < 94 + 6 * i + 6
  · rw [if_pos c]; show r (94 + 6 * i + (j - (94 + 6 * i))) = r j
    rw [show 94 + 6 * i + (j - (94 + 6 * i)) = j by omega]
  · rw [if_neg c]
theorem z9_pb (r : Nat → Int32) (b : Nat) {k : Nat} (hk : k ≤ 9) : z9 r b k = pb r b (fun j => if j < k then 0 else r (10 + 9 * b + j)) := by
  induction k with
  | zero => exact (pb_self r b).symm.trans (pb_ext (fun j _ => (if_neg (by omega)).symm))
  | succ k ih =>
    unfold z9
    rw [ih (by omega), pb_upd _ _ _ (by omega)]
    refine pb_ext (fun j hj => ?_)
    by_cases q : j = k
    · subst q; rw [upd_eq, if_pos (by omega)]
    · rw [upd_ne q]
      by_cases c : j < k
      · rw [if_pos c, if_pos (by omega)]
      · rw [if_neg c, if_neg (by omega)]
theorem and1 (z : Int32) : z &&& 1 = bI (z &&& 1 = 1) := by
  have : z &&& 1 = 0 ∨ z &&& 1 = 1 := by
    have e : (z &&& 1).toBitVec = 0#32 ∨ (z &&& 1).toBitVec = 1#32 := by
      rw [Int32.toBitVec_and]
      show z.toBitVec &&& 1#32 = 0#32 ∨ z.toBitVec &&& 1#32 = 1#32
      rw [BitVec.and_one_eq_setWidth_ofBool_getLsbD]
      cases z.toBitVec.getLsbD 0
      · left; decide
      · right; decide
    rcases e with e | e
    · left; exact Int32.toBitVec_inj.mp e
    · right; exact Int32.toBitVec_inj.mp e
  rcases this with e | e
  · rw [e]; decide
  · rw [e]; decide
theorem kx_setDust (h : KS K) (lm : Int32) : XRel K (y_setDust (Rw K) (Bw K) (nbK K) (nlK K) (ncK K) lm) (p_setDustLimit K lm) := by
  unfold y_setDust p_setDustLimit
  by_cases c : 100 ≤ lm ∧ lm ≤ 10000
  · rw [if_pos c, if_pos c]
    exact XRel.yes h (h.R.lo (by decide) (by decide)) (fun j hj => upd_ne (by omega)) (fun _ _ => rfl)
  · rw [if_neg c, if_neg c]; exact XRel.no h _
theorem kx_setPrice (h : KS K) (kd pr : Int32) : XRel K (y_setPrice (Rw K) (Bw K) (nbK K) (nlK K) (ncK K) kd pr) (p_setPrice K kd pr) := by
  unfold y_setPrice p_setPrice
  by_cases c : 0 ≤ kd ∧ kd ≤ 3
  · rw [if_pos c, if_pos c]
    by_cases c2 : 1 ≤ pr ∧ pr ≤ 1000
    · rw [if_pos c2, if_pos c2]
      obtain ⟨-, hk⟩ := in_c (n := 3) rfl (by decide) c
      refine XRel.yes h ?_ (fun j hj => upd_ne (by omega)) (fun _ _ => rfl)
      obtain ⟨hn, hb, hl, hco, hpr, hc, hk1, hk2, hk3, hk4⟩ := h.R
      refine ⟨hn, fun j hj => (hb j hj).congr (fun k hk => (upd_ne (by omega)).symm), fun j hj => ?_, fun j hj => ?_, fun k hk => ?_, ?_, ?_, hk2, hk3, ?_⟩
      · show 1 ≤ (upd (Rw K) _ pr (82 + 4 * j + 0)).toInt ∧ (upd (Rw K) _ pr (82 + 4 * j + 0)).toInt ≤ 500
        rw [upd_ne (by omega)]; exact hl j hj
      · have e : ∀ k, k < 6 → tv (upd (Rw K) (6 + kd.toNatClampNeg) pr) j k = tv (Rw K) j k := fun k hk => upd_ne (by omega)
        have := hco j hj
        unfold ConOk at this ⊢
        rw [e 0 (by decide), e 1 (by decide), e 2 (by decide), e 3 (by decide), e 4 (by decide), e 5 (by decide)]; exact this
      · by_cases q : k = kd.toNatClampNeg
        · subst q; rw [upd_eq]; exact ⟨i32_le.mp c2.1, i32_le.mp c2.2⟩
        · rw [upd_ne (by omega)]; exact hpr k hk
      · rw [upd_ne (by omega)]; exact hc
      · rw [upd_ne (by omega)]; exact hk1
      · rw [hk4]; exact sumI_congr (fun i hi => (upd_ne (by omega)).symm)
    · rw [if_neg c2, if_neg c2]; exact XRel.no h _
  · rw [if_neg c, if_neg c]; exact XRel.no h _
theorem kx_setSpeed (h : KS K) (le sp : Int32) : XRel K (y_setSpeed (Rw K) (Bw K) (nbK K) (nlK K) (ncK K) le sp) (p_setSpeed K le sp) := by
  unfold y_setSpeed p_setSpeed
  by_cases c : q_n (nlK K) le
  · have c' : q_leg K.1 le := by unfold q_leg; rw [h.1.2.1.1]; exact c
    rw [if_pos c, if_pos c']
    by_cases c2 : 1 ≤ sp ∧ sp ≤ 500
    · rw [if_pos c2, if_pos c2]
      have hl := (isB_c h.1.2.1.1 (by have := h.1.2.1.2; omega) c').2
      have hn := h.1.2.1.2
      refine XRel.yes h ?_ (fun j hj => upd_ne (by omega)) (fun _ _ => rfl)
      rw [upd_pg _ _ (k := 0) (by decide)]
      exact h.R.leg hl ⟨i32_le.mp c2.1, i32_le.mp c2.2⟩
    · rw [if_neg c2, if_neg c2]; exact XRel.no h _
  · have c' : ¬ q_leg K.1 le := by unfold q_leg; rw [h.1.2.1.1]; exact c
    rw [if_neg c, if_neg c']; exact XRel.no h _
theorem kx_spout (h : KS K) (le bi : Int32) : XRel K (y_spout (Rw K) (Bw K) (nbK K) (nlK K) (ncK K) le bi) (p_spout K le bi) := by
  unfold y_spout p_spout
  have el : q_leg K.1 le = q_n (nlK K) le := by unfold q_leg; rw [h.1.2.1.1]
  have eb : q_bin K.1 bi = q_n (nbK K) bi := by unfold q_bin; rw [h.1.1.1]
  by_cases c : q_n (nlK K) le
  · by_cases c2 : q_n (nbK K) bi
    · rw [if_pos ⟨c, c2⟩, if_pos (el ▸ c), if_pos (eb ▸ c2)]
      have hl := (isB_c h.1.2.1.1 (by have := h.1.2.1.2; omega) (el ▸ c : q_leg K.1 le)).2
      have hn := h.1.2.1.2
      dsimp only
      unfold q_leads
      rw [← and1]
      refine XRel.yes h ?_ (fun j hj => upd_ne (by omega)) (fun _ _ => rfl)
      rw [upd_pg _ _ (k := 1) (by decide)]
      exact h.R.leg hl (h.R.2.2.1 _ hl)
    · rw [if_neg (fun q => c2 q.2), if_pos (el ▸ c), if_neg (eb ▸ c2)]; exact XRel.no h _
  · rw [if_neg (fun q => c q.1), if_neg (el ▸ c)]; exact XRel.no h _
theorem kx_setBand (h : KS K) (bi lo hi : Int32) : XRel K (y_setBand (Rw K) (Bw K) (nbK K) (nlK K) (ncK K) bi lo hi) (p_setBand K bi lo hi) := by
  unfold y_setBand p_setBand
  by_cases c : q_n (nbK K) bi
  · have c' : q_bin K.1 bi := by unfold q_bin; rw [h.1.1.1]; exact c
    rw [if_pos c, if_pos c']
    by_cases c2 : 0 ≤ lo ∧ lo ≤ 400
    · rw [if_pos c2, if_pos c2]
      by_cases c3 : lo ≤ hi ∧ hi ≤ 400
      · rw [if_pos c3, if_pos c3]
        have hl := (isB_c h.1.1.1 (by have := h.1.1.2; omega) c').2
        have hn := h.1.1.2
        refine XRel.yes h ?_ (fun j hj => (upd_ne (by omega)).trans (upd_ne (by omega))) (fun _ _ => rfl)
        rw [upd_pb _ _ (k := 1) (by decide), pb_upd _ _ _ (by decide)]
        exact h.R.bin0 hl (h.R.2.1 _ hl) rfl
      · rw [if_neg c3, if_neg c3]; exact XRel.no h _
    · rw [if_neg c2, if_neg c2]; exact XRel.no h _
  · have c' : ¬ q_bin K.1 bi := by unfold q_bin; rw [h.1.1.1]; exact c
    rw [if_neg c, if_neg c']; exact XRel.no h _
end RL
