/-! adding bins, legs and contracts -/
set_option maxRecDepth 100000
section AD
variable {K : KT}
theorem SInv.addBin {r : Nat → Int32} {b : Nat → Int64} {nb nl nc : Nat} (h : SInv r b nb nl nc) (hn : nb + 1 ≤ 8) {v : Nat → Int32} (hv : BinOk v) (h3 : v 3 = 0) : SInv (pb r nb v) b (nb + 1) nl nc := by
  obtain ⟨⟨n1, n2, n3⟩, hb, hl, hco, hpr, hc, hk1, hk2, hk3, hk4⟩ := h
  refine ⟨⟨hn, n2, n3⟩, fun j hj => ?_, fun j hj => ?_, fun j hj => ?_, fun k hk => ?_, ?_, ?_, hk2, hk3, ?_⟩
  · by_cases q : j = nb
    · subst q; exact hv.congr (fun k hk => (pb_at _ _ _ hk).symm)
    · exact (hb j (by omega)).congr (fun k hk => (pb_out _ (by omega)).symm)
  · show 1 ≤ (pb r nb v (82 + 4 * j + 0)).toInt ∧ (pb r nb v (82 + 4 * j + 0)).toInt ≤ 500
    rw [pb_out _ (by omega)]; exact hl j hj
  · have e : ∀ k, k < 6 → tv (pb r nb v) j k = tv r j k := fun k hk => pb_out _ (by omega)
    have := hco j hj
    unfold ConOk at this ⊢
    rw [e 0 (by decide), e 1 (by decide), e 2 (by decide), e 3 (by decide), e 4 (by decide), e 5 (by decide)]; exact this
  · rw [pb_out _ (by omega)]; exact hpr k hk
  · rw [pb_out _ (by omega)]; exact hc
  · rw [pb_out _ (by omega)]; exact hk1
  · rw [hk4, sumI, pb_at _ _ _ (by decide), h3]
    show _ = _ + (0 : Int)
    rw [Int.add_zero]
    exact sumI_congr (fun i hi => (pb_out _ (by omega)).symm)
theorem SInv.addLeg {r : Nat → Int32} {b : Nat → Int64} {nb nl nc : Nat} (h : SInv r b nb nl nc) (hn : nl + 1 ≤ 3) {v : Nat → Int32} (hv : LegOk v) : SInv (pg4 r nl v) b nb (nl + 1) nc := by
  obtain ⟨⟨n1, n2, n3⟩, hb, hl, hco, hpr, hc, hk1, hk2, hk3, hk4⟩ := h
  refine ⟨⟨n1, hn, n3⟩, fun j hj => (hb j hj).congr (fun k hk => (pg_out _ (by omega)).symm), fun j hj => ?_, fun j hj => ?_, fun k hk => ?_, ?_, ?_, hk2, hk3, ?_⟩
  · by_cases q : j = nl
    · subst q
      show 1 ≤ (pg4 r j v (82 + 4 * j + 0)).toInt ∧ (pg4 r j v (82 + 4 * j + 0)).toInt ≤ 500
      rw [pg_at _ _ _ (by decide)]; exact hv
    · show 1 ≤ (pg4 r nl v (82 + 4 * j + 0)).toInt ∧ (pg4 r nl v (82 + 4 * j + 0)).toInt ≤ 500
      rw [pg_out _ (by omega)]; exact hl j (by omega)
  · have e : ∀ k, k < 6 → tv (pg4 r nl v) j k = tv r j k := fun k hk => pg_out _ (by omega)
    have := hco j hj
    unfold ConOk at this ⊢
    rw [e 0 (by decide), e 1 (by decide), e 2 (by decide), e 3 (by decide), e 4 (by decide), e 5 (by decide)]; exact this
  · rw [pg_out _ (by omega)]; exact hpr k hk
  · rw [pg_out _ (by omega)]; exact hc
  · rw [pg_out _ (by omega)]; exact hk1
  · rw [hk4]; exact sumI_congr (fun i hi => (pg_out _ (by omega)).symm)
theorem SInv.addCon {r : Nat → Int32} {b : Nat → Int64} {nb nl nc n' i : Nat} (h : SInv r b nb nl nc) (hn : n' ≤ 6) (hi : ∀ j, j < n' → j ≠ i → j < nc) {v : Nat → Int32} (hv : ConOk v) : SInv (pc6 r i v) b nb nl n' := by
  obtain ⟨⟨n1, n2, n3⟩, hb, hl, hco, hpr, hc, hk1, hk2, hk3, hk4⟩ := h
  refine ⟨⟨n1, n2, hn⟩, fun j hj => (hb j hj).congr (fun k hk => (pc_o _ (by omega)).symm), fun j hj => ?_, fun j hj => ?_, fun k hk => ?_, ?_, ?_, hk2, hk3, ?_⟩
  · show 1 ≤ (pc6 r i v (82 + 4 * j + 0)).toInt ∧ (pc6 r i v (82 + 4 * j + 0)).toInt ≤ 500
    rw [pc_o _ (by omega)]; exact hl j hj
  · by_cases q : j = i
    · subst q
      have e : ∀ k, k < 6 → tv (pc6 r j v) j k = v k := fun k hk => pc_at _ _ _ hk
      unfold ConOk at hv ⊢
      rw [e 0 (by decide), e 1 (by decide), e 2 (by decide), e 3 (by decide), e 4 (by decide), e 5 (by decide)]; exact hv
    · have e : ∀ k, k < 6 → tv (pc6 r i v) j k = tv r j k := fun k hk => pc_o _ (by omega)
      have := hco j (hi j hj q)
      unfold ConOk at this ⊢
      rw [e 0 (by decide), e 1 (by decide), e 2 (by decide), e 3 (by decide), e 4 (by decide), e 5 (by decide)]; exact this
  · rw [pc_o _ (by omega)]; exact hpr k hk
  · rw [pc_o _ (by omega)]; exact hc
  · rw [pc_o _ (by omega)]; exact hk1
  · rw [hk4]; exact sumI_congr (fun i hi => (pc_o _ (by omega)).symm)
/-- the class's row ry, the reference's the same but for a count -/
theorem XRel.more (h : KS K) {c : Int32} {nb nl nc q : Nat} {ry : Nat → Int32} {x : Int32} (hq : 2 ≤ q ∧ q ≤ 4) (hi : SInv ry (Bw K) nb nl nc) (e2 : upd ry q x 2 = nI nb) (e3 : upd ry q x 3 = nI nl) (e4 : upd ry q x 4 = nI nc) (e : ∀ j, 130 ≤ j → ry j = Rw K j) : XRel K (c, true, (nb, nl, nc), ry, Bw K) (c, (upd ry q x, (svK K).2)) := by
  obtain ⟨n1, n2, n3⟩ := hi.1
  obtain ⟨k, eb', el, ec, es⟩ := KOk.mk' (K' := (upd ry q x, (svK K).2)) e2 n1 e3 n2 e4 n3 (sv_ok h).1 (sv_ok h).2
  refine ⟨rfl, ⟨k, ?_⟩, ?_, ?_, fun _ _ => rfl, ⟨fun j hj => ?_, fun _ _ => rfl, rfl⟩⟩
  · rw [eb', el, ec]; exact hi.lo (by omega) (by omega)
  · dsimp only; rw [eb', el, ec]
  · rw [eb', el, ec]
    refine ⟨⟨(upd_ne (by omega)).symm, (upd_ne (by omega)).symm, (upd_ne (by omega)).symm⟩, fun j hj => (upd_ne (by omega)).symm, fun i hi j hj => (upd_ne (by omega)).symm, fun i hi j hj => (upd_ne (by omega)).symm, fun i hi j hj _ => (upd_ne (by omega)).symm⟩
  · show upd ry q x j = Rw K j
    rw [upd_ne (by omega)]; exact e j hj
theorem kx_addBin (h : KS K) (cap : Int32) : XRel K (y_addBin (Rw K) (Bw K) (nbK K) (nlK K) (ncK K) cap) (p_addBin K cap) := by
  unfold y_addBin p_addBin
  by_cases c : 10 ≤ cap ∧ cap ≤ 20000
  · rw [if_pos c, if_pos c, h.1.1.1]
    by_cases c2 : nI (nbK K) = 8
    · rw [if_pos c2, if_pos c2]; exact XRel.no h _
    · rw [if_neg c2, if_neg c2]
      have hn := h.1.1.2
      have hl := h.1.2.1.2
      have hc := h.1.2.2.1.2
      have hn' : nbK K + 1 ≤ 8 := by
        rcases Nat.lt_or_ge (nbK K) 8 with q | q
        · omega
        · exact absurd (show nI (nbK K) = 8 by rw [show nbK K = 8 by omega]; rfl) c2
      dsimp only
      have e : upd (upd (upd (z9 (Rw K) (nbK K) 9) (10 + 9 * nbK K + 0) cap) (10 + 9 * nbK K + 2) 400) (10 + 9 * nbK K + 5) (-1) = pb (Rw K) (nbK K) (b_new cap) := by
        rw [z9_pb _ _ (Nat.le_refl 9), pb_upd _ _ _ (by decide), pb_upd _ _ _ (by decide), pb_upd _ _ _ (by decide)]
        refine pb_ext (fun j hj => ?_)
        unfold b_new
        by_cases j0 : j = 0
        · subst j0; rfl
        · rw [upd_ne (k := 0) j0]
          by_cases j5 : j = 5
          · subst j5; rfl
          · rw [upd_ne j5, upd_ne j5]
            by_cases j2 : j = 2
            · subst j2; rfl
            · rw [upd_ne j2, upd_ne j2, upd_ne j0, if_pos hj]
      rw [show (svK K).1 = Rw K from rfl, e, show nI (nbK K + 1) - 1 = nI (nbK K) from pk_sub (b := 1) (by omega)]
      have hv : BinOk (b_new cap) := by
        have c1 := i32_le.mp c.1
        have c2 := i32_le.mp c.2
        have v3 : (b_new cap 3).toInt = 0 := rfl
        have v4 : (b_new cap 4).toInt = 0 := rfl
        have v6 : (b_new cap 6).toInt = 0 := rfl
        have v0 : (b_new cap 0).toInt = cap.toInt := rfl
        have c1' : 10 ≤ cap.toInt := c1
        have c2' : cap.toInt ≤ 20000 := c2
        exact ⟨⟨by omega, by omega, by omega, by omega⟩, ⟨by omega, by omega⟩, ⟨by omega, by omega⟩, fun _ => ⟨rfl, rfl⟩, fun q => absurd rfl q, show (0 : Int32) - 0 = 0 by decide⟩
      refine XRel.more h (by omega) (h.R.addBin hn' hv rfl) ?_ ?_ ?_ (fun j hj => pb_out _ (by omega))
      · rw [upd_eq, pb_out _ (by omega), show Rw K 2 = _ from svK_2 h.1]; exact nI_add _ 1
      · rw [upd_ne (by decide), pb_out _ (by omega)]; exact svK_3 h.1
      · rw [upd_ne (by decide), pb_out _ (by omega)]; exact svK_4 h.1
  · rw [if_neg c, if_neg c]; exact XRel.no h _
theorem kx_addLeg (h : KS K) (sp : Int32) : XRel K (y_addLeg (Rw K) (Bw K) (nbK K) (nlK K) (ncK K) sp) (p_addLeg K sp) := by
  unfold y_addLeg p_addLeg
  by_cases c : 1 ≤ sp ∧ sp ≤ 500
  · rw [if_pos c, if_pos c, h.1.2.1.1]
    by_cases c2 : nI (nlK K) = 3
    · rw [if_pos c2, if_pos c2]; exact XRel.no h _
    · rw [if_neg c2, if_neg c2]
      have hn := h.1.1.2
      have hl := h.1.2.1.2
      have hc := h.1.2.2.1.2
      have hn' : nlK K + 1 ≤ 3 := by
        rcases Nat.lt_or_ge (nlK K) 3 with q | q
        · omega
        · exact absurd (show nI (nlK K) = 3 by rw [show nlK K = 3 by omega]; rfl) c2
      dsimp only
      have e : upd (upd (upd (upd (Rw K) (82 + 4 * nlK K) sp) (82 + 4 * nlK K + 1) 0) (82 + 4 * nlK K + 2) 0) (82 + 4 * nlK K + 3) 0 = pg4 (Rw K) (nlK K) (l_new sp) := by
        rw [show upd (Rw K) (82 + 4 * nlK K) sp = pg4 (Rw K) (nlK K) (upd (gv (Rw K) (nlK K)) 0 sp) from upd_pg _ _ (k := 0) (by decide) _, pg_upd _ _ _ (by decide), pg_upd _ _ _ (by decide), pg_upd _ _ _ (by decide)]
        refine pg_ext (fun j hj => ?_)
        match j, hj with
        | 0, _ => rfl
        | 1, _ => rfl
        | 2, _ => rfl
        | 3, _ => rfl
      rw [show (svK K).1 = Rw K from rfl, e]
      have e3 : upd (pg4 (Rw K) (nlK K) (l_new sp)) 3 (pg4 (Rw K) (nlK K) (l_new sp) 3 + 1) 3 = nI (nlK K + 1) := by
        rw [upd_eq, pg_out _ (by omega), show Rw K 3 = _ from svK_3 h.1]; exact nI_add _ 1
      rw [e3]
      refine XRel.more h (by omega) (h.R.addLeg hn' ⟨i32_le.mp c.1, i32_le.mp c.2⟩) ?_ e3 ?_ (fun j hj => pg_out _ (by omega))
      · rw [upd_ne (by decide), pg_out _ (by omega)]; exact svK_2 h.1
      · rw [upd_ne (by decide), pg_out _ (by omega)]; exact svK_4 h.1
  · rw [if_neg c, if_neg c]; exact XRel.no h _
theorem kx_addCon (h : KS K) (k1 k2 k3 k4 : Int32) : XRel K (y_addCon (Rw K) (Bw K) (nbK K) (nlK K) (ncK K) k1 k2 k3 k4) (p_addContract K k1 k2 k3 k4) := by
  unfold y_addCon p_addContract
  by_cases c1 : 0 ≤ k1 ∧ k1 ≤ 3
  · rw [if_pos c1, if_pos c1]
    by_cases c2 : 1 ≤ k2 ∧ k2 ≤ 20000
    · rw [if_pos c2, if_pos c2]
      by_cases c3 : 50 ≤ k3 ∧ k3 ≤ 400
      · rw [if_pos c3, if_pos c3]
        by_cases c4 : 1 ≤ k4 ∧ k4 ≤ 2000
        · rw [if_pos c4, if_pos c4, h.1.2.2.1.1]
          by_cases c5 : nI (ncK K) = 6
          · rw [if_pos c5, if_pos c5]; exact XRel.no h _
          · rw [if_neg c5, if_neg c5]
            have hn := h.1.1.2
            have hl := h.1.2.1.2
            have hc := h.1.2.2.1.2
            have hn' : ncK K + 1 ≤ 6 := by
              rcases Nat.lt_or_ge (ncK K) 6 with q | q
              · omega
              · exact absurd (show nI (ncK K) = 6 by rw [show ncK K = 6 by omega]; rfl) c5
            dsimp only
            have e : upd (upd (upd (upd (upd (upd (Rw K) (94 + 6 * ncK K) k1) (94 + 6 * ncK K + 1) k2) (94 + 6 * ncK K + 2) k3) (94 + 6 * ncK K + 3) k4) (94 + 6 * ncK K + 4) 1) (94 + 6 * ncK K + 5) (-1) = pc6 (Rw K) (ncK K) (c_new k1 k2 k3 k4) := by
              rw [show upd (Rw K) (94 + 6 * ncK K) k1 = pc6 (Rw K) (ncK K) (upd (tv (Rw K) (ncK K)) 0 k1) from by
                have := pc_upd (Rw K) (ncK K) (tv (Rw K) (ncK K)) (k := 0) (by decide) k1
                rw [pc_self] at this
                exact this, pc_upd _ _ _ (by decide), pc_upd _ _ _ (by decide), pc_upd _ _ _ (by decide), pc_upd _ _ _ (by decide), pc_upd _ _ _ (by decide)]
              refine pc_ext (fun j hj => ?_)
              match j, hj with
              | 0, _ => rfl
              | 1, _ => rfl
              | 2, _ => rfl
              | 3, _ => rfl
              | 4, _ => rfl
              | 5, _ => rfl
            rw [show (svK K).1 = Rw K from rfl, e]
            have e4 : upd (pc6 (Rw K) (ncK K) (c_new k1 k2 k3 k4)) 4 (pc6 (Rw K) (ncK K) (c_new k1 k2 k3 k4) 4 + 1) 4 = nI (ncK K + 1) := by
              rw [upd_eq, pc_o _ (by omega), show Rw K 4 = _ from svK_4 h.1]; exact nI_add _ 1
            rw [e4]
            have hv : ConOk (c_new k1 k2 k3 k4) := ⟨⟨i32_le.mp c1.1, i32_le.mp c1.2⟩, ⟨i32_le.mp c2.1, i32_le.mp c2.2⟩, ⟨i32_le.mp c3.1, i32_le.mp c3.2⟩, ⟨i32_le.mp c4.1, i32_le.mp c4.2⟩, Or.inl ⟨rfl, rfl⟩⟩
            refine XRel.more h (by omega) (h.R.addCon (i := ncK K) hn' (fun j hj hne => by omega) hv) ?_ ?_ e4 (fun j hj => pc_o _ (by omega))
            · rw [upd_ne (by decide), pc_o _ (by omega)]; exact svK_2 h.1
            · rw [upd_ne (by decide), pc_o _ (by omega)]; exact svK_3 h.1
        · rw [if_neg c4, if_neg c4]; exact XRel.no h _
      · rw [if_neg c3, if_neg c3]; exact XRel.no h _
    · rw [if_neg c2, if_neg c2]; exact XRel.no h _
  · rw [if_neg c1, if_neg c1]; exact XRel.no h _
end AD
