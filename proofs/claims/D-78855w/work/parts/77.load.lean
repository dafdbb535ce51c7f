/-! blends that are asked for; loading -/
set_option maxRecDepth 100000
section LD
variable {r r' : Nat → Int32} {b : Nat → Int64} {nb nl nc : Nat} {K : KT}
theorem cl_c (h : SInv r b nb nl nc) {con : Int32} (c : q_n nc con) : con.toNatClampNeg < nc := (isB_c (n := nc) rfl (by have := h.1; omega) c).2
theorem blend_eq (h : SInv r b nb nl nc) (h3 : r 3 = nI nl) (h4 : r 4 = nI nc) (con leg : Int32) : x_blend r nb nl nc con leg = p_blend r nb con leg := by
  unfold x_blend p_blend q_con q_leg
  rw [h3, h4]
  by_cases c1 : q_n nc con
  · rw [if_pos c1]
    by_cases c2 : q_n nl leg
    · rw [if_pos (⟨c1, c2⟩ : q_n nc con ∧ q_n nl leg), if_pos c2, fb_noB h (cl_c h c1), (best_eq h (cl_c h c1) _).1]; rfl
    · rw [if_neg (fun q : q_n nc con ∧ q_n nl leg => c2 q.2), if_neg c2]
  · rw [if_neg c1, if_neg (fun q : q_n nc con ∧ q_n nl leg => c1 q.1)]
theorem whyB_eq (h : SInv r b nb nl nc) (h3 : r 3 = nI nl) (h4 : r 4 = nI nc) (con leg : Int32) : x_whyB r nb nl nc con leg = p_whyNoBlend r nb con leg := by
  unfold x_whyB p_whyNoBlend q_con q_leg
  rw [h3, h4]
  by_cases c1 : q_n nc con
  · rw [if_pos c1]
    by_cases c2 : q_n nl leg
    · rw [if_pos (⟨c1, c2⟩ : q_n nc con ∧ q_n nl leg), if_pos c2, fb_noB h (cl_c h c1)]
    · rw [if_neg (fun q : q_n nc con ∧ q_n nl leg => c2 q.2), if_neg c2]
  · rw [if_neg c1, if_neg (fun q : q_n nc con ∧ q_n nl leg => c1 q.1)]
theorem from_eq (h : SInv r b nb nl nc) (h2 : r 2 = nI nb) (h3 : r 3 = nI nl) (h4 : r 4 = nI nc) (con leg bin : Int32) : x_from r nb nl nc con leg bin = p_fromBin r nb con leg bin := by
  unfold x_from p_fromBin q_con q_leg q_bin
  rw [h2, h3, h4]
  by_cases c1 : q_n nc con
  · rw [if_pos c1]
    by_cases c2 : q_n nl leg
    · rw [if_pos (⟨c1, c2⟩ : q_n nc con ∧ q_n nl leg), if_pos c2, fb_noB h (cl_c h c1)]
      rw [show xuN r nb con.toNatClampNeg leg.toNatClampNeg (nI (x_bestN r nb con.toNatClampNeg leg.toNatClampNeg)) = blU r nb con.toNatClampNeg leg.toNatClampNeg from (blU_eq h (cl_c h c1) _).1]
    · rw [if_neg (fun q : q_n nc con ∧ q_n nl leg => c2 q.2), if_neg c2]
  · rw [if_neg c1, if_neg (fun q : q_n nc con ∧ q_n nl leg => c1 q.1)]
theorem blMo_eq (h : SInv r b nb nl nc) (h3 : r 3 = nI nl) (h4 : r 4 = nI nc) (con leg : Int32) : x_blM r nb nl nc con leg = p_blendMoisture r nb con leg := by
  unfold x_blM p_blendMoisture q_con q_leg
  rw [h3, h4]
  by_cases c1 : q_n nc con
  · rw [if_pos c1]
    by_cases c2 : q_n nl leg
    · rw [if_pos (⟨c1, c2⟩ : q_n nc con ∧ q_n nl leg), if_pos c2, fb_noB h (cl_c h c1), (blU_eq h (cl_c h c1) _).2.1]
    · rw [if_neg (fun q : q_n nc con ∧ q_n nl leg => c2 q.2), if_neg c2]
  · rw [if_neg c1, if_neg (fun q : q_n nc con ∧ q_n nl leg => c1 q.1)]
/-! the words look at the places below 130 only -/
theorem mo_cong (e : ∀ j, j < 130 → r j = r' j) {o : Nat} (ho : o < 8) : p_moist r o = p_moist r' o := by
  unfold p_moist
  rw [e (10 + 9 * o + 3) (by omega), e (10 + 9 * o + 4) (by omega)]
theorem sel_cong (e : ∀ j, j < 130 → r j = r' j) {c l k : Nat} (hc : c < 6) (hl : l < 3) (hk : k < 8) : q_sel r c l k = q_sel r' c l k := by
  unfold q_sel q_spoilt q_leads
  rw [e (10 + 9 * k + 3) (by omega), e (10 + 9 * k + 5) (by omega), e (94 + 6 * c + 0) (by omega), e (10 + 9 * k + 6) (by omega), e (82 + 4 * l + 1) (by omega)]
theorem atP_cong (e : ∀ j, j < 130 → r j = r' j) {k : Nat} (hk : k < 8) {og : Nat → Nat} {n : Nat} (ho : ∀ j, j < n → og j < 8) : atP r k og n = atP r' k og n := by
  induction n with
  | zero => rfl
  | succ n ih => rw [atP, atP, mo_cong e hk, mo_cong e (ho n (by omega)), ih (fun j hj => ho j (by omega))]
theorem ogC_cong (e : ∀ j, j < 130 → r j = r' j) {c l k : Nat} (hc : c < 6) (hl : l < 3) (hk : k ≤ 8) : ogC r c l k = ogC r' c l k := by
  induction k with
  | zero => rfl
  | succ k ih =>
    have ih' := ih (by omega)
    have ok := (ogC_ok r c l k).2
    rw [ogC, ogC, ← ih']
    have es := sel_cong e (c := c) (l := l) (k := k) hc hl (by omega)
    by_cases q : q_sel r c l k
    · rw [if_pos q, if_pos (show q_sel r' c l k from es ▸ q)]
      unfold insO
      rw [atP_cong e (by omega) (fun j hj => by have := (ok j hj).1; omega)]
    · rw [if_neg q, if_neg (show ¬ q_sel r' c l k from es ▸ q)]
theorem allU_cong (e : ∀ j, j < 130 → r j = r' j) {c l k : Nat} (hc : c < 6) (hl : l < 3) (hk : k ≤ 8) : allU r c l k = allU r' c l k := by
  induction k with
  | zero => rfl
  | succ k ih =>
    rw [allU, allU, ih (by omega)]
    have es := sel_cong e (c := c) (l := l) (k := k) hc hl (by omega)
    by_cases q : q_sel r c l k
    · rw [if_pos q, if_pos (show q_sel r' c l k from es ▸ q), e (10 + 9 * k + 3) (by omega)]
    · rw [if_neg q, if_neg (show ¬ q_sel r' c l k from es ▸ q)]
theorem tk_cong (e : ∀ j, j < 130 → r j = r' j) {o : Nat} (ho : o < 8) (x : (Nat → Int32) × Int32) : tk1 r o x = tk1 r' o x := by
  unfold tk1
  rw [e (10 + 9 * o + 3) (by omega)]
theorem mixA_cong (e : ∀ j, j < 130 → r j = r' j) {og : Nat → Nat} {damp : Int32} {n : Nat} (ho : ∀ j, j < n → og j < 8) : mixA r og damp n = mixA r' og damp n := by
  induction n with
  | zero => rfl
  | succ n ih => rw [mixA, mixA, ih (fun j hj => ho j (by omega)), tk_cong e (ho n (by omega))]
theorem mixB_cong (e : ∀ j, j < 130 → r j = r' j) {og : Nat → Nat} {damp dry : Int32} {n : Nat} (ho : ∀ j, j < n → og j < 8) {k : Nat} (hk : k ≤ n) : mixB r og n damp dry k = mixB r' og n damp dry k := by
  induction k with
  | zero => rw [mixB, mixB, mixA_cong e ho]
  | succ k ih => rw [mixB, mixB, ih (by omega), tk_cong e (ho (n - 1 - k) (by omega))]
theorem mixU_cong (e : ∀ j, j < 130 → r j = r' j) {og : Nat → Nat} {damp dry : Int32} {n : Nat} (ho : ∀ j, j < n → og j < 8) : mixU r og n damp dry = mixU r' og n damp dry := by
  unfold mixU
  rw [mixB_cong e ho (Nat.le_refl n)]
theorem mixS_cong (e : ∀ j, j < 130 → r j = r' j) {og : Nat → Nat} {u : Nat → Int32} {n : Nat} (ho : ∀ j, j < n → og j < 8) : mixS r og u n = mixS r' og u n := by
  induction n with
  | zero => rfl
  | succ n ih => rw [mixS, mixS, ih (fun j hj => ho j (by omega)), mo_cong e (ho n (by omega))]
theorem mixR_cong (e : ∀ j, j < 130 → r j = r' j) {og : Nat → Nat} {damp dry : Int32} {n : Nat} (ho : ∀ j, j < n → og j < 8) : mixR r og n damp dry = mixR r' og n damp dry := by
  unfold mixR
  rw [mixU_cong e ho, mixS_cong e ho]
theorem bl_cong (e : ∀ j, j < 130 → r j = r' j) (hn : nb ≤ 8) {c l : Nat} (hc : c < 6) (hl : l < 3) : p_noBlend r nb c l = p_noBlend r' nb c l ∧ blU r nb c l = blU r' nb c l ∧ blM r nb c l = blM r' nb c l := by
  have ok := (ogC_ok r c l nb).2
  have ho : ∀ j, j < (ogC r c l nb).2 → (ogC r c l nb).1 j < 8 := fun j hj => by have := (ok j hj).1; omega
  have eo := ogC_cong e hc hl hn
  have eN : ogN r' nb c l = ogN r nb c l := congrArg Prod.fst eo.symm
  have eC : cnN r' nb c l = cnN r nb c l := congrArg Prod.snd eo.symm
  have ew := e (94 + 6 * c + 1) (by omega)
  have em := e (94 + 6 * c + 2) (by omega)
  have eb : p_best r nb c l = p_best r' nb c l := by
    unfold p_best p_bestN
    rw [← ew, ← em, eN, eC]
    refine congrArg nI (bsr_ext (w := (r (94 + 6 * c + 1)).toNatClampNeg) (fun m hm => ?_) _ _ _ (Nat.le_refl _))
    unfold bestT
    rw [mixR_cong e ho]
  refine ⟨?_, ?_, ?_⟩
  · unfold p_noBlend q_stands
    rw [← ew, ← em, eN, eC, mixR_cong e ho, allU_cong e hc hl hn, e 1 (by omega), e (82 + 4 * l + 2) (by omega)]
  · unfold blU
    rw [← eb, ← ew, eN, eC, mixU_cong e ho]
  · unfold blM
    rw [← eb, ← ew, eN, eC, mixR_cong e ho]
/-! loading -/
theorem ldT_v {u : Nat → Int32} {sp : Int32} (s1 : 1 ≤ sp.toInt) (s2 : sp.toInt ≤ 500) {n : Nat} (hn : n ≤ 8) (hu : ∀ j, 0 ≤ (u j).toInt ∧ (u j).toInt ≤ 20000) : (ldT u sp n).toInt = sB (fun k => (p_min (u k) sp).toInt) n ∧ (xldT u sp n).toInt = sB (fun k => (p_min (u k) sp).toInt) n ∧ 0 ≤ sB (fun k => (p_min (u k) sp).toInt) n ∧ sB (fun k => (p_min (u k) sp).toInt) n ≤ 20000 * n := by
  induction n with
  | zero => exact ⟨rfl, rfl, Int.le_refl _, Int.le_refl _⟩
  | succ n ih =>
    obtain ⟨i1, i2, i3, i4⟩ := ih (by omega)
    obtain ⟨-, q0, q1, -⟩ := min_v (u := u n) (sp := sp) (hu n).1 (hu n).2 s1 s2
    rw [ldT, xldT, sB, i32_add (by rw [i1]; omega) (by rw [i1]; omega), i64_add (by rw [i2, i3264]; omega) (by rw [i2, i3264]; omega), i1, i2, i3264]
    exact ⟨rfl, rfl, by omega, by omega⟩
theorem sB_le {f : Nat → Int} {n : Nat} (h : ∀ k, k < n → 0 ≤ f k) {m : Nat} (hm : m ≤ n) : 0 ≤ sB f m ∧ sB f m ≤ sB f n := by
  have h0 : ∀ m, m ≤ n → 0 ≤ sB f m := by
    intro m
    induction m with
    | zero => intro _; exact Int.le_refl _
    | succ m ih => intro hm; rw [sB]; have := ih (by omega); have := h m (by omega); omega
  refine ⟨h0 m hm, ?_⟩
  obtain ⟨d, rfl⟩ : ∃ d, n = m + d := ⟨n - m, by omega⟩
  clear hm h0
  induction d with
  | zero => exact Int.le_refl _
  | succ d ih =>
    have := ih (fun j hj => h j (by omega))
    show _ ≤ sB f (m + d) + f (m + d)
    have := h (m + d) (by omega)
    omega
theorem SInv.books {b' : Nat → Int64} (h : SInv r b nb nl nc) (e0 : b' 0 = b 0) (e1 : 0 ≤ (b' 1).toInt) (e2 : 0 ≤ (b' 2).toInt) (es : (b' 1).toInt + (b' 2).toInt = (b 1).toInt + (b 2).toInt) : SInv r b' nb nl nc := by
  obtain ⟨hn, hb, hl, hco, hpr, hc, hk1, hk2, hk3, hk4⟩ := h
  exact ⟨hn, hb, hl, hco, hpr, hc, by rw [e0]; exact hk1, e1, e2, by rw [e0, ← hk4]; omega⟩
/-- the loading of one bin's share -/
theorem ld_loop (h : SInv r b nb nl nc) {l : Nat} (hl : l < nl) {u : Nat → Int32} (hu : ∀ j, 0 ≤ (u j).toInt ∧ (u j).toInt ≤ 20000) (hle : ∀ k, k < nb → (u k).toInt ≤ (r (10 + 9 * k + 3)).toInt)
    (ht : (r 0).toInt + sB (fun k => (p_min (u k) (r (82 + 4 * l + 0))).toInt) nb ≤ 1000000) {n : Nat} (hn : n ≤ nb) :
    iter (ld1 u nb l) n r = iter (xld1 u nb l) n r ∧ (∃ b', SInv (iter (xld1 u nb l) n r) b' nb nl nc ∧ b' 0 = b 0 ∧ b' 1 = b 1 ∧ (b' 2).toInt = (b 2).toInt + sB (fun k => (u k).toInt) n) ∧ (iter (xld1 u nb l) n r 0).toInt = (r 0).toInt + sB (fun k => (p_min (u k) (r (82 + 4 * l + 0))).toInt) n ∧
    (∀ i, n ≤ i → i < nb → iter (xld1 u nb l) n r (10 + 9 * i + 3) = r (10 + 9 * i + 3)) ∧ (∀ j, (0 < j ∧ j < 10) ∨ j = 82 + 4 * l + 0 ∨ 94 ≤ j → iter (xld1 u nb l) n r j = r j) := by
  have hnb := h.1.1
  have hnl := h.1.2.1
  obtain ⟨s1, s2⟩ := h.2.2.1 _ hl
  have s1' : 1 ≤ (r (82 + 4 * l + 0)).toInt := s1
  have s2' : (r (82 + 4 * l + 0)).toInt ≤ 500 := s2
  induction n with
  | zero => exact ⟨rfl, ⟨b, h, rfl, rfl, by show (b 2).toInt = (b 2).toInt + (0 : Int); omega⟩, by show (r 0).toInt = (r 0).toInt + (0 : Int); omega, fun _ _ _ => rfl, fun _ _ => rfl⟩
  | succ n ih =>
    obtain ⟨i1, ⟨b', i2, i3, i4, i5⟩, i6, i7, i8⟩ := ih (by omega)
    have hmn : ∀ k, 0 ≤ (p_min (u k) (r (82 + 4 * l + 0))).toInt := fun k => (min_v (hu k).1 (hu k).2 s1' s2').2.1
    obtain ⟨-, q0, q1, q2, -⟩ := min_v (u := u n) (sp := r (82 + 4 * l + 0)) (hu n).1 (hu n).2 s1' s2'
    have hT := (sB_le (f := fun k => (p_min (u k) (r (82 + 4 * l + 0))).toInt) (n := nb) (fun k _ => hmn k) (m := n + 1) hn).2
    rw [iter, iter, i1, sB, sB]
    rw [sB] at hT
    generalize iter (xld1 u nb l) n r = ρ at *
    have esp : ρ (82 + 4 * l + 0) = r (82 + 4 * l + 0) := i8 _ (by omega)
    unfold ld1 xld1
    by_cases c : u n ≤ 0
    · have c' : (u n).toInt ≤ (0 : Int) := i32_le.mp c
      have u0 := (hu n).1
      have e0 : (u n).toInt = 0 := by omega
      have em : (p_min (u n) (r (82 + 4 * l + 0))).toInt = 0 := by
        obtain ⟨em, -⟩ := min_v (u := u n) (sp := r (82 + 4 * l + 0)) (hu n).1 (hu n).2 s1' s2'
        rw [em, e0]
        exact Int.ediv_eq_zero_of_lt (by omega) (by omega)
      rw [if_pos c, if_pos c]
      exact ⟨rfl, ⟨b', i2, i3, i4, by omega⟩, by omega, fun i h1 h2 => i7 i (by omega) h2, i8⟩
    · have c' : ¬ (u n).toInt ≤ (0 : Int) := fun q => c (i32_le.mpr q)
      rw [if_neg c, if_neg c]
      dsimp only
      have hcl : (ρ 0).toInt + (p_min (u n) (ρ (82 + 4 * l + 0))).toInt ≤ 1000000 := by rw [esp]; omega
      have I1 : SInv (xla u nb l n ρ) b' nb nl nc := pass_inv (by rw [esp]; exact q0) (by rw [esp]; omega) hcl i2
      have x3 : xla u nb l n ρ (10 + 9 * n + 3) = ρ (10 + 9 * n + 3) := sps_ne (fun z hz => by omega) (by omega)
      have hle' : (u n).toInt ≤ (xla u nb l n ρ (10 + 9 * n + 3)).toInt := by rw [x3, i7 n (Nat.le_refl n) (by omega)]; exact hle n (by omega)
      have I2 : SInv (xlb u nb l n ρ) (vp_updL b' 2 (b' 2 + (u n).toInt64)) nb nl nc := I1.take (by omega) (by omega) hle'
      have eb2 : (b' 2 + (u n).toInt64).toInt = (b' 2).toInt + (u n).toInt := by
        obtain ⟨t0, t1, t2, t3, t4, t5, t6, t7⟩ := bk_sum i2
        have := hu n
        rw [i64_add (by rw [i3264]; omega) (by rw [i3264]; omega), i3264]
      refine ⟨?_, ⟨vp_updL b' 2 (b' 2 + (u n).toInt64), ?_, i3, i4, ?_⟩, ?_, ?_, ?_⟩
      · rw [passes_s (by rw [esp]; exact q0) (by rw [esp]; omega) i2.2.1, takes_b]
        dsimp only
        rw [dusts_b]
      · refine I2.leg hl ?_
        show 1 ≤ (xlb u nb l n ρ (82 + 4 * l + 0)).toInt ∧ (xlb u nb l n ρ (82 + 4 * l + 0)).toInt ≤ 500
        rw [show xlb u nb l n ρ (82 + 4 * l + 0) = r (82 + 4 * l + 0) from (pb_out _ (by omega)).trans ((sps_ne (fun z hz => by omega) (by omega)).trans esp)]
        exact ⟨s1, s2⟩
      · show (b' 2 + (u n).toInt64).toInt = _
        rw [eb2, i5]; omega
      · rw [show xlc u nb l n ρ 0 = ρ 0 + p_min (u n) (ρ (82 + 4 * l + 0)) from (pg_out _ (by omega)).trans ((pb_out _ (by omega)).trans sps_0), i32_add (by have := i2.2.2.2.2.2.1; rw [esp]; omega) (by omega), esp, i6]
        omega
      · intro i h1 h2
        rw [← i7 i (by omega) h2]
        exact (pg_out _ (by omega)).trans ((pb_out _ (by omega)).trans (sps_ne (fun z hz => by omega) (by omega)))
      · intro j hj
        rw [← i8 j hj]
        by_cases q : j = 82 + 4 * l + 0
        · subst q
          exact (pg_at _ _ _ (by decide)).trans ((pb_out _ (by omega)).trans (sps_ne (fun z hz => by omega) (by omega)))
        · exact (pg_out _ (by omega)).trans ((pb_out _ (by omega)).trans (sps_ne (fun z hz => by omega) (by omega)))
end LD
