/-! what is asked: counts, bins, legs, contracts, books, the audit -/
set_option maxRecDepth 100000
section AK
variable {r : Nat → Int32} {b : Nat → Int64} {nb nl nc : Nat}
theorem rng {w : Int32} {n k : Nat} (c : ¬ (0 ≤ w ∧ w ≤ nI n)) (hn : n < 2 ^ 31) (hk : k ≤ n) : ¬ w = nI k := fun e => c (by
  subst e
  exact ⟨(nI_leI (a := 0) (by decide) (by omega)).mpr (by omega), (nI_leI (by omega) hn).mpr hk⟩)
theorem sumI_le (h : ∀ i, i < nb → BinOk (bv r i)) : sumI r nb ≤ 20000 * nb := by
  induction nb with
  | zero => exact Int.le_refl _
  | succ n ih =>
    have h1 := ih (fun i hi => h i (by omega))
    obtain ⟨g1, g2, g3, g4⟩ := (h n (by omega)).1
    have g2' : (r (10 + 9 * n + 3)).toInt ≤ (r (10 + 9 * n + 0)).toInt := g2
    have g4' : (r (10 + 9 * n + 0)).toInt ≤ 20000 := g4
    rw [sumI]; omega
theorem sunit_v (hn : nb ≤ 8) (h : ∀ i, i < nb → BinOk (bv r i)) : (s_unit r nb).toInt = sumI r nb ∧ (sumF r 3 nb).toInt = sumI r nb := by
  induction nb with
  | zero => exact ⟨rfl, rfl⟩
  | succ n ih =>
    obtain ⟨h1, h2⟩ := ih (by omega) (fun i hi => h i (by omega))
    have q1 := sumI_le (fun i hi => h i (by omega) : ∀ i, i < n → BinOk (bv r i))
    have q0 := sumI_nn (fun i hi => h i (by omega) : ∀ i, i < n → BinOk (bv r i))
    obtain ⟨g1, g2, g3, g4⟩ := (h n (by omega)).1
    have g1' : 0 ≤ (r (10 + 9 * n + 3)).toInt := g1
    have g2' : (r (10 + 9 * n + 3)).toInt ≤ (r (10 + 9 * n + 0)).toInt := g2
    have g4' : (r (10 + 9 * n + 0)).toInt ≤ 20000 := g4
    refine ⟨?_, ?_⟩
    · rw [s_unit, sumI, i64_add (by rw [h1, i3264]; omega) (by rw [h1, i3264]; omega), h1, i3264]
    · rw [sumF, sumI, i32_add (by rw [h2]; omega) (by rw [h2]; omega), h2]
theorem sunit_eq (h : SInv r b nb nl nc) : (s_unit r nb).toInt32 = sumF r 3 nb ∧ s_unit r nb = (sumF r 3 nb).toInt64 := by
  obtain ⟨h1, h2⟩ := sunit_v h.1.1 h.2.1
  have q1 := sumI_le h.2.1
  have q0 := sumI_nn h.2.1
  have hn := h.1
  exact ⟨i32_eq.mpr (by rw [i6432 (by rw [h1]; omega) (by rw [h1]; omega), h1, h2]), i64_eq.mpr (by rw [i3264, h1, h2])⟩
theorem con4 {v : Nat → Int32} (h : ConOk v) : bI (v 5 = -1) = v 4 := by
  rcases h.2.2.2.2 with ⟨e4, e5⟩ | ⟨e4, e5⟩
  · rw [e4, bI_t e5]
  · rw [e4, bI_f (fun q => by rw [q] at e5; exact absurd e5 (by decide))]
theorem open_eq (h : ∀ i, i < nc → ConOk (tv r i)) : x_open r nc = sumC r nc := by
  induction nc with
  | zero => rfl
  | succ n ih => rw [x_open, sumC, ih (fun i hi => h i (by omega))]; exact congrArg _ (con4 (h n (by omega)))
theorem count_eq (h : SInv r b nb nl nc) (h2 : r 2 = nI nb) (h3 : r 3 = nI nl) (h4 : r 4 = nI nc) (w : Int32) : x_count r nb nl nc w = p_count r nb nc w := by
  unfold x_count p_count
  by_cases c : 0 ≤ w ∧ w ≤ 9
  · rw [if_pos c, h2, h3, h4, open_eq h.2.2.2.1, (sunit_eq h).1]
    obtain ⟨e, hk⟩ := in_c (n := 9) rfl (by decide) c
    generalize w.toNatClampNeg = k at e hk
    subst e
    match k, hk with
    | 0, _ => rfl
    | 1, _ => rfl
    | 2, _ => rfl
    | 3, _ => rfl
    | 4, _ => rfl
    | 5, _ => rfl
    | 6, _ => rfl
    | 7, _ => rfl
    | 8, _ => rfl
    | 9, _ => rfl
  · have q := fun k (hk : k ≤ 9) => rng (n := 9) (k := k) c (by decide) hk
    rw [if_neg c, if_neg (show ¬ w = 0 from q 0 (by decide)), if_neg (show ¬ w = 1 from q 1 (by decide)), if_neg (show ¬ w = 2 from q 2 (by decide)), if_neg (show ¬ w = 3 from q 3 (by decide)), if_neg (show ¬ w = 4 from q 4 (by decide)), if_neg (show ¬ w = 5 from q 5 (by decide)), if_neg (show ¬ w = 6 from q 6 (by decide)), if_neg (show ¬ w = 7 from q 7 (by decide)), if_neg (show ¬ w = 8 from q 8 (by decide)), if_neg (show ¬ w = 9 from q 9 (by decide))]
theorem bprop_eq (i : Nat) {k : Nat} (hk : k ≤ 9) : b_prop (bv r i) (nI k) = p_prop r i (nI k) := by
  match k, hk with
  | 0, _ => rfl
  | 1, _ => rfl
  | 2, _ => rfl
  | 3, _ => rfl
  | 4, _ => rfl
  | 5, _ => rfl
  | 6, _ => rfl
  | 7, _ => rfl
  | 8, _ => rfl
  | 9, _ => rfl
theorem bin_eq (h2 : r 2 = nI nb) (x w : Int32) : x_binW r nb x w = p_bin r x w := by
  unfold x_binW p_bin q_bin
  rw [h2]
  by_cases c : q_n nb x
  · rw [if_pos c, if_pos c]
    by_cases c2 : 0 ≤ w ∧ w ≤ 9
    · rw [if_pos c2]
      obtain ⟨e, hk⟩ := in_c (n := 9) rfl (by decide) c2
      rw [e]; exact bprop_eq _ hk
    · have q := fun k (hk : k ≤ 9) => rng (n := 9) (k := k) c2 (by decide) hk
      unfold b_prop
      rw [if_neg c2, if_neg (show ¬ w = 0 from q 0 (by decide)), if_neg (show ¬ w = 1 from q 1 (by decide)), if_neg (show ¬ w = 2 from q 2 (by decide)), if_neg (show ¬ w = 3 from q 3 (by decide)), if_neg (show ¬ w = 4 from q 4 (by decide)), if_neg (show ¬ w = 5 from q 5 (by decide)), if_neg (show ¬ w = 6 from q 6 (by decide)), if_neg (show ¬ w = 7 from q 7 (by decide)), if_neg (show ¬ w = 8 from q 8 (by decide)), if_neg (show ¬ w = 9 from q 9 (by decide))]
  · rw [if_neg c, if_neg c]
theorem lprop_eq (i : Nat) {k : Nat} (hk : k ≤ 4) : x_legP r i (nI k) = p_legProp r i (nI k) := by
  match k, hk with
  | 0, _ => rfl
  | 1, _ => rfl
  | 2, _ => rfl
  | 3, _ => rfl
  | 4, _ => rfl
theorem leg_eq (h3 : r 3 = nI nl) (x w : Int32) : x_legW r nl x w = p_leg r x w := by
  unfold x_legW p_leg q_leg
  rw [h3]
  by_cases c : q_n nl x
  · rw [if_pos c, if_pos c]
    by_cases c2 : 0 ≤ w ∧ w ≤ 4
    · rw [if_pos c2]
      obtain ⟨e, hk⟩ := in_c (n := 4) rfl (by decide) c2
      rw [e]; exact lprop_eq _ hk
    · have q := fun k (hk : k ≤ 4) => rng (n := 4) (k := k) c2 (by decide) hk
      unfold x_legP
      rw [if_neg c2, if_neg (show ¬ w = 0 from q 0 (by decide)), if_neg (show ¬ w = 1 from q 1 (by decide)), if_neg (show ¬ w = 2 from q 2 (by decide)), if_neg (show ¬ w = 3 from q 3 (by decide)), if_neg (show ¬ w = 4 from q 4 (by decide))]
  · rw [if_neg c, if_neg c]
theorem cprop_eq {i : Nat} (h : ConOk (tv r i)) {k : Nat} (hk : k ≤ 5) : c_prop (tv r i) (nI k) = r (94 + 6 * i + k) := by
  match k, hk with
  | 0, _ => rfl
  | 1, _ => rfl
  | 2, _ => rfl
  | 3, _ => rfl
  | 4, _ => exact con4 h
  | 5, _ => rfl
theorem con_eq (h : SInv r b nb nl nc) (h4 : r 4 = nI nc) (x w : Int32) : x_conW r nc x w = p_contract r x w := by
  unfold x_conW p_contract q_con
  rw [h4]
  by_cases c : q_n nc x
  · rw [if_pos c, if_pos c]
    by_cases c2 : 0 ≤ w ∧ w ≤ 5
    · rw [if_pos c2]
      obtain ⟨e, hk⟩ := in_c (n := 5) rfl (by decide) c2
      have hx := (isB_c (n := nc) rfl (by have := h.1; omega) c).2
      rw [e, nI_clamp (by omega)]; exact cprop_eq (h.2.2.2.1 _ hx) hk
    · have q := fun k (hk : k ≤ 5) => rng (n := 5) (k := k) c2 (by decide) hk
      unfold c_prop
      rw [if_neg c2, if_neg (show ¬ w = 0 from q 0 (by decide)), if_neg (show ¬ w = 1 from q 1 (by decide)), if_neg (show ¬ w = 2 from q 2 (by decide)), if_neg (show ¬ w = 3 from q 3 (by decide)), if_neg (show ¬ w = 4 from q 4 (by decide)), if_neg (show ¬ w = 5 from q 5 (by decide))]
  · rw [if_neg c, if_neg c]
theorem fit32 {x : Int64} (h0 : 0 ≤ x.toInt) (h1 : x.toInt ≤ 500000000) : x.toInt32.toInt64 = x ∧ x.toInt32.toInt = x.toInt := by
  have e : x.toInt32.toInt = x.toInt := i6432 (by omega) (by omega)
  exact ⟨i64_eq.mpr (by rw [i3264, e]), e⟩
theorem bookk_eq (h : SInv r b nb nl nc) {k : Nat} (hk : k ≤ 6) : x_bookW b (nI k) = p_book b (nI k) := by
  obtain ⟨s0, s1, s2, s3, s4, s5, s6, s7⟩ := bk_sum h
  match k, hk with
  | 0, _ => exact (fit32 s0 s1).1
  | 1, _ => exact (fit32 s2 (by omega)).1
  | 2, _ => exact (fit32 s4 (by omega)).1
  | 3, _ => rfl
  | 4, _ => rfl
  | 5, _ => rfl
  | 6, _ => rfl
theorem book_eq (h : SInv r b nb nl nc) (w : Int32) : x_bookW b w = p_book b w := by
  by_cases c : 0 ≤ w ∧ w ≤ 6
  · obtain ⟨e, hk⟩ := in_c (n := 6) rfl (by decide) c
    rw [e]; exact bookk_eq h hk
  · have q := fun k (hk : k ≤ 6) => rng (n := 6) (k := k) c (by decide) hk
    unfold x_bookW p_book
    rw [if_neg c, if_neg (show ¬ w = 0 from q 0 (by decide)), if_neg (show ¬ w = 1 from q 1 (by decide)), if_neg (show ¬ w = 2 from q 2 (by decide)), if_neg (show ¬ w = 3 from q 3 (by decide)), if_neg (show ¬ w = 4 from q 4 (by decide)), if_neg (show ¬ w = 5 from q 5 (by decide)), if_neg (show ¬ w = 6 from q 6 (by decide))]
theorem audit_eq (h : SInv r b nb nl nc) : x_auW r b nb = p_audit r b nb := by
  obtain ⟨s0, s1, s2, s3, s4, s5, s6, s7⟩ := bk_sum h
  have k4 := h.2.2.2.2.2.2.2.2.2
  obtain ⟨u1, u2⟩ := sunit_v h.1.1 h.2.1
  have f0 := (fit32 s0 s1).2
  have f1 := (fit32 s2 (by omega)).2
  have f2 := (fit32 s4 (by omega)).2
  have e1 : ((b 0).toInt32 - (b 1).toInt32 - (b 2).toInt32).toInt = sumI r nb := by
    have g : ((b 0).toInt32 - (b 1).toInt32).toInt = (b 0).toInt - (b 1).toInt := by rw [i32_sub (by omega) (by omega), f0, f1]
    rw [i32_sub (by omega) (by omega), g, f2]; exact k4
  have e2 : (b 0 - b 1 - b 2).toInt = sumI r nb := by
    have g : (b 0 - b 1).toInt = (b 0).toInt - (b 1).toInt := i64_sub (by omega) (by omega)
    rw [i64_sub (by omega) (by omega), g]; exact k4
  have c1 : lg_cmp ((b 0).toInt32 - (b 1).toInt32 - (b 2).toInt32).toInt64 (s_unit r nb) = 0 := lgc_0.mpr (i64_eq.mpr (by rw [i3264, e1, u1]))
  have c2 : lg_cmp (b 0 - b 1 - b 2) (sumF r 3 nb).toInt64 = 0 := lgc_0.mpr (i64_eq.mpr (by rw [i3264, e2, u2]))
  have a1 : ∀ n, n ≤ nb → x_au 1 r n = 1 := by
    intro n
    induction n with
    | zero => intro _; rfl
    | succ n ih =>
      intro hn
      rw [x_au, ih (by omega), bI_t (show r (10 + 9 * n + 7) - r (10 + 9 * n + 8) = r (10 + 9 * n + 3) from (h.2.1 n (by omega)).2.2.2.2.2)]; decide
  have a2 : ∀ n, n ≤ nb → auB r n = 1 := by
    intro n
    induction n with
    | zero => intro _; rfl
    | succ n ih =>
      intro hn
      rw [auB, ih (by omega), if_neg (by decide), if_pos (show r (10 + 9 * n + 7) - r (10 + 9 * n + 8) = r (10 + 9 * n + 3) from (h.2.1 n (by omega)).2.2.2.2.2)]
  unfold x_auW p_audit
  rw [bI_t c1, a1 nb (Nat.le_refl _), a2 nb (Nat.le_refl _), if_neg (by decide), if_neg (by decide), if_pos c2]
theorem spI_eq (h2 : r 2 = nI nb) (x : Int32) : x_spI r nb x = p_spoilsIn r x := by
  unfold x_spI p_spoilsIn q_bin
  rw [h2]
  by_cases c : q_n nb x
  · rw [if_pos c, if_pos c]
    by_cases c2 : q_spoilt r x.toNatClampNeg
    · rw [if_pos c2, if_pos c2]
    · rw [if_neg c2, if_neg c2]
      by_cases c3 : p_moist r x.toNatClampNeg - 150 ≤ 0
      · rw [if_pos c3, if_neg (Int32.not_lt.mpr c3)]
      · rw [if_neg c3, if_pos (Int32.not_le.mp c3)]
  · rw [if_neg c, if_neg c]
theorem stp_eq (lim : Int32) (f : Nat) : ∀ (n : Nat) (v : Nat → Int32), n + f = 200 → BinOk v → v 3 ≠ 0 →
    (if (stp lim (f + 2) (v 3) (v 4) n).1 ≤ 0 then (-1 : Int32) else if (200 : Int32) < nI (stp lim (f + 2) (v 3) (v 4) n).2 then -1 else nI (stp lim (f + 2) (v 3) (v 4) n).2) = (if lim < b_moist (x_stp lim f n v).2 then -1 else nI (x_stp lim f n v).1) := by
  have e1 : ∀ x y : Int32, (if x ≤ y then x else y) = (if x < y then x else y) := by
    intro x y
    by_cases c : x < y
    · rw [if_pos c, if_pos (Int32.le_of_lt c)]
    · rw [if_neg c]
      by_cases c2 : x ≤ y
      · rw [if_pos c2]
        apply i32_eq.mpr
        have := i32_le.mp c2
        have : ¬ x.toInt < y.toInt := fun q => c (i32_lt.mpr q)
        omega
      · rw [if_neg c2]
  have stepE : ∀ (f n : Nat) (v : Nat → Int32), n ≤ 200 → BinOk v → v 3 ≠ 0 → stp lim (f + 1) (v 3) (v 4) n = if b_moist v ≤ lim then (v 3, n) else stp lim f (b_dry v 3) (b_dry v 4) (n + 1) := by
    intro f n v hn hv h3
    obtain ⟨p3, -⟩ := bmo hv h3
    have em : b_moist v = v 4 / v 3 := if_neg h3
    rw [stp, if_neg (fun q => by have := i32_le.mp q; have : (v 3).toInt ≤ (0 : Int) := this; omega), if_neg (show ¬ (200 : Int32) < nI n from fun q => by have := i32_lt.mp q; rw [nI_toInt (by omega)] at this; have : (200 : Int) < n := this; omega), em]
    by_cases c : v 4 / v 3 ≤ lim
    · rw [if_pos c, if_pos c]
    · rw [if_neg c, if_neg c]
      have ed4 : b_dry v 4 = v 4 - v 4 / 20 := rfl
      have ed3 : b_dry v 3 = v 3 - (if v 3 - 1 ≤ v 4 / 20 / 1000 then v 3 - 1 else v 4 / 20 / 1000) := by rw [e1]; rfl
      rw [ed4, ed3]
      by_cases c2 : v 3 - 1 ≤ v 4 / 20 / 1000
      · rw [if_pos c2, if_pos c2]
      · rw [if_neg c2, if_neg c2]
  have pos : ∀ v : Nat → Int32, BinOk v → v 3 ≠ 0 → ¬ v 3 ≤ 0 := fun v hv h3 q => by
    obtain ⟨p3, -⟩ := bmo hv h3
    have := i32_le.mp q; have : (v 3).toInt ≤ (0 : Int) := this; omega
  induction f with
  | zero =>
    intro n v hn hv h3
    obtain rfl : n = 200 := by omega
    rw [stepE 1 200 v (by decide) hv h3]
    show _ = (if lim < b_moist v then -1 else nI 200)
    by_cases c : b_moist v ≤ lim
    · rw [if_pos c, if_neg (Int32.not_lt.mpr c)]
      dsimp only
      rw [if_neg (pos v hv h3), if_neg (by decide)]
    · rw [if_neg c, if_pos (Int32.not_le.mp c)]
      obtain ⟨D1, -, -, D4, -⟩ := dry_v hv h3
      have : stp lim 1 (b_dry v 3) (b_dry v 4) (200 + 1) = (b_dry v 3, 201) := by
        rw [stp, if_neg (pos _ D1 D4), if_pos (by decide)]
      rw [this]
      dsimp only
      rw [if_neg (pos _ D1 D4), if_pos (by decide)]
  | succ f ih =>
    intro n v hn hv h3
    rw [stepE (f + 2) n v (by omega) hv h3]
    unfold x_stp
    by_cases c : b_moist v ≤ lim
    · rw [if_pos c, if_pos c]
      dsimp only
      rw [if_neg (pos v hv h3), if_neg (show ¬ (200 : Int32) < nI n from fun q => by have := i32_lt.mp q; rw [nI_toInt (by omega)] at this; have : (200 : Int) < n := this; omega), if_neg (Int32.not_lt.mpr c)]
    · rw [if_neg c, if_neg c]
      obtain ⟨D1, -, -, D4, -⟩ := dry_v hv h3
      exact ih (n + 1) (b_dry v) (by omega) D1 D4
theorem steps_eq (h : SInv r b nb nl nc) (h2 : r 2 = nI nb) (x lim : Int32) : x_steps r nb x lim = p_stepsTo r x lim := by
  unfold x_steps p_stepsTo q_bin
  rw [h2]
  by_cases c : q_n nb x
  · rw [if_pos c, if_pos c]
    by_cases c2 : 50 ≤ lim ∧ lim ≤ 400
    · rw [if_pos c2, if_pos c2]
      dsimp only
      have hx := (isB_c (n := nb) rfl (by have := h.1; omega) c).2
      by_cases c3 : r (10 + 9 * x.toNatClampNeg + 3) = 0
      · rw [if_pos c3, c3]
        have : stp lim 202 0 (r (10 + 9 * x.toNatClampNeg + 4)) 0 = (0, 0) := by rw [stp, if_pos (by decide)]
        rw [this]; rfl
      · rw [if_neg c3]
        exact (stp_eq lim 200 0 (bv r x.toNatClampNeg) rfl (h.2.1 _ hx) c3).symm
    · rw [if_neg c2, if_neg c2]
  · rw [if_neg c, if_neg c]
end AK
