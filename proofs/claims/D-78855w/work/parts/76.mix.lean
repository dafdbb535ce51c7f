/-! what a mix takes: from each bin no more than it has, in all what is wanted -/
set_option maxRecDepth 100000
section MX
variable {r : Nat → Int32} {b : Nat → Int64} {nb nl nc : Nat}
def sO (f : Nat → Int) (og : Nat → Nat) : Nat → Int
  | 0 => 0
  | k + 1 => sO f og k + f (og k)
abbrev am (r : Nat → Int32) : Nat → Int := fun o => (r (10 + 9 * o + 3)).toInt
theorem sO_mono {f : Nat → Int} {og : Nat → Nat} {n : Nat} (hp : ∀ j, j < n → 0 < f (og j)) {k : Nat} (hk : k ≤ n) : 0 ≤ sO f og k ∧ sO f og k ≤ sO f og n := by
  have h0 : ∀ k, k ≤ n → 0 ≤ sO f og k := by
    intro k
    induction k with
    | zero => intro _; exact Int.le_refl _
    | succ k ih => intro hk; rw [sO]; have := ih (by omega); have := hp k (by omega); omega
  refine ⟨h0 k hk, ?_⟩
  obtain ⟨d, rfl⟩ : ∃ d, n = k + d := ⟨n - k, by omega⟩
  clear hk h0
  induction d with
  | zero => exact Int.le_refl _
  | succ d ih =>
    have := ih (fun j hj => hp j (by omega))
    show _ ≤ sO f og (k + d) + f (og (k + d))
    have := hp (k + d) (by omega)
    omega
theorem tk_v {D : Int} (hD : D ≤ 20000) {o : Nat} {x : (Nat → Int32) × Int32} (h : Iv D x) (hr : 0 < am r o) : (tk1 r o x).2.toInt = (if am r o ≤ x.2.toInt then x.2.toInt - am r o else 0) ∧ ((tk1 r o x).1 o).toInt = (x.1 o).toInt + (x.2.toInt - (tk1 r o x).2.toInt) := by
  obtain ⟨h0, hj⟩ := h
  have ho := hj o
  have hx := i32_rng x.2
  have hr' : 0 < (r (10 + 9 * o + 3)).toInt := hr
  unfold tk1
  by_cases c : r (10 + 9 * o + 3) ≤ x.2
  · have c' : (r (10 + 9 * o + 3)).toInt ≤ x.2.toInt := i32_le.mp c
    have e1 : (x.2 - r (10 + 9 * o + 3)).toInt = x.2.toInt - (r (10 + 9 * o + 3)).toInt := i32_sub (by omega) (by omega)
    rw [if_pos c, if_pos c']
    refine ⟨e1, ?_⟩
    show (upd x.1 o (x.1 o + r (10 + 9 * o + 3)) o).toInt = (x.1 o).toInt + (x.2.toInt - (x.2 - r (10 + 9 * o + 3)).toInt)
    rw [upd_eq, e1, i32_add (by omega) (by omega)]; omega
  · have c' : ¬ (r (10 + 9 * o + 3)).toInt ≤ x.2.toInt := fun q => c (i32_le.mpr q)
    have e1 : (x.2 - x.2).toInt = 0 := by rw [i32_sub (by omega) (by omega)]; omega
    rw [if_neg c, if_neg c']
    refine ⟨e1, ?_⟩
    show (upd x.1 o (x.1 o + x.2) o).toInt = (x.1 o).toInt + (x.2.toInt - (x.2 - x.2).toInt)
    rw [upd_eq, e1, i32_add (by omega) (by omega)]; omega
theorem LA_v {og : Nat → Nat} {n : Nat} {damp dry : Int32} (d0 : 0 ≤ damp.toInt) (y0 : 0 ≤ dry.toInt) (d1 : damp.toInt + dry.toInt ≤ 20000) (hp : ∀ j, j < n → 0 < am r (og j)) {k : Nat} (hk : k ≤ n) : (mixA r og damp k).2.toInt = if damp.toInt ≤ sO (am r) og k then 0 else damp.toInt - sO (am r) og k := by
  induction k with
  | zero =>
    show damp.toInt = if damp.toInt ≤ 0 then 0 else damp.toInt - 0
    split <;> omega
  | succ k ih =>
    have iv := mixA_iv (r := r) (og := og) d0 (by omega) (n := k) (fun j hj => hp j (by omega))
    have t := (tk_v (by omega) iv (hp k (by omega))).1
    have ih' := ih (by omega)
    have hk0 := hp k (by omega)
    rw [mixA, t, sO, ih']
    split <;> split <;> split <;> omega
theorem A_v {og : Nat → Nat} {n : Nat} {damp dry : Int32} (d0 : 0 ≤ damp.toInt) (y0 : 0 ≤ dry.toInt) (d1 : damp.toInt + dry.toInt ≤ 20000) (hp : ∀ j, j < n → 0 < am r (og j)) (inj : ∀ i j, i < n → j < n → og i = og j → i = j) {m : Nat} (hm : m ≤ n) : ∀ k, k < n → (m ≤ k → (mixA r og damp m).1 (og k) = 0) ∧ (k < m → ((mixA r og damp m).1 (og k)).toInt = (mixA r og damp k).2.toInt - (mixA r og damp (k + 1)).2.toInt) := by
  induction m with
  | zero => intro k _; exact ⟨fun _ => rfl, fun q => by omega⟩
  | succ m ih =>
    intro k hk
    obtain ⟨i1, i2⟩ := ih (by omega) k hk
    have iv := mixA_iv (r := r) (og := og) d0 (by omega) (n := m) (fun j hj => hp j (by omega))
    refine ⟨fun q => ?_, fun q => ?_⟩
    · rw [mixA, tk1_ne (fun e => by have := inj k m hk (by omega) e; omega)]
      exact i1 (by omega)
    · by_cases e : k = m
      · subst e
        have t := (tk_v (by omega) iv (hp k (by omega))).2
        rw [mixA, t, i1 (Nat.le_refl _)]
        show (0 : Int) + _ = _
        omega
      · rw [mixA, tk1_ne (fun z => e (inj k m hk (by omega) z))]
        exact i2 (by omega)
theorem LB_v {og : Nat → Nat} {n : Nat} {damp dry : Int32} (d0 : 0 ≤ damp.toInt) (y0 : 0 ≤ dry.toInt) (d1 : damp.toInt + dry.toInt ≤ 20000) (hp : ∀ j, j < n → 0 < am r (og j)) {j : Nat} (hj : j ≤ n) : (mixB r og n damp dry j).2.toInt = if dry.toInt ≤ sO (am r) og n - sO (am r) og (n - j) then 0 else dry.toInt - (sO (am r) og n - sO (am r) og (n - j)) := by
  induction j with
  | zero =>
    show dry.toInt = if dry.toInt ≤ sO (am r) og n - sO (am r) og n then 0 else dry.toInt - (sO (am r) og n - sO (am r) og n)
    split <;> omega
  | succ j ih =>
    have iv := mixB_iv (r := r) (og := og) d0 y0 d1 hp (j := j) (by omega)
    have t := (tk_v (by omega) iv (hp (n - 1 - j) (by omega))).1
    have ih' := ih (by omega)
    have hk0 := hp (n - 1 - j) (by omega)
    have e : sO (am r) og (n - j) = sO (am r) og (n - (j + 1)) + am r (og (n - 1 - j)) := by
      rw [show n - j = (n - (j + 1)) + 1 by omega, sO, show n - 1 - j = n - (j + 1) by omega]
    rw [mixB, t, ih', e]
    split <;> split <;> split <;> omega
theorem B_v {og : Nat → Nat} {n : Nat} {damp dry : Int32} (d0 : 0 ≤ damp.toInt) (y0 : 0 ≤ dry.toInt) (d1 : damp.toInt + dry.toInt ≤ 20000) (hp : ∀ j, j < n → 0 < am r (og j)) (inj : ∀ i j, i < n → j < n → og i = og j → i = j) {m : Nat} (hm : m ≤ n) : ∀ k, k < n → (m ≤ n - 1 - k → (mixB r og n damp dry m).1 (og k) = (mixA r og damp n).1 (og k)) ∧ (n - 1 - k < m → ((mixB r og n damp dry m).1 (og k)).toInt = ((mixA r og damp n).1 (og k)).toInt + ((mixB r og n damp dry (n - 1 - k)).2.toInt - (mixB r og n damp dry (n - k)).2.toInt)) := by
  induction m with
  | zero => intro k _; exact ⟨fun _ => rfl, fun q => by omega⟩
  | succ m ih =>
    intro k hk
    obtain ⟨i1, i2⟩ := ih (by omega) k hk
    have iv := mixB_iv (r := r) (og := og) d0 y0 d1 hp (j := m) (by omega)
    refine ⟨fun q => ?_, fun q => ?_⟩
    · rw [mixB, tk1_ne (fun e => by have := inj k (n - 1 - m) hk (by omega) e; omega)]
      exact i1 (by omega)
    · by_cases e : n - 1 - k = m
      · have t := (tk_v (by omega) iv (hp (n - 1 - m) (by omega))).2
        have ek : n - 1 - m = k := by omega
        rw [show n - k = m + 1 by omega, e, ← i1 (by omega)]
        rw [ek] at t
        rw [mixB, ek]
        exact t
      · rw [mixB, tk1_ne (fun z => e (by have := inj k (n - 1 - m) hk (by omega) z; omega))]
        exact i2 (by omega)
theorem U_v {og : Nat → Nat} {n : Nat} {damp dry : Int32} (d0 : 0 ≤ damp.toInt) (y0 : 0 ≤ dry.toInt) (d1 : damp.toInt + dry.toInt ≤ 20000) (hp : ∀ j, j < n → 0 < am r (og j)) (inj : ∀ i j, i < n → j < n → og i = og j → i = j) {k : Nat} (hk : k < n) : (mixU r og n damp dry (og k)).toInt = (mixA r og damp k).2.toInt - (mixA r og damp (k + 1)).2.toInt + ((mixB r og n damp dry (n - 1 - k)).2.toInt - (mixB r og n damp dry (n - k)).2.toInt) := by
  have h1 := (B_v d0 y0 d1 hp inj (Nat.le_refl n) k hk).2 (by omega)
  have h2 := (A_v d0 y0 d1 hp inj (Nat.le_refl n) k hk).2 hk
  rw [mixU, h1, h2]
theorem U_le {og : Nat → Nat} {n : Nat} {damp dry : Int32} (d0 : 0 ≤ damp.toInt) (y0 : 0 ≤ dry.toInt) (d1 : damp.toInt + dry.toInt ≤ 20000) (hp : ∀ j, j < n → 0 < am r (og j)) (inj : ∀ i j, i < n → j < n → og i = og j → i = j) (hw : damp.toInt + dry.toInt ≤ sO (am r) og n) {k : Nat} (hk : k < n) : (mixU r og n damp dry (og k)).toInt ≤ am r (og k) := by
  have hS := sO_mono hp (k := k + 1) (by omega)
  have hS0 := sO_mono hp (k := k) (by omega)
  have hk0 := hp k hk
  have e : sO (am r) og (k + 1) = sO (am r) og k + am r (og k) := rfl
  rw [U_v d0 y0 d1 hp inj hk, LA_v d0 y0 d1 hp (by omega), LA_v d0 y0 d1 hp (by omega), LB_v d0 y0 d1 hp (by omega), LB_v d0 y0 d1 hp (by omega), show n - (n - 1 - k) = k + 1 by omega, show n - (n - k) = k by omega]
  split <;> split <;> split <;> split <;> omega
theorem U_sum {og : Nat → Nat} {n : Nat} {damp dry : Int32} (d0 : 0 ≤ damp.toInt) (y0 : 0 ≤ dry.toInt) (d1 : damp.toInt + dry.toInt ≤ 20000) (hp : ∀ j, j < n → 0 < am r (og j)) (inj : ∀ i j, i < n → j < n → og i = og j → i = j) (hw : damp.toInt + dry.toInt ≤ sO (am r) og n) : sO (fun o => (mixU r og n damp dry o).toInt) og n = damp.toInt + dry.toInt := by
  have key : ∀ m, m ≤ n → sO (fun o => (mixU r og n damp dry o).toInt) og m = (mixA r og damp 0).2.toInt - (mixA r og damp m).2.toInt + ((mixB r og n damp dry (n - m)).2.toInt - (mixB r og n damp dry n).2.toInt) := by
    intro m
    induction m with
    | zero =>
      intro _
      rw [sO, Nat.sub_zero]; omega
    | succ m ih =>
      intro hm
      rw [sO, ih (by omega), U_v d0 y0 d1 hp inj (by omega), show n - 1 - m = n - (m + 1) by omega]
      omega
  have hS := sO_mono hp (k := n) (by omega)
  rw [key n (Nat.le_refl n), LA_v d0 y0 d1 hp (Nat.zero_le n), LA_v d0 y0 d1 hp (Nat.le_refl n), LB_v d0 y0 d1 hp (by omega), LB_v d0 y0 d1 hp (Nat.le_refl n), show n - (n - n) = n by omega, show n - n = 0 by omega]
  have e0 : sO (am r) og 0 = 0 := rfl
  rw [e0]
  split <;> split <;> split <;> split <;> omega
theorem ogC_inj (r : Nat → Int32) (c l k : Nat) : ∀ i j, i < (ogC r c l k).2 → j < (ogC r c l k).2 → (ogC r c l k).1 i = (ogC r c l k).1 j → i = j := by
  induction k with
  | zero => intro i j hi; exact absurd hi (Nat.not_lt_zero i)
  | succ k ih =>
    have ok := (ogC_ok r c l k).2
    rw [ogC]
    by_cases q : q_sel r c l k
    · rw [if_pos q]
      dsimp only
      have hp := atP_le r k (ogC r c l k).1 (ogC r c l k).2
      intro i j hi hj e
      unfold insO at e
      generalize atP r k (ogC r c l k).1 (ogC r c l k).2 = p at e hp
      by_cases i1 : i < p <;> by_cases j1 : j < p
      · rw [if_pos i1, if_pos j1] at e; exact ih i j (by omega) (by omega) e
      · rw [if_pos i1, if_neg j1] at e
        by_cases j2 : j = p
        · rw [if_pos j2] at e; have := (ok i (by omega)).1; omega
        · rw [if_neg j2] at e; have := ih i (j - 1) (by omega) (by omega) e; omega
      · rw [if_neg i1, if_pos j1] at e
        by_cases i2 : i = p
        · rw [if_pos i2] at e; have := (ok j (by omega)).1; omega
        · rw [if_neg i2] at e; have := ih (i - 1) j (by omega) (by omega) e; omega
      · rw [if_neg i1, if_neg j1] at e
        by_cases i2 : i = p <;> by_cases j2 : j = p
        · omega
        · rw [if_pos i2, if_neg j2] at e; have := (ok (j - 1) (by omega)).1; omega
        · rw [if_neg i2, if_pos j2] at e; have := (ok (i - 1) (by omega)).1; omega
        · rw [if_neg i2, if_neg j2] at e; have := ih (i - 1) (j - 1) (by omega) (by omega) e; omega
    · rw [if_neg q]; exact ih
/-- a sum over the bins is the sum over the chosen ones -/
def sB (f : Nat → Int) : Nat → Int
  | 0 => 0
  | k + 1 => sB f k + f k
theorem sins_lo {f : Nat → Int} {k p : Nat} {og g : Nat → Nat} (hg : ∀ j, g j = if j < p then og j else if j = p then k else og (j - 1)) : ∀ m, m ≤ p → sO f g m = sO f og m := by
  intro m
  induction m with
  | zero => intro _; rfl
  | succ m ih => intro hm; rw [sO, sO, ih (by omega), hg m, if_pos (by omega)]
theorem sins_hi {f : Nat → Int} {k p : Nat} {og g : Nat → Nat} (hg : ∀ j, g j = if j < p then og j else if j = p then k else og (j - 1)) (d : Nat) : sO f g (p + d + 1) = sO f og (p + d) + f k := by
  induction d with
  | zero => rw [show p + 0 + 1 = p + 1 from rfl, sO, sins_lo hg p (Nat.le_refl p), hg p, if_neg (by omega), if_pos rfl]; rfl
  | succ d ih =>
    rw [sO, show p + (d + 1) = p + d + 1 by omega, ih, hg (p + d + 1), if_neg (by omega), if_neg (by omega), show p + d + 1 - 1 = p + d by omega, sO]
    omega
theorem sO_og (f : Nat → Int) (c l k : Nat) (h0 : ∀ i, i < k → ¬ q_sel r c l i → f i = 0) : sO f (ogC r c l k).1 (ogC r c l k).2 = sB f k := by
  induction k with
  | zero => rfl
  | succ k ih =>
    have ih' := ih (fun i hi => h0 i (by omega))
    rw [ogC, sB]
    by_cases q : q_sel r c l k
    · rw [if_pos q]
      dsimp only
      have hp := atP_le r k (ogC r c l k).1 (ogC r c l k).2
      obtain ⟨d, hd⟩ : ∃ d, (ogC r c l k).2 = atP r k (ogC r c l k).1 (ogC r c l k).2 + d := ⟨(ogC r c l k).2 - atP r k (ogC r c l k).1 (ogC r c l k).2, by omega⟩
      have := sins_hi (f := f) (k := k) (p := atP r k (ogC r c l k).1 (ogC r c l k).2) (og := (ogC r c l k).1) (g := insO r k (ogC r c l k).1 (ogC r c l k).2) (fun j => rfl) d
      rw [← hd] at this
      rw [this, ih']
    · rw [if_neg q, h0 k (by omega) q, ih']; omega
theorem xuu_v {og : Nat → Nat} {n : Nat} (hn : n ≤ 8) (hp : ∀ j, j < n → 0 ≤ am r (og j) ∧ am r (og j) ≤ 20000) : (xuu r og n).toInt = sO (am r) og n ∧ 0 ≤ sO (am r) og n ∧ sO (am r) og n ≤ 20000 * n := by
  induction n with
  | zero => exact ⟨rfl, Int.le_refl _, Int.le_refl _⟩
  | succ n ih =>
    obtain ⟨i1, i2, i3⟩ := ih (by omega) (fun j hj => hp j (by omega))
    have ha := hp n (by omega)
    have ha' : 0 ≤ (r (10 + 9 * og n + 3)).toInt ∧ (r (10 + 9 * og n + 3)).toInt ≤ 20000 := ha
    rw [xuu, sO, i32_add (by omega) (by omega), i1]
    refine ⟨rfl, ?_, ?_⟩
    · show 0 ≤ sO (am r) og n + (r (10 + 9 * og n + 3)).toInt
      omega
    · show sO (am r) og n + (r (10 + 9 * og n + 3)).toInt ≤ _
      omega
theorem noB_w {c l : Nat} (h : p_noBlend r nb c l ≤ 0) : r (94 + 6 * c + 1) ≤ allU r c l nb := by
  unfold p_noBlend at h
  by_cases c1 : q_stands r l
  · rw [if_pos c1] at h; exact absurd h (by decide)
  · rw [if_neg c1] at h
    by_cases c2 : r (94 + 6 * c + 1) ≤ allU r c l nb
    · exact c2
    · rw [if_neg c2] at h; exact absurd h (by decide)
/-- the blend's shares -/
theorem blU_ok (h : SInv r b nb nl nc) {c : Nat} (hc : c < nc) {l : Nat} (hB : p_noBlend r nb c l ≤ 0) : (∀ k, k < nb → (blU r nb c l k).toInt ≤ (r (10 + 9 * k + 3)).toInt) ∧ sB (fun k => (blU r nb c l k).toInt) nb = (r (94 + 6 * c + 1)).toInt := by
  obtain ⟨n8, hp, hq⟩ := og_pos h c l
  obtain ⟨w0, w1, w2, m0, m1⟩ := con_w h hc
  obtain ⟨b1, b2⟩ := best_eq h hc l
  have ok := (ogC_ok r c l nb).2
  have em : (nI (p_bestN r nb c l)).toInt = p_bestN r nb c l := nI_toInt (by omega)
  have ew : (r (94 + 6 * c + 1)).toInt = ((r (94 + 6 * c + 1)).toNatClampNeg : Int) := by
    have := nI_toInt (n := (r (94 + 6 * c + 1)).toNatClampNeg) (by omega)
    rw [← w0] at this; exact this
  have es : (r (94 + 6 * c + 1) - nI (p_bestN r nb c l)).toInt = (r (94 + 6 * c + 1)).toInt - p_bestN r nb c l := by rw [i32_sub (by omega) (by omega), em]
  have hX := xuu_v (r := r) (og := ogN r nb c l) n8 (fun j hj => by
    have := hp j hj
    obtain ⟨g1, g2, g3, g4⟩ := (h.2.1 _ (ok j hj).1).1
    have g2' : (r (10 + 9 * ogN r nb c l j + 3)).toInt ≤ (r (10 + 9 * ogN r nb c l j + 0)).toInt := g2
    have g4' : (r (10 + 9 * ogN r nb c l j + 0)).toInt ≤ 20000 := g4
    exact ⟨by show 0 ≤ (r (10 + 9 * ogN r nb c l j + 3)).toInt; omega, by show (r (10 + 9 * ogN r nb c l j + 3)).toInt ≤ 20000; omega⟩)
  have hall : (r (94 + 6 * c + 1)).toInt ≤ sO (am r) (ogN r nb c l) (cnN r nb c l) := by
    have := i32_le.mp (noB_w hB)
    rw [← xuu_eq] at this
    rw [← hX.1]; exact this
  have inj := ogC_inj r c l nb
  have z : ∀ i, i < nb → ¬ q_sel r c l i → (blU r nb c l i).toInt = 0 := fun i hi q => by
    have : blU r nb c l i = 0 := mixU_sel (fun k hk e => q (e ▸ (ok k hk).2))
    rw [this]; rfl
  refine ⟨fun k hk => ?_, ?_⟩
  · by_cases q : q_sel r c l k
    · obtain ⟨j, hj, rfl⟩ : ∃ j, j < cnN r nb c l ∧ ogN r nb c l j = k := Classical.byContradiction fun hne => by
        have hz : sO (fun o => if o = k then (1 : Int) else 0) (ogC r c l nb).1 (ogC r c l nb).2 = 0 := by
          have : ∀ m, m ≤ (ogC r c l nb).2 → sO (fun o => if o = k then (1 : Int) else 0) (ogC r c l nb).1 m = 0 := by
            intro m
            induction m with
            | zero => intro _; rfl
            | succ m ih => intro hm; rw [sO, ih (by omega), if_neg (fun e => hne ⟨m, show m < (ogC r c l nb).2 by omega, e⟩)]; rfl
          exact this _ (Nat.le_refl _)
        rw [sO_og _ c l nb (fun i hi hq => if_neg (fun e => hq (e ▸ q)))] at hz
        have : ∀ m, sB (fun o => if o = k then (1 : Int) else 0) m = if k < m then 1 else 0 := by
          intro m
          induction m with
          | zero => rfl
          | succ m ih =>
            rw [sB, ih]
            by_cases c1 : k < m
            · rw [if_pos c1, if_neg (show ¬ m = k by omega), if_pos (show k < m + 1 by omega)]; rfl
            · rw [if_neg c1]
              by_cases c2 : m = k
              · rw [if_pos c2, if_pos (show k < m + 1 by omega)]; rfl
              · rw [if_neg c2, if_neg (show ¬ k < m + 1 by omega)]; rfl
        rw [this, if_pos hk] at hz
        exact absurd hz (by decide)
      exact U_le (r := r) (og := ogN r nb c l) (damp := nI (p_bestN r nb c l)) (dry := r (94 + 6 * c + 1) - nI (p_bestN r nb c l)) (by omega) (by omega) (by omega) hp inj (by omega) hj
    · rw [z k hk q]; exact (h.2.1 k hk).1.1
  · rw [← sO_og (r := r) (fun k => (blU r nb c l k).toInt) c l nb z]
    have := U_sum (r := r) (og := ogN r nb c l) (damp := nI (p_bestN r nb c l)) (dry := r (94 + 6 * c + 1) - nI (p_bestN r nb c l)) (by omega) (by omega) (by omega) hp inj (by omega)
    rw [es, em] at this
    show sO (fun k => (mixU r (ogN r nb c l) (cnN r nb c l) (nI (p_bestN r nb c l)) (r (94 + 6 * c + 1) - nI (p_bestN r nb c l)) k).toInt) (ogN r nb c l) (cnN r nb c l) = _
    rw [this]; omega
end MX
