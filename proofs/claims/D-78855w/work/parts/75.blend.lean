/-! blends: the class's words are the reference's -/
set_option maxRecDepth 100000
section BL
variable {r : Nat → Int32} {b : Nat → Int64} {nb nl nc : Nat}
theorem sel_iff (h : SInv r b nb nl nc) {c k l : Nat} (hc : c < nc) (hk : k < nb) : q_xs r (r (94 + 6 * c + 0)) l k ↔ q_sel r c l k := by
  constructor
  · rintro ⟨e, s1, s2⟩
    refine ⟨fun q => ?_, e, s1, s2⟩
    have h0 : 0 ≤ (r (10 + 9 * k + 3)).toInt := (h.2.1 k hk).1.1
    have q' : (r (10 + 9 * k + 3)).toInt ≤ (0 : Int) := i32_le.mp q
    have e3 : r (10 + 9 * k + 3) = 0 := i32_eq.mpr (by show _ = (0 : Int); omega)
    have e5 : r (10 + 9 * k + 5) = -1 := ((h.2.1 k hk).2.2.2.1 e3).1
    have hk0 : 0 ≤ (r (94 + 6 * c + 0)).toInt := (h.2.2.2.1 c hc).1.1
    rw [← e, e5] at hk0
    exact absurd hk0 (by decide)
  · rintro ⟨-, e, s1, s2⟩; exact ⟨e, s1, s2⟩
theorem xog_eq (h : SInv r b nb nl nc) {c l : Nat} (hc : c < nc) {k : Nat} (hk : k ≤ nb) : xog r (r (94 + 6 * c + 0)) l k = ogC r c l k := by
  induction k with
  | zero => rfl
  | succ k ih =>
    rw [xog, ogC, ih (by omega)]
    by_cases q : q_sel r c l k
    · rw [if_pos q, if_pos ((sel_iff h hc (by omega)).mpr q)]
    · rw [if_neg q, if_neg (fun z => q ((sel_iff h hc (by omega)).mp z))]
theorem ins_lo {k p n : Nat} {og : Nat → Nat} {g : Nat → Nat} (hg : ∀ j, g j = if j < p then og j else if j = p then k else og (j - 1)) : ∀ m, m ≤ p → xuu r g m = xuu r og m := by
  intro m
  induction m with
  | zero => intro _; rfl
  | succ m ih => intro hm; rw [xuu, xuu, ih (by omega), hg m, if_pos (by omega)]
theorem ins_hi {k p : Nat} {og : Nat → Nat} {g : Nat → Nat} (hg : ∀ j, g j = if j < p then og j else if j = p then k else og (j - 1)) (d : Nat) : xuu r g (p + d + 1) = xuu r og (p + d) + r (10 + 9 * k + 3) := by
  induction d with
  | zero => rw [show p + 0 + 1 = p + 1 from rfl, xuu, ins_lo (n := 0) hg p (Nat.le_refl p), hg p, if_neg (by omega), if_pos rfl]; rfl
  | succ d ih =>
    rw [xuu, show p + (d + 1) = p + d + 1 by omega, ih, hg (p + d + 1), if_neg (by omega), if_neg (by omega), show p + d + 1 - 1 = p + d by omega, xuu]
    grind
theorem xuu_eq (r : Nat → Int32) (c l k : Nat) : xuu r (ogC r c l k).1 (ogC r c l k).2 = allU r c l k := by
  induction k with
  | zero => rfl
  | succ k ih =>
    rw [ogC, allU]
    by_cases q : q_sel r c l k
    · rw [if_pos q, if_pos q]
      dsimp only
      have hp := atP_le r k (ogC r c l k).1 (ogC r c l k).2
      obtain ⟨d, hd⟩ : ∃ d, (ogC r c l k).2 = atP r k (ogC r c l k).1 (ogC r c l k).2 + d := ⟨(ogC r c l k).2 - atP r k (ogC r c l k).1 (ogC r c l k).2, by omega⟩
      have := ins_hi (r := r) (k := k) (p := atP r k (ogC r c l k).1 (ogC r c l k).2) (og := (ogC r c l k).1) (g := insO r k (ogC r c l k).1 (ogC r c l k).2) (fun j => rfl) d
      rw [← hd] at this
      rw [this, ih]
    · rw [if_neg q, if_neg q]; exact ih
theorem xt_eq (r : Nat → Int32) (o : Nat) (x : (Nat → Int32) × Int32) : xt1 r o x = tk1 r o x := by
  unfold tk1
  show (upd x.1 o (x.1 o + (if r (10 + 9 * o + 3) < x.2 then r (10 + 9 * o + 3) else x.2)), x.2 - (if r (10 + 9 * o + 3) < x.2 then r (10 + 9 * o + 3) else x.2)) = _
  by_cases c : r (10 + 9 * o + 3) < x.2
  · rw [if_pos c, if_pos (Int32.le_of_lt c)]
  · rw [if_neg c]
    by_cases c2 : r (10 + 9 * o + 3) ≤ x.2
    · have e : r (10 + 9 * o + 3) = x.2 := i32_eq.mpr (by
        have := i32_le.mp c2
        have : ¬ (r (10 + 9 * o + 3)).toInt < x.2.toInt := fun q => c (i32_lt.mpr q)
        omega)
      rw [if_pos c2, e]
    · rw [if_neg c2]
/-- a mix under way: what is left, what each bin gives -/
def Iv (D : Int) (x : (Nat → Int32) × Int32) : Prop := 0 ≤ x.2.toInt ∧ ∀ j, 0 ≤ (x.1 j).toInt ∧ (x.1 j).toInt + x.2.toInt ≤ D
theorem tk_0 {o : Nat} {x : (Nat → Int32) × Int32} (hr : 0 < (r (10 + 9 * o + 3)).toInt) (h0 : x.2 = 0) : tk1 r o x = x := by
  unfold tk1
  rw [if_neg (fun q => by have := i32_le.mp q; rw [h0] at this; have : (r (10 + 9 * o + 3)).toInt ≤ (0 : Int) := this; omega)]
  refine Prod.ext ?_ ?_
  · dsimp only
    rw [h0, show x.1 o + 0 = x.1 o by grind, upd_self]
  · dsimp only
    rw [h0]; rfl
theorem tk_iv {D : Int} (hD : D ≤ 20000) {o : Nat} {x : (Nat → Int32) × Int32} (hr : 0 < (r (10 + 9 * o + 3)).toInt) (h : Iv D x) : Iv D (tk1 r o x) := by
  obtain ⟨h0, hj⟩ := h
  have gen : ∀ t : Int32, 0 ≤ t.toInt → t.toInt ≤ x.2.toInt → Iv D (upd x.1 o (x.1 o + t), x.2 - t) := by
    intro t t0 t1
    have e1 : (x.2 - t).toInt = x.2.toInt - t.toInt := i32_sub (by omega) (by have := (i32_rng x.2).2; omega)
    refine ⟨by show 0 ≤ (x.2 - t).toInt; omega, fun j => ?_⟩
    show 0 ≤ (upd x.1 o (x.1 o + t) j).toInt ∧ (upd x.1 o (x.1 o + t) j).toInt + (x.2 - t).toInt ≤ D
    have ho := hj o
    by_cases q : j = o
    · subst q
      rw [upd_eq, i32_add (by omega) (by omega)]
      omega
    · rw [upd_ne q]
      have := hj j
      omega
  unfold tk1
  by_cases c : r (10 + 9 * o + 3) ≤ x.2
  · rw [if_pos c]; exact gen _ (by omega) (i32_le.mp c)
  · rw [if_neg c]; exact gen _ h0 (Int.le_refl _)
theorem mixA_iv {og : Nat → Nat} {damp : Int32} (d0 : 0 ≤ damp.toInt) (d1 : damp.toInt ≤ 20000) {n : Nat} (hp : ∀ j, j < n → 0 < (r (10 + 9 * og j + 3)).toInt) : Iv damp.toInt (mixA r og damp n) := by
  induction n with
  | zero => exact ⟨d0, fun j => ⟨Int.le_refl _, by show (0 : Int) + _ ≤ _; rw [Int.zero_add]; exact Int.le_refl _⟩⟩
  | succ n ih => exact tk_iv d1 (hp n (by omega)) (ih (fun j hj => hp j (by omega)))
theorem mixA_stop {og : Nat → Nat} {damp : Int32} {k : Nat} (h0 : (mixA r og damp k).2 = 0) (f : Nat) (hp : ∀ j, j < k + f → 0 < (r (10 + 9 * og j + 3)).toInt) : mixA r og damp (k + f) = mixA r og damp k := by
  induction f with
  | zero => rfl
  | succ f ih =>
    show tk1 r (og (k + f)) (mixA r og damp (k + f)) = _
    rw [ih (fun j hj => hp j (by omega))]
    exact tk_0 (hp (k + f) (by omega)) h0
theorem xta_eq {og : Nat → Nat} {damp : Int32} (d0 : 0 ≤ damp.toInt) (d1 : damp.toInt ≤ 20000) (f : Nat) : ∀ k, (∀ j, j < k + f → 0 < (r (10 + 9 * og j + 3)).toInt) → xta r og f k (mixA r og damp k) = mixA r og damp (k + f) := by
  induction f with
  | zero => intro k _; rfl
  | succ f ih =>
    intro k hp
    rw [xta]
    have iv := mixA_iv (r := r) (og := og) d0 d1 (n := k) (fun j hj => hp j (by omega))
    by_cases c : (mixA r og damp k).2 ≤ 0
    · rw [if_pos c]
      have c' : (mixA r og damp k).2.toInt ≤ (0 : Int) := i32_le.mp c
      have e0 : (mixA r og damp k).2 = 0 := i32_eq.mpr (by have := iv.1; show _ = (0 : Int); omega)
      exact (mixA_stop e0 (f + 1) hp).symm
    · rw [if_neg c, xt_eq]
      have := ih (k + 1) (fun j hj => hp j (by omega))
      rw [show k + 1 + f = k + (f + 1) by omega] at this
      exact this
theorem mixB_iv {og : Nat → Nat} {damp dry : Int32} (d0 : 0 ≤ damp.toInt) (y0 : 0 ≤ dry.toInt) (d1 : damp.toInt + dry.toInt ≤ 20000) {n : Nat} (hp : ∀ j, j < n → 0 < (r (10 + 9 * og j + 3)).toInt) {j : Nat} (hj : j ≤ n) : Iv (damp.toInt + dry.toInt) (mixB r og n damp dry j) := by
  induction j with
  | zero =>
    have iv := mixA_iv (r := r) (og := og) d0 (by omega) hp
    exact ⟨y0, fun j => ⟨(iv.2 j).1, by show ((mixA r og damp n).1 j).toInt + dry.toInt ≤ _; have := iv.2 j; have := iv.1; omega⟩⟩
  | succ j ih => exact tk_iv d1 (hp (n - 1 - j) (by omega)) (ih (by omega))
theorem mixB_stop {og : Nat → Nat} {damp dry : Int32} {n k : Nat} (h0 : (mixB r og n damp dry k).2 = 0) (hp : ∀ j, j < n → 0 < (r (10 + 9 * og j + 3)).toInt) (f : Nat) (hf : k + f ≤ n) : mixB r og n damp dry (k + f) = mixB r og n damp dry k := by
  induction f with
  | zero => rfl
  | succ f ih =>
    show tk1 r (og (n - 1 - (k + f))) (mixB r og n damp dry (k + f)) = _
    rw [ih (by omega)]
    exact tk_0 (hp _ (by omega)) h0
theorem xtb_eq {og : Nat → Nat} {damp dry : Int32} (d0 : 0 ≤ damp.toInt) (y0 : 0 ≤ dry.toInt) (d1 : damp.toInt + dry.toInt ≤ 20000) {n : Nat} (hp : ∀ j, j < n → 0 < (r (10 + 9 * og j + 3)).toInt) (f : Nat) : ∀ k, k + f = n → xtb r og f (mixB r og n damp dry k) = mixB r og n damp dry n := by
  induction f with
  | zero => intro k hk; rw [show k = n by omega]; rfl
  | succ f ih =>
    intro k hk
    rw [xtb]
    have iv := mixB_iv (r := r) (og := og) d0 y0 d1 hp (j := k) (by omega)
    by_cases c : (mixB r og n damp dry k).2 ≤ 0
    · rw [if_pos c]
      have c' : (mixB r og n damp dry k).2.toInt ≤ (0 : Int) := i32_le.mp c
      have e0 : (mixB r og n damp dry k).2 = 0 := i32_eq.mpr (by have := iv.1; show _ = (0 : Int); omega)
      have := mixB_stop e0 hp (f + 1) (by omega)
      rw [hk] at this
      exact this.symm
    · rw [if_neg c, xt_eq]
      have := ih (k + 1) (by omega)
      rw [mixB, show n - 1 - k = f by omega] at this
      exact this
theorem xU_eq {og : Nat → Nat} {am num : Int32} (d0 : 0 ≤ num.toInt) (d1 : num.toInt ≤ am.toInt) (d2 : am.toInt ≤ 20000) {n : Nat} (hp : ∀ j, j < n → 0 < (r (10 + 9 * og j + 3)).toInt) : xU r og n am num = mixU r og n num (am - num) := by
  have e : (am - num).toInt = am.toInt - num.toInt := i32_sub (by omega) (by omega)
  unfold xU mixU
  have h1 : xta r og n 0 (fun _ => 0, num) = mixA r og num n := by
    have := xta_eq (r := r) (og := og) (damp := num) d0 (by omega) n 0 (fun j hj => hp j (by omega))
    rw [Nat.zero_add] at this
    exact this
  rw [h1]
  have := xtb_eq (r := r) (og := og) (damp := num) (dry := am - num) d0 (by omega) (by omega) hp n 0 (by omega)
  rw [mixB] at this
  rw [this]
theorem mixS_v {og : Nat → Nat} {u : Nat → Int32} {n : Nat} (hn : n ≤ 8) (hu : ∀ j, 0 ≤ (u j).toInt ∧ (u j).toInt ≤ 20000) (hm : ∀ j, j < n → 0 ≤ (p_moist r (og j)).toInt ∧ (p_moist r (og j)).toInt ≤ 400) : 0 ≤ (mixS r og u n).toInt ∧ (mixS r og u n).toInt ≤ 8000000 * n := by
  induction n with
  | zero => exact ⟨Int.le_refl _, Int.le_refl _⟩
  | succ n ih =>
    obtain ⟨i1, i2⟩ := ih (by omega) (fun j hj => hm j (by omega))
    obtain ⟨u0, u1⟩ := hu (og n)
    obtain ⟨m0, m1⟩ := hm n (by omega)
    have b0 : 0 ≤ (u (og n)).toInt * (p_moist r (og n)).toInt := Int.mul_nonneg u0 m0
    have b1 : (u (og n)).toInt * (p_moist r (og n)).toInt ≤ 20000 * 400 := Int.mul_le_mul u1 m1 m0 (by omega)
    have e1 : ((u (og n)).toInt64 * (p_moist r (og n)).toInt64).toInt = (u (og n)).toInt * (p_moist r (og n)).toInt := by rw [i64_mul (by rw [i3264, i3264]; omega) (by rw [i3264, i3264]; omega), i3264, i3264]
    rw [mixS, i64_add (by rw [e1]; omega) (by rw [e1]; omega), e1]
    omega
theorem ceil_iff {T w m : Int} (hw : 0 < w) : (T + w - 1) / w ≤ m ↔ T ≤ m * w := by
  have h1 : (T + w - 1) / w < m + 1 ↔ T + w - 1 < (m + 1) * w := Int.ediv_lt_iff_lt_mul hw
  rw [Int.add_mul, Int.one_mul] at h1
  constructor
  · intro h
    have := h1.mp (by omega)
    omega
  · intro h
    have := h1.mpr (by omega)
    omega
/-- the mean, rounded up, of a mix of m damp and the rest dry -/
theorem mixR_v {og : Nat → Nat} {n m w : Nat} (hn : n ≤ 8) (hm : m ≤ w) (hw : 1 ≤ w) (hw2 : w ≤ 20000) (hp : ∀ j, j < n → 0 < (r (10 + 9 * og j + 3)).toInt) (hq : ∀ j, j < n → 0 ≤ (p_moist r (og j)).toInt ∧ (p_moist r (og j)).toInt ≤ 400) :
    mixR r og n (nI m) (nI w - nI m) = ((mixS r og (xU r og n (nI w) (nI m)) n + (nI w).toInt64 - 1) / (nI w).toInt64).toInt32 ∧ 0 ≤ (mixS r og (xU r og n (nI w) (nI m)) n).toInt ∧ (mixR r og n (nI m) (nI w - nI m)).toInt = ((mixS r og (xU r og n (nI w) (nI m)) n).toInt + w - 1) / w := by
  have em : (nI m).toInt = m := nI_toInt (by omega)
  have ew : (nI w).toInt = w := nI_toInt (by omega)
  have es : (nI w - nI m).toInt = (w : Int) - m := by rw [i32_sub (by omega) (by omega), em, ew]
  have eU : xU r og n (nI w) (nI m) = mixU r og n (nI m) (nI w - nI m) := xU_eq (by omega) (by omega) (by omega) hp
  have iv := mixB_iv (r := r) (og := og) (damp := nI m) (dry := nI w - nI m) (by omega) (by omega) (by omega) hp (Nat.le_refl n)
  obtain ⟨t0, t1⟩ := mixS_v (r := r) (og := og) (u := mixU r og n (nI m) (nI w - nI m)) hn (fun j => ⟨(iv.2 j).1, by have := iv.2 j; have := iv.1; show ((mixB r og n (nI m) (nI w - nI m) n).1 j).toInt ≤ _; omega⟩) hq
  have e3 : (nI m).toInt64 + (nI w - nI m).toInt64 = (nI w).toInt64 := i64_eq.mpr (by rw [i64_add (by rw [i3264, i3264]; omega) (by rw [i3264, i3264]; omega), i3264, i3264, i3264]; omega)
  have e1 : mixR r og n (nI m) (nI w - nI m) = ((mixS r og (mixU r og n (nI m) (nI w - nI m)) n + (nI w).toInt64 - 1) / (nI w).toInt64).toInt32 := by
    unfold mixR
    rw [Int64.add_assoc, e3, addsub]
  rw [eU]
  refine ⟨e1, t0, ?_⟩
  have f1 : (mixS r og (mixU r og n (nI m) (nI w - nI m)) n + (nI w).toInt64).toInt = (mixS r og (mixU r og n (nI m) (nI w - nI m)) n).toInt + w := by rw [i64_add (by rw [i3264]; omega) (by rw [i3264]; omega), i3264, ew]
  have f2 : (mixS r og (mixU r og n (nI m) (nI w - nI m)) n + (nI w).toInt64 - 1).toInt = (mixS r og (mixU r og n (nI m) (nI w - nI m)) n).toInt + w - 1 := by
    rw [i64_sub (by rw [f1]; show _ ≤ _ - (1 : Int); omega) (by rw [f1]; show _ - (1 : Int) < _; omega), f1]; rfl
  have f3 : ((mixS r og (mixU r og n (nI m) (nI w - nI m)) n + (nI w).toInt64 - 1) / (nI w).toInt64).toInt = ((mixS r og (mixU r og n (nI m) (nI w - nI m)) n).toInt + w - 1) / w := by
    rw [i64_div (by rw [f2]; omega) (by rw [i3264]; omega), f2, i3264, ew]
  have g0 : 0 ≤ ((mixS r og (mixU r og n (nI m) (nI w - nI m)) n).toInt + w - 1) / w := Int.ediv_nonneg (by omega) (by omega)
  have g1 : ((mixS r og (mixU r og n (nI m) (nI w - nI m)) n).toInt + w - 1) / w ≤ (mixS r og (mixU r og n (nI m) (nI w - nI m)) n).toInt + w - 1 := Int.ediv_le_self _ (by omega)
  rw [e1, i6432 (by rw [f3]; omega) (by rw [f3]; omega), f3]
theorem mix_le {og : Nat → Nat} {n m w : Nat} {most : Int32} (hn : n ≤ 8) (hm : m ≤ w) (hw : 1 ≤ w) (hw2 : w ≤ 20000) (k0 : 0 ≤ most.toInt) (k1 : most.toInt ≤ 400) (hp : ∀ j, j < n → 0 < (r (10 + 9 * og j + 3)).toInt) (hq : ∀ j, j < n → 0 ≤ (p_moist r (og j)).toInt ∧ (p_moist r (og j)).toInt ≤ 400) :
    mixR r og n (nI m) (nI w - nI m) ≤ most ↔ ¬ 0 < lg_cmp (mixS r og (xU r og n (nI w) (nI m)) n) (most.toInt64 * (nI w).toInt64) := by
  obtain ⟨-, t0, e⟩ := mixR_v hn hm hw hw2 hp hq
  have ew : (nI w).toInt = w := nI_toInt (by omega)
  have b1 : most.toInt * (w : Int) ≤ 400 * 20000 := Int.mul_le_mul k1 (by omega) (by omega) (by omega)
  have b0 : 0 ≤ most.toInt * (w : Int) := Int.mul_nonneg k0 (by omega)
  have eM : (most.toInt64 * (nI w).toInt64).toInt = most.toInt * w := by rw [i64_mul (by rw [i3264, i3264, ew]; omega) (by rw [i3264, i3264, ew]; omega), i3264, i3264, ew]
  rw [lgc_gt, i64_lt, eM, i32_le, e, ceil_iff (by omega)]
  omega
theorem bsr_ext {T T' : Nat → Bool} {w : Nat} (h : ∀ m, m ≤ w → T m = T' m) (f : Nat) : ∀ lo hi, hi ≤ w + 1 → bsr T f lo hi = bsr T' f lo hi := by
  induction f with
  | zero => intro lo hi _; rfl
  | succ f ih =>
    intro lo hi hh
    rw [bsr, bsr]
    by_cases c : hi - lo ≤ 1
    · rw [if_pos c, if_pos c]
    · rw [if_neg c, if_neg c, h ((lo + hi) / 2) (by omega), ih _ _ hh, ih lo ((lo + hi) / 2) (by omega)]
theorem bsr_le {T : Nat → Bool} {w : Nat} (f : Nat) : ∀ lo hi, lo ≤ w → hi ≤ w + 1 → bsr T f lo hi ≤ w := by
  induction f with
  | zero => intro lo hi hl _; exact hl
  | succ f ih =>
    intro lo hi hl hh
    rw [bsr]
    by_cases c : hi - lo ≤ 1
    · rw [if_pos c]; exact hl
    · rw [if_neg c]
      split
      · exact ih _ _ (by omega) hh
      · exact ih _ _ hl (by omega)
theorem og_pos (h : SInv r b nb nl nc) (c l : Nat) : cnN r nb c l ≤ 8 ∧ (∀ j, j < cnN r nb c l → 0 < (r (10 + 9 * ogN r nb c l j + 3)).toInt) ∧ (∀ j, j < cnN r nb c l → 0 ≤ (p_moist r (ogN r nb c l j)).toInt ∧ (p_moist r (ogN r nb c l j)).toInt ≤ 400) := by
  obtain ⟨o1, o2⟩ := ogC_ok r c l nb
  have hn := h.1.1
  have key : ∀ j, j < cnN r nb c l → 0 < (r (10 + 9 * ogN r nb c l j + 3)).toInt := by
    intro j hj
    have := (o2 j hj).2.1
    have q : ¬ (r (10 + 9 * ogN r nb c l j + 3)).toInt ≤ (0 : Int) := fun z => this (i32_le.mpr z)
    omega
  refine ⟨by show (ogC r c l nb).2 ≤ 8; omega, key, fun j hj => ?_⟩
  have h3 : bv r (ogN r nb c l j) 3 ≠ 0 := fun z => by
    have := key j hj
    rw [show r (10 + 9 * ogN r nb c l j + 3) = 0 from z] at this
    exact absurd this (by decide)
  obtain ⟨-, -, m0, m1⟩ := bmo (h.2.1 _ (o2 j hj).1) h3
  exact ⟨m0, m1⟩
theorem con_w (h : SInv r b nb nl nc) {c : Nat} (hc : c < nc) : r (94 + 6 * c + 1) = nI (r (94 + 6 * c + 1)).toNatClampNeg ∧ 1 ≤ (r (94 + 6 * c + 1)).toNatClampNeg ∧ (r (94 + 6 * c + 1)).toNatClampNeg ≤ 20000 ∧ 0 ≤ (r (94 + 6 * c + 2)).toInt ∧ (r (94 + 6 * c + 2)).toInt ≤ 400 := by
  obtain ⟨-, ⟨a0, a1⟩, ⟨m0, m1⟩, -⟩ := h.2.2.2.1 c hc
  have a0' : (1 : Int32) ≤ r (94 + 6 * c + 1) := i32_le.mpr a0
  have a1' : r (94 + 6 * c + 1) ≤ (20000 : Int32) := i32_le.mpr a1
  obtain ⟨e, w1, w2⟩ := in1_c (n := 20000) rfl (by decide) ⟨a0', a1'⟩
  have m0' : 50 ≤ (r (94 + 6 * c + 2)).toInt := m0
  exact ⟨e, w2, w1, by omega, m1⟩
theorem xg_eq (h : SInv r b nb nl nc) {c : Nat} (hc : c < nc) (l : Nat) : xgN r nb c l = ogN r nb c l ∧ xgC r nb c l = cnN r nb c l := by
  have := xog_eq (l := l) h hc (Nat.le_refl nb)
  exact ⟨congrArg Prod.fst this, congrArg Prod.snd this⟩
theorem fb_noB (h : SInv r b nb nl nc) {c : Nat} (hc : c < nc) (l : Nat) : x_fb r nb c l = p_noBlend r nb c l := by
  obtain ⟨e1, e2⟩ := xg_eq h hc l
  obtain ⟨n8, hp, hq⟩ := og_pos h c l
  obtain ⟨w0, w1, w2, m0, m1⟩ := con_w h hc
  unfold x_fb p_noBlend
  have key := mix_le (r := r) (og := ogN r nb c l) (m := 0) n8 (Nat.zero_le _) w1 w2 m0 m1 hp hq
  rw [← w0, show nI 0 = 0 from rfl, show r (94 + 6 * c + 1) - 0 = r (94 + 6 * c + 1) by grind, Int32.not_lt] at key
  have eT : xT r nb c l 0 = mixS r (ogN r nb c l) (xU r (ogN r nb c l) (cnN r nb c l) (r (94 + 6 * c + 1)) 0) (cnN r nb c l) := by
    show mixS r (xgN r nb c l) (xU r (xgN r nb c l) (xgC r nb c l) (r (94 + 6 * c + 1)) 0) (xgC r nb c l) = _
    rw [e1, e2]
  rw [e1, e2, xuu_eq, eT]
  by_cases c1 : q_stands r l
  · rw [if_pos c1, if_pos c1]
  · rw [if_neg c1, if_neg c1]
    by_cases c2 : r (94 + 6 * c + 1) ≤ allU r c l nb
    · rw [if_pos c2, if_pos c2]
      by_cases c3 : mixR r (ogN r nb c l) (cnN r nb c l) 0 (r (94 + 6 * c + 1)) ≤ r (94 + 6 * c + 2)
      · rw [if_pos c3, if_pos (key.mp c3)]
      · rw [if_neg c3, if_neg (fun q => c3 (key.mpr q))]
    · rw [if_neg c2, if_neg c2]
theorem best_eq (h : SInv r b nb nl nc) {c : Nat} (hc : c < nc) (l : Nat) : x_bestN r nb c l = p_bestN r nb c l ∧ p_bestN r nb c l ≤ (r (94 + 6 * c + 1)).toNatClampNeg := by
  obtain ⟨e1, e2⟩ := xg_eq h hc l
  obtain ⟨n8, hp, hq⟩ := og_pos h c l
  obtain ⟨w0, w1, w2, m0, m1⟩ := con_w h hc
  refine ⟨?_, bsr_le _ _ _ (Nat.zero_le _) (Nat.le_refl _)⟩
  refine bsr_ext (fun m hm => ?_) _ _ _ (Nat.le_refl _)
  unfold xbT bestT
  have key := mix_le (r := r) (og := ogN r nb c l) (m := m) n8 hm w1 w2 m0 m1 hp hq
  rw [decide_eq_decide, key, ← w0]
  show _ ↔ ¬ 0 < lg_cmp _ (xMost r c)
  have eT : xT r nb c l (nI m) = mixS r (ogN r nb c l) (xU r (ogN r nb c l) (cnN r nb c l) (r (94 + 6 * c + 1)) (nI m)) (cnN r nb c l) := by
    show mixS r (xgN r nb c l) (xU r (xgN r nb c l) (xgC r nb c l) (r (94 + 6 * c + 1)) (nI m)) (xgC r nb c l) = _
    rw [e1, e2]
  rw [eT]
theorem blU_eq (h : SInv r b nb nl nc) {c : Nat} (hc : c < nc) (l : Nat) : xlU r nb c l = blU r nb c l ∧ x_bM r nb c l = blM r nb c l ∧ 0 ≤ (blM r nb c l).toInt ∧ ∀ j, 0 ≤ (blU r nb c l j).toInt ∧ (blU r nb c l j).toInt ≤ 20000 := by
  obtain ⟨e1, e2⟩ := xg_eq h hc l
  obtain ⟨n8, hp, hq⟩ := og_pos h c l
  obtain ⟨w0, w1, w2, m0, m1⟩ := con_w h hc
  obtain ⟨b1, b2⟩ := best_eq h hc l
  have em : (nI (p_bestN r nb c l)).toInt = p_bestN r nb c l := nI_toInt (by omega)
  have ew : (r (94 + 6 * c + 1)).toInt = ((r (94 + 6 * c + 1)).toNatClampNeg : Int) := by
    have := nI_toInt (n := (r (94 + 6 * c + 1)).toNatClampNeg) (by omega)
    rw [← w0] at this; exact this
  have hU : xU r (ogN r nb c l) (cnN r nb c l) (r (94 + 6 * c + 1)) (nI (p_bestN r nb c l)) = blU r nb c l := xU_eq (by omega) (by omega) (by omega) hp
  obtain ⟨k1, k2, k3⟩ := mixR_v (r := r) (og := ogN r nb c l) n8 b2 w1 w2 hp hq
  rw [← w0] at k1 k2 k3
  refine ⟨?_, ?_, ?_, ?_⟩
  · show xU r (xgN r nb c l) (xgC r nb c l) (r (94 + 6 * c + 1)) (nI (x_bestN r nb c l)) = _
    rw [e1, e2, b1]; exact hU
  · show x_fm r (xgN r nb c l) (xgC r nb c l) (r (94 + 6 * c + 1)) (nI (x_bestN r nb c l)) = _
    rw [e1, e2, b1]
    exact k1.symm
  · show 0 ≤ (mixR r (ogN r nb c l) (cnN r nb c l) (nI (p_bestN r nb c l)) (r (94 + 6 * c + 1) - nI (p_bestN r nb c l))).toInt
    rw [k3]
    exact Int.ediv_nonneg (by omega) (by omega)
  · intro j
    have es : (r (94 + 6 * c + 1) - nI (p_bestN r nb c l)).toInt = (r (94 + 6 * c + 1)).toInt - p_bestN r nb c l := by rw [i32_sub (by omega) (by omega), em]
    have iv := mixB_iv (r := r) (og := ogN r nb c l) (damp := nI (p_bestN r nb c l)) (dry := r (94 + 6 * c + 1) - nI (p_bestN r nb c l)) (by omega) (by omega) (by omega) hp (Nat.le_refl (cnN r nb c l))
    refine ⟨(iv.2 j).1, ?_⟩
    have := iv.2 j
    have := iv.1
    show ((mixB r (ogN r nb c l) (cnN r nb c l) (nI (p_bestN r nb c l)) (r (94 + 6 * c + 1) - nI (p_bestN r nb c l)) (cnN r nb c l)).1 j).toInt ≤ _
    omega
end BL
