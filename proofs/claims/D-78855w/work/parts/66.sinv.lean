/-! a state stays sound: passing, sums, the words of class and reference on one row -/
set_option maxRecDepth 100000
def LegOk (v : Nat → Int32) : Prop := 1 ≤ (v 0).toInt ∧ (v 0).toInt ≤ 500
def ConOk (v : Nat → Int32) : Prop := (0 ≤ (v 0).toInt ∧ (v 0).toInt ≤ 3) ∧ (1 ≤ (v 1).toInt ∧ (v 1).toInt ≤ 20000) ∧ (50 ≤ (v 2).toInt ∧ (v 2).toInt ≤ 400) ∧ (1 ≤ (v 3).toInt ∧ (v 3).toInt ≤ 2000) ∧ ((v 4 = 1 ∧ v 5 = -1) ∨ (v 4 = 0 ∧ 0 ≤ (v 5).toInt))
def sumI (r : Nat → Int32) : Nat → Int
  | 0 => 0
  | k + 1 => sumI r k + (r (10 + 9 * k + 3)).toInt
def BkOk (r : Nat → Int32) (b : Nat → Int64) (nb : Nat) : Prop := (0 ≤ (b 0).toInt ∧ (b 0).toInt ≤ 500 * (r 0).toInt) ∧ 0 ≤ (b 1).toInt ∧ 0 ≤ (b 2).toInt ∧ (b 0).toInt - (b 1).toInt - (b 2).toInt = sumI r nb
def SInv (r : Nat → Int32) (b : Nat → Int64) (nb nl nc : Nat) : Prop := (nb ≤ 8 ∧ nl ≤ 3 ∧ nc ≤ 6) ∧ (∀ i, i < nb → BinOk (bv r i)) ∧ (∀ i, i < nl → LegOk (gv r i)) ∧ (∀ i, i < nc → ConOk (tv r i)) ∧ (∀ k, k < 4 → 1 ≤ (r (6 + k)).toInt ∧ (r (6 + k)).toInt ≤ 1000) ∧ (0 ≤ (r 0).toInt ∧ (r 0).toInt ≤ 1000000) ∧ BkOk r b nb
theorem BinOk.congr {v w : Nat → Int32} (h : ∀ j, j < 9 → v j = w j) (hv : BinOk v) : BinOk w := by
  unfold BinOk at hv ⊢
  rw [← h 0 (by decide), ← h 3 (by decide), ← h 4 (by decide), ← h 5 (by decide), ← h 6 (by decide), ← h 7 (by decide), ← h 8 (by decide)]
  exact hv
theorem sumI_congr {r r' : Nat → Int32} {n : Nat} (h : ∀ i, i < n → r (10 + 9 * i + 3) = r' (10 + 9 * i + 3)) : sumI r n = sumI r' n := by
  induction n with
  | zero => rfl
  | succ n ih => rw [sumI, sumI, ih (fun i hi => h i (by omega)), h n (by omega)]
theorem sumI_nn {r : Nat → Int32} {n : Nat} (h : ∀ i, i < n → BinOk (bv r i)) : 0 ≤ sumI r n := by
  induction n with
  | zero => exact Int.le_refl _
  | succ n ih =>
    have h1 := ih (fun i hi => h i (by omega))
    have h2 : 0 ≤ (r (10 + 9 * n + 3)).toInt := (h n (by omega)).1.1
    rw [sumI]; omega
theorem sumI_1 {r r' : Nat → Int32} {n i : Nat} {d : Int} (hi : i < n) (h : ∀ j, j < n → j ≠ i → r' (10 + 9 * j + 3) = r (10 + 9 * j + 3)) (hd : (r' (10 + 9 * i + 3)).toInt = (r (10 + 9 * i + 3)).toInt + d) : sumI r' n = sumI r n + d := by
  induction n with
  | zero => omega
  | succ n ih =>
    rw [sumI, sumI]
    by_cases q : i = n
    · subst q
      rw [hd, sumI_congr (r := r') (r' := r) (fun j hj => h j (by omega) (by omega))]; omega
    · rw [ih (by omega) (fun j hj hne => h j (by omega) hne), h n (by omega) (fun z => q z.symm)]; omega
theorem spass_bin {m : Int32} {r : Nat → Int32} {n i : Nat} (hi : i < n) : ∀ j, j < 9 → bv (s_pass m r n) i j = b_pass m (bv r i) j := by
  intro j hj
  induction n with
  | zero => omega
  | succ n ih =>
    show pb (s_pass m r n) n (b_pass m (bv (s_pass m r n) n)) (10 + 9 * i + j) = _
    by_cases q : i = n
    · subst q
      rw [pb_at _ _ _ hj]
      have e : ∀ k, k < 9 → bv (s_pass m r i) i k = bv r i k := fun k hk => s_pass_ne (fun z hz => by omega)
      have e2 : ∀ v w : Nat → Int32, (∀ k, k < 9 → v k = w k) → b_pass m v j = b_pass m w j := by
        intro v w hvw
        have hm3 : b_moist v = b_moist w := by unfold b_moist; rw [hvw 3 (by decide), hvw 4 (by decide)]
        unfold b_pass b_sp
        simp only [hvw 3 (by decide), hvw 6 (by decide), hm3]
        repeat' split
        all_goals first | exact hvw j hj | (simp only [upd]; split; rfl; exact hvw j hj) | (simp only [upd]; exact hvw j hj)
      exact e2 _ _ e
    · rw [pb_out _ (by omega)]
      exact ih (by omega)
theorem passB_s {m : Int32} {r : Nat → Int32} {n : Nat} (hm0 : 0 ≤ m.toInt) (hm1 : m.toInt ≤ 20000) (h : ∀ i, i < n → BinOk (bv r i)) : p_passB m r n = s_pass m r n := by
  induction n with
  | zero => rfl
  | succ n ih =>
    show p_pass1 m n (p_passB m r n) = pb (s_pass m r n) n (b_pass m (bv (s_pass m r n) n))
    rw [ih (fun i hi => h i (by omega))]
    exact pass_b hm0 hm1 ((h n (by omega)).congr (fun j hj => (s_pass_ne (fun z hz => by omega)).symm))
theorem passes_s {m : Int32} {r : Nat → Int32} {n : Nat} (hm0 : 0 ≤ m.toInt) (hm1 : m.toInt ≤ 20000) (h : ∀ i, i < n → BinOk (bv r i)) : p_passes m r n = s_passes m r n := by
  unfold p_passes s_passes
  rw [passB_s hm0 hm1 h]
theorem sps_ne {m : Int32} {r : Nat → Int32} {n j : Nat} (h : ∀ i, i < n → j ≠ 10 + 9 * i + 6) (h0 : j ≠ 0) : s_passes m r n j = r j := s_passes_ne h h0
theorem sps_0 {m : Int32} {r : Nat → Int32} {n : Nat} : s_passes m r n 0 = r 0 + m := by
  unfold s_passes
  rw [upd_eq, s_pass_ne (fun i hi => by omega)]
theorem sps_bin {m : Int32} {r : Nat → Int32} {n i : Nat} (hi : i < n) (hn : n ≤ 8) : ∀ j, j < 9 → bv (s_passes m r n) i j = b_pass m (bv r i) j := fun j hj => by
  show upd (s_pass m r n) 0 _ (10 + 9 * i + j) = _
  rw [upd_ne (by omega)]
  exact spass_bin hi j hj
theorem pass_inv {m : Int32} {r : Nat → Int32} {b : Nat → Int64} {nb nl nc : Nat} (hm0 : 0 ≤ m.toInt) (hm1 : m.toInt ≤ 20000) (hc : (r 0).toInt + m.toInt ≤ 1000000) (h : SInv r b nb nl nc) : SInv (s_passes m r nb) b nb nl nc := by
  obtain ⟨⟨n1, n2, n3⟩, hb, hl, hco, hpr, ⟨c0, c1⟩, ⟨k1, k2⟩, k3, k4, k5⟩ := h
  have e0 : (s_passes m r nb 0).toInt = (r 0).toInt + m.toInt := by rw [sps_0, i32_add (by omega) (by omega)]
  refine ⟨⟨n1, n2, n3⟩, fun i hi => ((hb i hi).pass hm0 hm1).congr (fun j hj => (sps_bin hi n1 j hj).symm), fun i hi => ?_, fun i hi => ?_, fun k hk => ?_, ?_, ⟨k1, ?_⟩, k3, k4, ?_⟩
  · show 1 ≤ (s_passes m r nb (82 + 4 * i + 0)).toInt ∧ (s_passes m r nb (82 + 4 * i + 0)).toInt ≤ 500
    rw [sps_ne (fun z hz => by omega) (by omega)]; exact hl i hi
  · have e : ∀ k, k < 6 → tv (s_passes m r nb) i k = tv r i k := fun k hk => sps_ne (fun z hz => by omega) (by omega)
    have := hco i hi
    unfold ConOk at this ⊢
    rw [e 0 (by decide), e 1 (by decide), e 2 (by decide), e 3 (by decide), e 4 (by decide), e 5 (by decide)]; exact this
  · rw [sps_ne (fun z hz => by omega) (by omega)]; exact hpr k hk
  · rw [e0]; omega
  · rw [e0]; omega
  · rw [k5]; exact sumI_congr (fun i hi => (sps_ne (fun z hz => by omega) (by omega)).symm)
theorem min_v {u sp : Int32} (hu0 : 0 ≤ u.toInt) (hu1 : u.toInt ≤ 20000) (h1 : 1 ≤ sp.toInt) (h2 : sp.toInt ≤ 500) : (p_min u sp).toInt = (u.toInt + sp.toInt - 1) / sp.toInt ∧ 0 ≤ (p_min u sp).toInt ∧ (p_min u sp).toInt ≤ 20000 ∧ u.toInt ≤ 500 * (p_min u sp).toInt ∧ (0 < u.toInt → 0 < (p_min u sp).toInt) := by
  have e1 : (u + sp - 1).toInt = u.toInt + sp.toInt - 1 := by
    have e0 : (u + sp).toInt = u.toInt + sp.toInt := i32_add (by omega) (by omega)
    rw [i32_sub (y := 1) (by rw [e0]; show _ ≤ _ - (1 : Int); omega) (by rw [e0]; show _ - (1 : Int) < _; omega), e0]; rfl
  have e2 : (p_min u sp).toInt = (u.toInt + sp.toInt - 1) / sp.toInt := by
    unfold p_min
    rw [i32_div (by rw [e1]; omega) (by omega), e1]
  have hp : 0 < sp.toInt := by omega
  have d1 : sp.toInt * ((u.toInt + sp.toInt - 1) / sp.toInt) ≤ u.toInt + sp.toInt - 1 := Int.mul_ediv_self_le (by omega)
  have d2 : u.toInt + sp.toInt - 1 < sp.toInt * ((u.toInt + sp.toInt - 1) / sp.toInt) + sp.toInt := Int.lt_mul_ediv_self_add hp
  have d0 : 0 ≤ (u.toInt + sp.toInt - 1) / sp.toInt := Int.ediv_nonneg (by omega) (by omega)
  rw [e2]
  generalize (u.toInt + sp.toInt - 1) / sp.toInt = q at d0 d1 d2 ⊢
  have d3 : sp.toInt * q ≤ 500 * q := Int.mul_le_mul_of_nonneg_right h2 d0
  refine ⟨rfl, d0, ?_, by omega, fun h => ?_⟩
  · have d4 : 1 * q ≤ sp.toInt * q := Int.mul_le_mul_of_nonneg_right h1 d0
    apply Classical.byContradiction
    intro hn
    have d5 : sp.toInt * 20001 ≤ sp.toInt * q := Int.mul_le_mul_of_nonneg_left (by omega) (by omega)
    omega
  · apply Classical.byContradiction
    intro hn
    have : q = 0 := by omega
    rw [this, Int.mul_zero] at d2
    omega
