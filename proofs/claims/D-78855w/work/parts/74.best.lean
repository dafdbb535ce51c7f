/-! the best leg, the best bin, the digest -/
set_option maxRecDepth 100000
section BB
variable {r : Nat → Int32} {b : Nat → Int64} {nb nl nc : Nat}
theorem n0m : ¬ nI 0 = -1 := by decide
theorem n1m : ¬ nI 1 = -1 := by decide
theorem n2m : ¬ nI 2 = -1 := by decide
theorem n0c : (nI 0).toNatClampNeg = 0 := by decide
theorem n1c : (nI 1).toNatClampNeg = 1 := by decide
theorem n2c : (nI 2).toNatClampNeg = 2 := by decide
/-- the forward search and the backward search find the same leg -/
def fwd (o : Nat → Int32) (m : Nat → Int32) : Nat → Int32
  | 0 => -1
  | k + 1 => if o k = 0 then (if fwd o m k = -1 then nI k else if m (fwd o m k).toNatClampNeg ≤ m k then fwd o m k else nI k) else fwd o m k
def bwd (o : Nat → Int32) (m : Nat → Int32) (nl : Nat) : Nat → Int32
  | 0 => -1
  | j + 1 => if o (nl - 1 - j) = 0 then (if bwd o m nl j = -1 then nI (nl - 1 - j) else if m (bwd o m nl j).toNatClampNeg < m (nl - 1 - j) then bwd o m nl j else nI (nl - 1 - j)) else bwd o m nl j
theorem fb_eq (o m : Nat → Int32) (hn : nl ≤ 3) : fwd o m nl = bwd o m nl nl := by
  match nl, hn with
  | 0, _ => rfl
  | 1, _ => rfl
  | 2, _ =>
    show fwd o m 2 = bwd o m 2 2
    simp only [fwd, bwd, show 2 - 1 - 0 = 1 from rfl, show 2 - 1 - 1 = 0 from rfl, if_true]
    by_cases h0 : o 0 = 0 <;> by_cases h1 : o 1 = 0
    · simp only [h0, h1, if_true, n0m, n1m, n0c, n1c, if_false]
      by_cases c : m 0 ≤ m 1
      · rw [if_pos c, if_neg (Int32.not_lt.mpr c)]
      · rw [if_neg c, if_pos (Int32.not_le.mp c)]
    · simp only [h0, h1, if_true, if_false]
    · simp only [h0, h1, if_true, n0m, n1m, n0c, n1c, if_false]
    · simp only [h0, h1, if_false]
  | 3, _ =>
    show fwd o m 3 = bwd o m 3 3
    simp only [fwd, bwd, show 3 - 1 - 0 = 2 from rfl, show 3 - 1 - 1 = 1 from rfl, show 3 - 1 - 2 = 0 from rfl, if_true]
    by_cases c01 : m 0 ≤ m 1 <;> by_cases c12 : m 1 ≤ m 2 <;> by_cases c02 : m 0 ≤ m 2 <;>
      have d01 := (Int32.not_lt (a := m 1) (b := m 0)) <;> have d12 := (Int32.not_lt (a := m 2) (b := m 1)) <;> have d02 := (Int32.not_lt (a := m 2) (b := m 0)) <;>
      by_cases h0 : o 0 = 0 <;> by_cases h1 : o 1 = 0 <;> by_cases h2 : o 2 = 0 <;>
      simp only [h0, h1, h2, if_true, if_false, n0m, n1m, n2m, n0c, n1c, n2c, c01, c12, c02, ← Int32.not_le, not_true, not_false_eq_true] <;>
      (try (exfalso; have q1 := fun z => c01 (i32_le.mpr z); omega)) <;> (try (simp only [i32_le] at c01 c12 c02; omega))
theorem xbl_f (h : SInv r b nb nl nc) {bi : Nat} (hb : bi < nb) {kind amt mo : Int32} (a0 : 0 ≤ amt.toInt) (a1 : amt.toInt ≤ 20000) (n : Nat) : xbl r bi kind amt mo n = fwd (fun k => p_against r k (-1) bi kind amt mo) (fun k => p_min amt (r (82 + 4 * k + 0))) n := by
  induction n with
  | zero => rfl
  | succ n ih => rw [xbl, fwd, ih, ref_eq h hb a0 a1]
theorem blN_b {bi : Nat} {kind amt mo : Int32} (n : Nat) : blN r nl bi kind amt mo n = bwd (fun k => p_against r k (-1) bi kind amt mo) (fun k => p_min amt (r (82 + 4 * k + 0))) nl n := by
  induction n with
  | zero => rfl
  | succ n ih => rw [blN, bwd, ih]; rfl
theorem truck_eq (kind amt mo : Int32) {x y : Int32} (hx : (0 ≤ kind ∧ kind ≤ 3) → q_truck amt mo → x = y) : (if 0 ≤ x_truck kind amt mo then x else x_truck kind amt mo) = (if 0 ≤ kind ∧ kind ≤ 3 then if q_truck amt mo then y else -3 else -2) := by
  unfold x_truck
  by_cases c1 : 0 ≤ kind ∧ kind ≤ 3
  · rw [if_pos c1, if_pos c1]
    by_cases c2 : 1 ≤ amt ∧ amt ≤ 5000
    · rw [if_pos c2]
      by_cases c3 : 50 ≤ mo ∧ mo ≤ 400
      · rw [if_pos c3, if_pos (by decide), if_pos (⟨c2, c3⟩ : q_truck amt mo)]; exact hx c1 ⟨c2, c3⟩
      · rw [if_neg c3, if_neg (by decide), if_neg (fun q : q_truck amt mo => c3 q.2)]
    · rw [if_neg c2, if_neg (by decide), if_neg (fun q : q_truck amt mo => c2 q.1)]
  · rw [if_neg c1, if_neg c1, if_neg (by decide)]
theorem bL_eq (h : SInv r b nb nl nc) (h2 : r 2 = nI nb) (bi kind amt mo : Int32) : x_bL r nb nl bi kind amt mo = p_bestLeg r nl bi kind amt mo := by
  unfold x_bL p_bestLeg q_bin
  rw [h2]
  by_cases c : q_n nb bi
  · rw [if_pos c, if_pos c]
    have hx := (isB_c (n := nb) rfl (by have := h.1; omega) c).2
    refine truck_eq kind amt mo (fun _ q => ?_)
    have a0 : 1 ≤ amt.toInt := i32_le.mp q.1.1
    have a1 : amt.toInt ≤ 5000 := i32_le.mp q.1.2
    rw [xbl_f h hx (by omega) (by omega), blN_b, fb_eq _ _ h.1.2.1]
  · rw [if_neg c, if_neg c]
theorem bb_inv (h : SInv r b nb nl nc) {le : Nat} {kind amt mo : Int32} (a0 : 0 ≤ amt.toInt) (a1 : amt.toInt ≤ 20000) {n : Nat} (hn : n ≤ nb) :
    (iter (bb1 r le kind amt mo) n (-1, 0)).1 = xbb r le kind amt mo n ∧ (xbb r le kind amt mo n = -1 ∨ ((xbb r le kind amt mo n ≠ -1) ∧ (iter (bb1 r le kind amt mo) n (-1, 0)).2 = r (10 + 9 * (xbb r le kind amt mo n).toNatClampNeg + 0) - r (10 + 9 * (xbb r le kind amt mo n).toNatClampNeg + 3))) := by
  induction n with
  | zero => exact ⟨rfl, Or.inl rfl⟩
  | succ n ih =>
    obtain ⟨i1, i2⟩ := ih (by omega)
    have hb8 := h.1.1
    have hnm : nI n ≠ -1 := fun q => by
      have := congrArg Int32.toInt q
      rw [nI_toInt (by omega)] at this
      have : (n : Int) = -1 := this
      omega
    rw [iter, xbb, bb1, i1, ref_eq h (show n < nb by omega) a0 a1]
    by_cases c : p_against r le (-1) n kind amt mo = 0
    · rw [if_pos c, if_pos c]
      by_cases c2 : xbb r le kind amt mo n = -1
      · rw [if_pos c2, if_pos c2]
        refine ⟨rfl, Or.inr ⟨hnm, ?_⟩⟩
        rw [nI_clamp (by omega)]
      · rw [if_neg c2, if_neg c2]
        obtain ⟨-, i3⟩ := i2.resolve_left c2
        rw [i3]
        by_cases c3 : r (10 + 9 * (xbb r le kind amt mo n).toNatClampNeg + 0) - r (10 + 9 * (xbb r le kind amt mo n).toNatClampNeg + 3) ≤ r (10 + 9 * n + 0) - r (10 + 9 * n + 3)
        · rw [if_pos c3, if_pos c3]
          exact ⟨i1, Or.inr ⟨c2, i3⟩⟩
        · rw [if_neg c3, if_neg c3]
          refine ⟨rfl, Or.inr ⟨hnm, ?_⟩⟩
          rw [nI_clamp (by omega)]
    · rw [if_neg c, if_neg c]
      exact ⟨i1, i2⟩
theorem bB_eq (h : SInv r b nb nl nc) (h3 : r 3 = nI nl) (le kind amt mo : Int32) : x_bB r nb nl le kind amt mo = p_bestBin r nb le kind amt mo := by
  unfold x_bB p_bestBin q_leg
  rw [h3]
  by_cases c : q_n nl le
  · rw [if_pos c, if_pos c]
    refine truck_eq kind amt mo (fun _ q => ?_)
    have a0 : 1 ≤ amt.toInt := i32_le.mp q.1.1
    have a1 : amt.toInt ≤ 5000 := i32_le.mp q.1.2
    exact (bb_inv h (by omega) (by omega) (Nat.le_refl nb)).1.symm
  · rw [if_neg c, if_neg c]
theorem hf_ext {f f' : Nat → Int64} {n : Nat} (h : ∀ k, k < n → f k = f' k) (x : Int64) : hfold f n x = hfold f' n x := by
  induction n with
  | zero => rfl
  | succ n ih => rw [hfold, hfold, ih (fun k hk => h k (by omega)), h n (by omega)]
theorem it_ext {f f' : Nat → Int64 → Int64} {n : Nat} (h : ∀ k, k < n → ∀ x, f k x = f' k x) (x : Int64) : iter f n x = iter f' n x := by
  induction n with
  | zero => rfl
  | succ n ih => rw [iter, iter, ih (fun k hk => h k (by omega)), h n (by omega)]
theorem hf_add (f : Nat → Int64) (a n : Nat) (x : Int64) : hfold f (a + n) x = hfold (fun w => f (a + w)) n (hfold f a x) := by
  induction n with
  | zero => rfl
  | succ n ih =>
    show 31 * hfold f (a + n) x + f (a + n) = _
    rw [hfold, ih]
theorem hf_6 (f : Nat → Int64) (n : Nat) (x : Int64) : iter (fun c h => hfold (fun w => f (6 * c + w)) 6 h) n x = hfold f (6 * n) x := by
  induction n with
  | zero => rfl
  | succ n ih => rw [iter, ih, show 6 * (n + 1) = 6 * n + 6 by omega, hf_add]
theorem dig_eq (h : SInv r b nb nl nc) (h2 : r 2 = nI nb) (h3 : r 3 = nI nl) (h4 : r 4 = nI nc) : xdC r b nb nl nc nc = p_digest r b nb nl nc := by
  unfold xdC p_digest
  have eA : xdA r nb nl nc 10 = dgA r nb nc 10 := hf_ext (fun k hk => by rw [count_eq h h2 h3 h4]) _
  have eB : xdB2 r nb nl nc nb = dgB r nb nc nb := by
    unfold xdB2 dgB
    rw [eA]
    exact it_ext (fun k hk x => hf_ext (fun w hw => by rw [bprop_eq k (by omega)]) x) _
  have eL : xdL2 r nb nl nc nl = dgL r nb nc nl := by
    unfold xdL2 dgL
    rw [eB]
    exact it_ext (fun k hk x => hf_ext (fun w hw => by rw [lprop_eq k (by omega)]) x) _
  have eP : xdP r nb nl nc 4 = dgP r nb nl nc 4 := by unfold xdP dgP; rw [eL]
  have eK : xdK r b nb nl nc 7 = dgK r b nb nl nc 7 := by
    unfold xdK dgK
    rw [eP]
    exact hf_ext (fun k hk => bookk_eq h (by omega)) _
  rw [eK, ← hf_6 (fun k => (r (94 + k)).toInt64)]
  refine it_ext (fun k hk x => hf_ext (fun w hw => ?_) x) _
  rw [cprop_eq (h.2.2.2.1 k hk) (by omega), show 94 + 6 * k + w = 94 + (6 * k + w) by omega]
end BB
