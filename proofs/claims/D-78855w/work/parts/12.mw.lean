/-! loops of V; the reference's world; small pure words -/
set_option maxRecDepth 100000
section VL
variable {p : Program} {l : Launch} {e : Env} {R : Room} {s : State} {m : MethodId} {args : Array Value} {below : List Frame} {meth : Method} {c : Code} {g : GT} {A : Nat → Prop} {nL cells slots : Nat} {Q : State → Prop} {pc : Nat} {lv : List (Nat × Value)} {st : List Value} {ws : va_W}
/-- a loop that counts from i0 up to N -/
theorem v_loop (i0 N : Nat) (L : Nat → List (Nat × Value)) (Wd : Nat → va_W) (h0 : L i0 = lv) (h1 : Wd i0 = ws) (hN : i0 ≤ N)
    (hx : V p l e R s m args below meth c g A nL cells slots Q pc (L N) st (Wd N))
    (hs : ∀ i, i < N → i0 ≤ i → V p l e R s m args below meth c g A nL cells slots Q pc (L (i + 1)) st (Wd (i + 1)) → V p l e R s m args below meth c g A nL cells slots Q pc (L i) st (Wd i)) :
    V p l e R s m args below meth c g A nL cells slots Q pc lv st ws := by
  subst h0; subst h1
  exact loop_from (Hd := fun i => V p l e R s m args below meth c g A nL cells slots Q pc (L i) st (Wd i)) hN hx hs
/-- a loop by a measure that falls, with an invariant -/
theorem v_while {α : Type} (μ : α → Nat) (Iv : α → Prop) (L : α → List (Nat × Value)) (Wd : α → va_W) (x0 : α) (h0 : L x0 = lv) (h1 : Wd x0 = ws) (hi : Iv x0)
    (hs : ∀ x, Iv x → (∀ z, Iv z → μ z < μ x → V p l e R s m args below meth c g A nL cells slots Q pc (L z) st (Wd z)) → V p l e R s m args below meth c g A nL cells slots Q pc (L x) st (Wd x)) :
    V p l e R s m args below meth c g A nL cells slots Q pc lv st ws := by
  subst h0; subst h1
  exact loop_ms (Hd := fun x => Iv x → V p l e R s m args below meth c g A nL cells slots Q pc (L x) st (Wd x)) μ (fun x ih hx => hs x hx (fun z hz hm => ih z hm hz)) x0 hi
end VL
/-- the reference's cells: itself, row, books, kept, order, units, text, told -/
def mw (g : GT) (a : Nat → Nat) (row : Nat → Int32) (books : Nat → Int64) (S : Int32 × (Nat → Int32)) (B : (Nat → Int32) × Int32 × (Nat → Int32)) (T : (Nat → Int32) × Int32) (P : Int32 × Int32 × (Nat → Int32) × Int32 × Int32) (h : Int64) : va_W :=
  [(a 0, .inr (3, [.ref (a 1), .ref (a 2), .int S.1, .ref (a 3), .ref (a 4), .int B.2.1, .ref (a 5), .ref (a 6), .int T.2, .int P.1, .int P.2.1, .ref (a 7), .int P.2.2.2.1, .int P.2.2.2.2, .long h])),
   (a 1, .inl (g.2 0, 1040, .inl row)), (a 2, .inl (g.2 1, 48, .inr (.inl books))), (a 3, .inl (g.2 2, 2, .inl S.2)), (a 4, .inl (g.2 0, 8, .inl B.1)), (a 5, .inl (g.2 0, 8, .inl B.2.2)), (a 6, .inl (g.2 0, 120, .inl T.1)), (a 7, .inl (g.2 0, 5, .inl P.2.2.1))]
theorem in_t {v lo hi : Int32} (h1 : ¬ v < lo) (h2 : ¬ hi < v) : (1 : Int32) = bI (lo ≤ v ∧ v ≤ hi) := (bI_t ⟨Int32.not_lt.mp h1, Int32.not_lt.mp h2⟩).symm
theorem in_f1 {v lo hi : Int32} (h1 : v < lo) : (0 : Int32) = bI (lo ≤ v ∧ v ≤ hi) := (bI_f (fun q => Int32.not_lt.mpr q.1 h1)).symm
theorem in_f2 {v lo hi : Int32} (h2 : hi < v) : (0 : Int32) = bI (lo ≤ v ∧ v ≤ hi) := (bI_f (fun q => Int32.not_lt.mpr q.2 h2)).symm
theorem si {x y : Int32} (h : x = y) : some (Value.int x) = some (Value.int y) := by rw [h]
theorem sl {x y : Int64} (h : x = y) : some (Value.long x) = some (Value.long y) := by rw [h]
/-- n places of a block of w places, copied from block f to block t -/
def cpN {α : Type} (r : Nat → α) (w f t n : Nat) : Nat → α := fun j => if w * t ≤ j ∧ j < w * t + n then r (w * f + (j - w * t)) else r j
theorem cpN_0 {α : Type} (r : Nat → α) (w f t : Nat) : cpN r w f t 0 = r := by
  funext j; unfold cpN; rw [if_neg (by omega)]
theorem cpN_src {α : Type} (r : Nat → α) {w f t n k : Nat} (hn : n < w) (hk : k ≤ n) (hne : f ≠ t) : cpN r w f t n (w * f + k) = r (w * f + k) := by
  unfold cpN
  rw [if_neg]
  intro h
  rcases Nat.lt_or_gt_of_ne hne with c | c
  · have : w * (f + 1) ≤ w * t := Nat.mul_le_mul_left w c
    rw [Nat.mul_add] at this; omega
  · have : w * (t + 1) ≤ w * f := Nat.mul_le_mul_left w c
    rw [Nat.mul_add] at this; omega
theorem cpN_i (r : Nat → Int32) {w f t n : Nat} (hn : n < w) (hne : f ≠ t) : upd (cpN r w f t n) (w * t + n) (cpN r w f t n (w * f + n)) = cpN r w f t (n + 1) := by
  rw [cpN_src r hn (Nat.le_refl n) hne]
  funext j
  by_cases hj : j = w * t + n
  · subst hj
    simp only [upd, cpN, if_true, if_pos (show w * t ≤ w * t + n ∧ w * t + n < w * t + (n + 1) by omega), Nat.add_sub_cancel_left]
  · simp only [upd, cpN, if_neg hj]
    by_cases h1 : w * t ≤ j ∧ j < w * t + n
    · rw [if_pos h1, if_pos (by omega)]
    · rw [if_neg h1, if_neg (by omega)]
theorem cpN_l (r : Nat → Int64) {w f t n : Nat} (hn : n < w) (hne : f ≠ t) : vp_updL (cpN r w f t n) (w * t + n) (cpN r w f t n (w * f + n)) = cpN r w f t (n + 1) := by
  rw [cpN_src r hn (Nat.le_refl n) hne]
  funext j
  by_cases hj : j = w * t + n
  · subst hj
    simp only [vp_updL, cpN, if_true, if_pos (show w * t ≤ w * t + n ∧ w * t + n < w * t + (n + 1) by omega), Nat.add_sub_cancel_left]
  · simp only [vp_updL, cpN, if_neg hj]
    by_cases h1 : w * t ≤ j ∧ j < w * t + n
    · rw [if_pos h1, if_pos (by omega)]
    · rw [if_neg h1, if_neg (by omega)]
/-- places: constants and numbers nI n -/
theorem ix2 {N c0 c1 b w : Nat} (h : c0 + c1 * b + w < N) (hN : N < 2 ^ 31) : ixOk (nI c0 + nI c1 * nI b + nI w) N (c0 + c1 * b + w) := ixe (by simp only [pk_mul, nI_add]) h hN
theorem ix1 {N c1 b w : Nat} (h : c1 * b + w < N) (hN : N < 2 ^ 31) : ixOk (nI c1 * nI b + nI w) N (c1 * b + w) := ixe (by simp only [pk_mul, nI_add]) h hN
theorem ix0 {N c1 b : Nat} (h : c1 + b < N) (hN : N < 2 ^ 31) : ixOk (nI c1 + nI b) N (c1 + b) := ixe (by simp only [nI_add]) h hN
