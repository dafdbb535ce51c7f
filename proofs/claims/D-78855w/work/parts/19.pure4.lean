/-! the reference's pure words, fourth lot: contracts and blends -/
set_option maxRecDepth 100000
def p_addContract (K : KT) (kind amt most price : Int32) : Int32 × KT :=
  if 0 ≤ kind ∧ kind ≤ 3 then if 1 ≤ amt ∧ amt ≤ 20000 then if 50 ≤ most ∧ most ≤ 400 then if 1 ≤ price ∧ price ≤ 2000 then
    if K.1 4 = 6 then (-5, K) else
    let K1 := svK K
    let n := 94 + 6 * ncK K
    let r := upd (upd (upd (upd (upd (upd K1.1 n kind) (n + 1) amt) (n + 2) most) (n + 3) price) (n + 4) 1) (n + 5) (-1)
    let r' := upd r 4 (r 4 + 1)
    (r' 4 - 1, (r', K1.2))
  else (-3, K) else (-3, K) else (-3, K) else (-2, K)
def p_contract (r : Nat → Int32) (con what : Int32) : Int32 :=
  if q_con r con then if 0 ≤ what ∧ what ≤ 5 then r (94 + 6 * con.toNatClampNeg + what.toNatClampNeg) else -3 else -2
abbrev q_damp (r : Nat → Int32) (b o : Nat) : Prop := p_moist r o < p_moist r b ∨ (p_moist r b = p_moist r o ∧ ¬ nI o ≤ nI b)
abbrev q_sel (r : Nat → Int32) (c l b : Nat) : Prop := (¬ r (10 + 9 * b + 3) ≤ 0) ∧ r (10 + 9 * b + 5) = r (94 + 6 * c + 0) ∧ (¬ q_spoilt r b) ∧ q_leads r l (nI b)
def atP (r : Nat → Int32) (b : Nat) (og : Nat → Nat) : Nat → Nat
  | 0 => 0
  | k + 1 => if p_moist r (og k) < p_moist r b then atP r b og k else k + 1
theorem atP_le (r : Nat → Int32) (b : Nat) (og : Nat → Nat) (n : Nat) : atP r b og n ≤ n := by
  induction n with
  | zero => exact Nat.le_refl _
  | succ n ih => unfold atP; split <;> omega
def insO (r : Nat → Int32) (b : Nat) (og : Nat → Nat) (n : Nat) : Nat → Nat := fun j => if j < atP r b og n then og j else if j = atP r b og n then b else og (j - 1)
def ogC (r : Nat → Int32) (c l : Nat) : Nat → (Nat → Nat) × Nat
  | 0 => (fun _ => 0, 0)
  | k + 1 => if q_sel r c l k then (insO r k (ogC r c l k).1 (ogC r c l k).2, (ogC r c l k).2 + 1) else ogC r c l k
def allU (r : Nat → Int32) (c l : Nat) : Nat → Int32
  | 0 => 0
  | k + 1 => if q_sel r c l k then allU r c l k + r (10 + 9 * k + 3) else allU r c l k
theorem ogC_ok (r : Nat → Int32) (c l k : Nat) : (ogC r c l k).2 ≤ k ∧ ∀ j, j < (ogC r c l k).2 → (ogC r c l k).1 j < k ∧ q_sel r c l ((ogC r c l k).1 j) := by
  induction k with
  | zero => exact ⟨Nat.le_refl _, fun j hj => absurd hj (Nat.not_lt_zero j)⟩
  | succ k ih =>
    unfold ogC
    by_cases h : q_sel r c l k
    · rw [if_pos h]
      refine ⟨by dsimp only; omega, fun j hj => ?_⟩
      dsimp only at hj ⊢
      have hp := atP_le r k (ogC r c l k).1 (ogC r c l k).2
      unfold insO
      by_cases h1 : j < atP r k (ogC r c l k).1 (ogC r c l k).2
      · rw [if_pos h1]
        have := ih.2 j (by omega)
        exact ⟨by omega, this.2⟩
      · rw [if_neg h1]
        by_cases h2 : j = atP r k (ogC r c l k).1 (ogC r c l k).2
        · rw [if_pos h2]; exact ⟨by omega, h⟩
        · rw [if_neg h2]
          have := ih.2 (j - 1) (by omega)
          exact ⟨by omega, this.2⟩
    · rw [if_neg h]
      exact ⟨by omega, fun j hj => ⟨by have := (ih.2 j hj).1; omega, (ih.2 j hj).2⟩⟩
abbrev ordOk (f : Nat → Int32) (og : Nat → Nat) (n : Nat) : Prop := ∀ j, j < n → f j = nI (og j)
theorem damp_lt {r : Nat → Int32} {b o : Nat} (h : o < b) (hb : b < 100) : q_damp r b o ↔ p_moist r o < p_moist r b := by
  constructor
  · rintro (h1 | ⟨-, h2⟩)
    · exact h1
    · exact absurd (nI_le (Nat.le_of_lt h) (by omega)) h2
  · exact Or.inl
def tk1 (r : Nat → Int32) (o : Nat) (x : (Nat → Int32) × Int32) : (Nat → Int32) × Int32 :=
  if r (10 + 9 * o + 3) ≤ x.2 then (upd x.1 o (x.1 o + r (10 + 9 * o + 3)), x.2 - r (10 + 9 * o + 3)) else (upd x.1 o (x.1 o + x.2), x.2 - x.2)
def mixA (r : Nat → Int32) (og : Nat → Nat) (damp : Int32) : Nat → (Nat → Int32) × Int32
  | 0 => (fun _ => 0, damp)
  | k + 1 => tk1 r (og k) (mixA r og damp k)
def mixB (r : Nat → Int32) (og : Nat → Nat) (n : Nat) (damp dry : Int32) : Nat → (Nat → Int32) × Int32
  | 0 => ((mixA r og damp n).1, dry)
  | j + 1 => tk1 r (og (n - 1 - j)) (mixB r og n damp dry j)
def mixU (r : Nat → Int32) (og : Nat → Nat) (n : Nat) (damp dry : Int32) : Nat → Int32 := (mixB r og n damp dry n).1
def mixS (r : Nat → Int32) (og : Nat → Nat) (u : Nat → Int32) : Nat → Int64
  | 0 => 0
  | k + 1 => mixS r og u k + (u (og k)).toInt64 * (p_moist r (og k)).toInt64
def mixR (r : Nat → Int32) (og : Nat → Nat) (n : Nat) (damp dry : Int32) : Int32 := ((mixS r og (mixU r og n damp dry) n + damp.toInt64 + dry.toInt64 - 1) / (damp + dry).toInt64).toInt32
theorem tk1_ne {r : Nat → Int32} {o : Nat} {x : (Nat → Int32) × Int32} {j : Nat} (h : j ≠ o) : (tk1 r o x).1 j = x.1 j := by
  unfold tk1; split <;> exact pk_un h
theorem mixU_sel {r : Nat → Int32} {og : Nat → Nat} {n : Nat} {damp dry : Int32} {j : Nat} (h : ∀ k, k < n → og k ≠ j) : mixU r og n damp dry j = 0 := by
  have hA : ∀ k, k ≤ n → (mixA r og damp k).1 j = 0 := by
    intro k
    induction k with
    | zero => intro _; rfl
    | succ k ih => intro hk; exact (tk1_ne (fun e => h k (by omega) e.symm)).trans (ih (by omega))
  have hB : ∀ k, k ≤ n → (mixB r og n damp dry k).1 j = 0 := by
    intro k
    induction k with
    | zero => intro _; exact hA n (Nat.le_refl _)
    | succ k ih => intro hk; exact (tk1_ne (fun e => h (n - 1 - k) (by omega) e.symm)).trans (ih (by omega))
  exact hB n (Nat.le_refl _)
abbrev ogN (r : Nat → Int32) (nb c l : Nat) : Nat → Nat := (ogC r c l nb).1
abbrev cnN (r : Nat → Int32) (nb c l : Nat) : Nat := (ogC r c l nb).2
def p_noBlend (r : Nat → Int32) (nb c l : Nat) : Int32 :=
  if q_stands r l then 1 else
  if r (94 + 6 * c + 1) ≤ allU r c l nb then
    if mixR r (ogN r nb c l) (cnN r nb c l) 0 (r (94 + 6 * c + 1)) ≤ r (94 + 6 * c + 2) then 0 else 8
  else 7
def bsr (T : Nat → Bool) : Nat → Nat → Nat → Nat
  | 0, lo, _ => lo
  | f + 1, lo, hi => if hi - lo ≤ 1 then lo else if T ((lo + hi) / 2) = true then bsr T f ((lo + hi) / 2) hi else bsr T f lo ((lo + hi) / 2)
def bestT (r : Nat → Int32) (og : Nat → Nat) (n w : Nat) (most : Int32) (m : Nat) : Bool := decide (mixR r og n (nI m) (nI w - nI m) ≤ most)
def p_bestN (r : Nat → Int32) (nb c l : Nat) : Nat :=
  bsr (bestT r (ogN r nb c l) (cnN r nb c l) (r (94 + 6 * c + 1)).toNatClampNeg (r (94 + 6 * c + 2))) ((r (94 + 6 * c + 1)).toNatClampNeg + 1) 0 ((r (94 + 6 * c + 1)).toNatClampNeg + 1)
def p_best (r : Nat → Int32) (nb c l : Nat) : Int32 := nI (p_bestN r nb c l)
def p_blend (r : Nat → Int32) (nb : Nat) (con leg : Int32) : Int32 :=
  if q_con r con then if q_leg r leg then
    if p_noBlend r nb con.toNatClampNeg leg.toNatClampNeg ≤ 0 then p_best r nb con.toNatClampNeg leg.toNatClampNeg else -1
  else -2 else -2
def p_whyNoBlend (r : Nat → Int32) (nb : Nat) (con leg : Int32) : Int32 :=
  if q_con r con then if q_leg r leg then p_noBlend r nb con.toNatClampNeg leg.toNatClampNeg else -2 else -2
def blU (r : Nat → Int32) (nb c l : Nat) : Nat → Int32 := mixU r (ogN r nb c l) (cnN r nb c l) (p_best r nb c l) (r (94 + 6 * c + 1) - p_best r nb c l)
def blM (r : Nat → Int32) (nb c l : Nat) : Int32 := mixR r (ogN r nb c l) (cnN r nb c l) (p_best r nb c l) (r (94 + 6 * c + 1) - p_best r nb c l)
def p_fromBin (r : Nat → Int32) (nb : Nat) (con leg bin : Int32) : Int32 :=
  if q_con r con then if q_leg r leg then if q_bin r bin then
    if p_noBlend r nb con.toNatClampNeg leg.toNatClampNeg ≤ 0 then blU r nb con.toNatClampNeg leg.toNatClampNeg bin.toNatClampNeg else -1
  else -2 else -2 else -2
def p_blendMoisture (r : Nat → Int32) (nb : Nat) (con leg : Int32) : Int32 :=
  if q_con r con then if q_leg r leg then
    if p_noBlend r nb con.toNatClampNeg leg.toNatClampNeg ≤ 0 then blM r nb con.toNatClampNeg leg.toNatClampNeg else -1
  else -2 else -2
def ldT (u : Nat → Int32) (sp : Int32) : Nat → Int32
  | 0 => 0
  | k + 1 => ldT u sp k + p_min (u k) sp
def ld1 (u : Nat → Int32) (nb l k : Nat) (r : Nat → Int32) : Nat → Int32 :=
  if u k ≤ 0 then r else
  let r1 := p_passes (p_min (u k) (r (82 + 4 * l + 0))) r nb
  let x := p_takes r1 k (u k)
  p_dusts x.2 l (u k) x.1
def p_load (K : KT) (con leg : Int32) : Int32 × KT :=
  if q_con K.1 con then if q_leg K.1 leg then
    if K.1 (94 + 6 * con.toNatClampNeg + 4) = 0 then (-4, K) else
    if p_noBlend K.1 (nbK K) con.toNatClampNeg leg.toNatClampNeg ≤ 0 then
      let u := blU K.1 (nbK K) con.toNatClampNeg leg.toNatClampNeg
      if K.1 0 + ldT u (K.1 (82 + 4 * leg.toNatClampNeg + 0)) (nbK K) ≤ 1000000 then
        let K1 := svK K
        let c := con.toNatClampNeg
        let r := iter (ld1 u (nbK K) leg.toNatClampNeg) (nbK K) K1.1
        let earned := r (94 + 6 * c + 1) * r (94 + 6 * c + 3)
        let bk := vp_updL K1.2.1 1 (K1.2.1 1 + (r (94 + 6 * c + 1)).toInt64)
        (earned, (upd (upd r (94 + 6 * c + 4) 0) (94 + 6 * c + 5) (blM K.1 (nbK K) c leg.toNatClampNeg), vp_updL bk 4 (bk 4 + earned.toInt64), K1.2.2))
      else (-5, K)
    else (-4, (upd K.1 5 (p_noBlend K.1 (nbK K) con.toNatClampNeg leg.toNatClampNeg), K.2))
  else (-2, K) else (-2, K)
theorem takes_ne {r : Nat → Int32} {b : Nat} {amt : Int32} {j : Nat} (h : j < 10 + 9 * b + 3 ∨ 10 + 9 * b + 8 < j) : (p_takes r b amt).2 j = r j := by
  unfold p_takes p_empties
  dsimp only
  split <;> (repeat rw [pk_un (by omega)])
theorem dusts_ne {r : Nat → Int32} {l : Nat} {amt pts : Int32} {j : Nat} (h : j < 82 + 4 * l + 2 ∨ 82 + 4 * l + 3 < j) : p_dusts r l amt pts j = r j := by
  unfold p_dusts
  (try dsimp only)
  rw [pk_un (by omega), pk_un (by omega)]
theorem ld1_ne {u : Nat → Int32} {nb l k : Nat} {r : Nat → Int32} {j : Nat} (hnb : nb ≤ 8) (hk : k < 8) (h0 : 0 < j) (hp : ∀ b, b < nb → j ≠ 10 + 9 * b + 6) (ht : j < 10 + 9 * k + 3 ∨ 10 + 9 * k + 8 < j) (hd : j < 82 + 4 * l + 2 ∨ 82 + 4 * l + 3 < j) : ld1 u nb l k r j = r j := by
  unfold ld1
  split
  · rfl
  · dsimp only
    rw [dusts_ne hd, takes_ne ht]
    exact (pk_un (by omega)).trans (passB_ne hp)
theorem addsub (x y : Int32) : x + (y - x) = y := by grind
