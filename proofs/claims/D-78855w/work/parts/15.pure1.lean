/-! the reference's pure words, first lot: K = (row, books, (saved, kept)) -/
set_option maxRecDepth 100000
abbrev KT : Type := (Nat → Int32) × (Nat → Int64) × (Int32 × (Nat → Int32))
def shN {α : Type} (w : Nat) (r : Nat → α) : Nat → Nat → α
  | 0 => r
  | n + 1 => cpN (shN w r n) w (n + 2) (n + 1) w
def svB {α : Type} (w : Nat) (r : Nat → α) (sv : Nat) : Nat → α := if sv = 5 then cpN (shN w r 4) w 0 5 w else cpN r w 0 (sv + 1) w
def svN (sv : Nat) : Nat := if sv = 5 then 5 else sv + 1
def svOf (K : KT) : Nat := K.2.2.1.toNatClampNeg
def svK (K : KT) : KT := (svB 130 K.1 (svOf K), svB 6 K.2.1 (svOf K), (nI (svN (svOf K)), K.2.2.2))
def nbK (K : KT) : Nat := (K.1 2).toNatClampNeg
def nlK (K : KT) : Nat := (K.1 3).toNatClampNeg
def ncK (K : KT) : Nat := (K.1 4).toNatClampNeg
def KOk (K : KT) : Prop := (K.1 2 = nI (nbK K) ∧ nbK K ≤ 8) ∧ (K.1 3 = nI (nlK K) ∧ nlK K ≤ 3) ∧ (K.1 4 = nI (ncK K) ∧ ncK K ≤ 6) ∧ (K.2.2.1 = nI (svOf K) ∧ svOf K ≤ 5)
theorem cpN_lo {α : Type} (r : Nat → α) {w f t n j : Nat} (ht : 1 ≤ t) (hj : j < w) : cpN r w f t n j = r j := by
  unfold cpN
  rw [if_neg]
  intro h
  have : w * 1 ≤ w * t := Nat.mul_le_mul_left w ht
  omega
theorem shN_lo {α : Type} (w : Nat) (r : Nat → α) (n : Nat) {j : Nat} (hj : j < w) : shN w r n j = r j := by
  induction n with
  | zero => rfl
  | succ n ih => exact (cpN_lo _ (by omega) hj).trans ih
theorem svB_lo {α : Type} (w : Nat) (r : Nat → α) (sv : Nat) {j : Nat} (hj : j < w) : svB w r sv j = r j := by
  unfold svB
  split
  · exact (cpN_lo _ (by omega) hj).trans (shN_lo w r 4 hj)
  · exact cpN_lo _ (by omega) hj
theorem svK_lo (K : KT) {j : Nat} (hj : j < 130) : (svK K).1 j = K.1 j := svB_lo 130 K.1 _ hj
theorem svK_loB (K : KT) {j : Nat} (hj : j < 6) : (svK K).2.1 j = K.2.1 j := svB_lo 6 K.2.1 _ hj
theorem svK_2 {K : KT} (h : KOk K) : (svK K).1 2 = nI (nbK K) := (svK_lo K (by decide)).trans h.1.1
theorem svK_3 {K : KT} (h : KOk K) : (svK K).1 3 = nI (nlK K) := (svK_lo K (by decide)).trans h.2.1.1
theorem svK_4 {K : KT} (h : KOk K) : (svK K).1 4 = nI (ncK K) := (svK_lo K (by decide)).trans h.2.2.1.1
theorem isB_c {x r2 : Int32} {n : Nat} (e : r2 = nI n) (hn : n ≤ 1000) (h : 0 ≤ x ∧ x ≤ r2 - 1) : x = nI x.toNatClampNeg ∧ x.toNatClampNeg < n := by
  subst e
  obtain ⟨j, hj, rfl⟩ := nI_of (Int32.not_lt.mpr h.1)
  rw [nI_clamp hj]
  refine ⟨rfl, ?_⟩
  have h2 := h.2
  rcases Nat.eq_zero_or_pos n with rfl | hp
  · exact absurd (Int32.le_trans h.1 h2) (by decide)
  · have e1 : nI n - 1 = nI (n - 1) := pk_sub hp
    rw [e1, nI_leI hj (by omega)] at h2
    omega
theorem in_c {x hi : Int32} {n : Nat} (e : hi = nI n) (hn : n < 2 ^ 31) (h : 0 ≤ x ∧ x ≤ hi) : x = nI x.toNatClampNeg ∧ x.toNatClampNeg ≤ n := by
  subst e
  obtain ⟨j, hj, rfl⟩ := nI_of (Int32.not_lt.mpr h.1)
  rw [nI_clamp hj]
  exact ⟨rfl, (nI_leI hj hn).mp h.2⟩
def p_moist (r : Nat → Int32) (b : Nat) : Int32 := if r (10 + 9 * b + 3) = 0 then -1 else r (10 + 9 * b + 4) / r (10 + 9 * b + 3)
abbrev q_spoilt (r : Nat → Int32) (b : Nat) : Prop := r (10 + 9 * b + 6) = 10000
abbrev q_stands (r : Nat → Int32) (l : Nat) : Prop := ¬ r (82 + 4 * l + 2) < r 1
abbrev q_leads (r : Nat → Int32) (l : Nat) (b : Int32) : Prop := r (82 + 4 * l + 1) >>> (b &&& 31) &&& 1 = 1
abbrev q_bin (r : Nat → Int32) (b : Int32) : Prop := 0 ≤ b ∧ b ≤ r 2 - 1
abbrev q_leg (r : Nat → Int32) (b : Int32) : Prop := 0 ≤ b ∧ b ≤ r 3 - 1
abbrev q_con (r : Nat → Int32) (b : Int32) : Prop := 0 ≤ b ∧ b ≤ r 4 - 1
def z9 (r : Nat → Int32) (b : Nat) : Nat → Nat → Int32
  | 0 => r
  | k + 1 => upd (z9 r b k) (10 + 9 * b + k) 0
def p_addBin (K : KT) (cap : Int32) : Int32 × KT :=
  if 10 ≤ cap ∧ cap ≤ 20000 then
    if K.1 2 = 8 then (-5, K) else
    let K1 := svK K
    let b := nbK K
    let r := upd (upd (upd (z9 K1.1 b 9) (10 + 9 * b + 0) cap) (10 + 9 * b + 2) 400) (10 + 9 * b + 5) (-1)
    (nI b, (upd r 2 (r 2 + 1), K1.2))
  else (-3, K)
def p_setBand (K : KT) (bin low high : Int32) : Int32 × KT :=
  if q_bin K.1 bin then
    if 0 ≤ low ∧ low ≤ 400 then
      if low ≤ high ∧ high ≤ 400 then
        let K1 := svK K
        let b := bin.toNatClampNeg
        (K1.1 (10 + 9 * b + 1), (upd (upd K1.1 (10 + 9 * b + 1) low) (10 + 9 * b + 2) high, K1.2))
      else (-3, K)
    else (-3, K)
  else (-2, K)
def p_addLeg (K : KT) (speed : Int32) : Int32 × KT :=
  if 1 ≤ speed ∧ speed ≤ 500 then
    if K.1 3 = 3 then (-5, K) else
    let K1 := svK K
    let n := 82 + 4 * nlK K
    let r := upd (upd (upd (upd K1.1 n speed) (n + 1) 0) (n + 2) 0) (n + 3) 0
    let r' := upd r 3 (r 3 + 1)
    (r' 3 - 1, (r', K1.2))
  else (-3, K)
def p_setSpeed (K : KT) (leg speed : Int32) : Int32 × KT :=
  if q_leg K.1 leg then
    if 1 ≤ speed ∧ speed ≤ 500 then
      let K1 := svK K
      let l := leg.toNatClampNeg
      (K1.1 (82 + 4 * l + 0), (upd K1.1 (82 + 4 * l) speed, K1.2))
    else (-3, K)
  else (-2, K)
def p_spout (K : KT) (leg bin : Int32) : Int32 × KT :=
  if q_leg K.1 leg then
    if q_bin K.1 bin then
      let K1 := svK K
      let l := leg.toNatClampNeg
      let b := bin.toNatClampNeg
      let r := upd K1.1 (82 + 4 * l + 1) (K1.1 (82 + 4 * l + 1) ^^^ ((1 : Int32) <<< (nI b &&& 31)))
      (bI (q_leads r l (nI b)), (r, K1.2))
    else (-2, K)
  else (-2, K)
def p_setPrice (K : KT) (kind price : Int32) : Int32 × KT :=
  if 0 ≤ kind ∧ kind ≤ 3 then
    if 1 ≤ price ∧ price ≤ 1000 then
      let K1 := svK K
      let k := kind.toNatClampNeg
      (K1.1 (6 + k), (upd K1.1 (6 + k) price, K1.2))
    else (-3, K)
  else (-2, K)
def p_setDustLimit (K : KT) (limit : Int32) : Int32 × KT :=
  if 100 ≤ limit ∧ limit ≤ 10000 then
    let K1 := svK K
    (K1.1 1, (upd K1.1 1 limit, K1.2))
  else (-3, K)
