/-! the reference's pure words, second lot: what is asked -/
set_option maxRecDepth 100000
def sumF (r : Nat → Int32) (w : Nat) : Nat → Int32
  | 0 => 0
  | k + 1 => sumF r w k + r (10 + 9 * k + w)
def sumS (r : Nat → Int32) : Nat → Int32
  | 0 => 0
  | k + 1 => sumS r k + bI (q_spoilt r k)
def sumC (r : Nat → Int32) : Nat → Int32
  | 0 => 0
  | k + 1 => sumC r k + r (94 + 6 * k + 4)
def p_count (r : Nat → Int32) (nb nc : Nat) (what : Int32) : Int32 :=
  if 0 ≤ what ∧ what ≤ 9 then
    if what = 0 then r 2 else if what = 1 then r 3 else if what = 2 then r 4 else if what = 3 then sumC r nc else if what = 4 then r 0 else if what = 5 then r 1
    else if what = 6 then sumF r 3 nb else if what = 7 then sumF r 4 nb else if what = 8 then r 5 else sumS r nb
  else -3
def p_prop (r : Nat → Int32) (b : Nat) (what : Int32) : Int32 :=
  if 6 ≤ what then if what = 6 then p_moist r b else r (10 + 9 * b + (what.toNatClampNeg - 1)) else r (10 + 9 * b + what.toNatClampNeg)
def p_bin (r : Nat → Int32) (bin what : Int32) : Int32 :=
  if q_bin r bin then if 0 ≤ what ∧ what ≤ 9 then p_prop r bin.toNatClampNeg what else -3 else -2
def p_legProp (r : Nat → Int32) (l : Nat) (what : Int32) : Int32 :=
  if 3 ≤ what then if what = 3 then bI (q_stands r l) else r (82 + 4 * l + 3) else r (82 + 4 * l + what.toNatClampNeg)
def p_leg (r : Nat → Int32) (leg what : Int32) : Int32 :=
  if q_leg r leg then if 0 ≤ what ∧ what ≤ 4 then p_legProp r leg.toNatClampNeg what else -3 else -2
def p_price (r : Nat → Int32) (kind : Int32) : Int32 := if 0 ≤ kind ∧ kind ≤ 3 then r (6 + kind.toNatClampNeg) else -2
def p_book (b : Nat → Int64) (what : Int32) : Int64 :=
  if 0 ≤ what ∧ what ≤ 6 then if 6 ≤ what then b 4 - b 3 - b 5 else b what.toNatClampNeg else -3
def auB (r : Nat → Int32) : Nat → Int32
  | 0 => 1
  | k + 1 => if auB r k = 0 then 0 else if r (10 + 9 * k + 7) - r (10 + 9 * k + 8) = r (10 + 9 * k + 3) then 1 else 0
def p_audit (r : Nat → Int32) (b : Nat → Int64) (nb : Nat) : Int32 :=
  if auB r nb = 0 then 0 else if lg_cmp (b 0 - b 1 - b 2) (sumF r 3 nb).toInt64 = 0 then 1 else 0
theorem ge6 {x : Int32} (e : x = nI x.toNatClampNeg) (h : x.toNatClampNeg ≤ 9) (h6 : 6 ≤ x) : 6 ≤ x.toNatClampNeg := by
  rw [e, show (6 : Int32) = nI 6 from rfl, nI_leI (by decide) (by omega)] at h6
  exact h6
theorem nge {x y : Int32} {n : Nat} (e : x = nI x.toNatClampNeg) (h : x.toNatClampNeg < 2 ^ 31) (hy : y = nI n) (hn : n < 2 ^ 31) (h6 : ¬ y ≤ x) : x.toNatClampNeg < n := by
  rw [e, hy, nI_leI hn h] at h6
  omega
