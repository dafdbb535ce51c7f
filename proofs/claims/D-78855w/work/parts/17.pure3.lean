/-! the reference's pure words, third lot: moves -/
set_option maxRecDepth 100000
def p_pass1 (m : Int32) (b : Nat) (r : Nat → Int32) : Nat → Int32 :=
  if p_moist r b ≤ 150 then
    if p_moist r b = -1 then r else
    if q_spoilt r b then r else
    if 0 ≤ r (10 + 9 * b + 6) - m * 20 then upd r (10 + 9 * b + 6) (r (10 + 9 * b + 6) - m * 20) else upd r (10 + 9 * b + 6) 0
  else
    if r (10 + 9 * b + 6) + m * (p_moist r b - 150) ≤ 10000 then upd r (10 + 9 * b + 6) (r (10 + 9 * b + 6) + m * (p_moist r b - 150)) else upd r (10 + 9 * b + 6) 10000
def p_passB (m : Int32) (r : Nat → Int32) (n : Nat) : Nat → Int32 := iter (p_pass1 m) n r
def p_passes (m : Int32) (r : Nat → Int32) (n : Nat) : Nat → Int32 := upd (p_passB m r n) 0 (p_passB m r n 0 + m)
theorem pass1_ne {m : Int32} {b : Nat} {r : Nat → Int32} {j : Nat} (h : j ≠ 10 + 9 * b + 6) : p_pass1 m b r j = r j := by
  have hu : ∀ v, upd r (10 + 9 * b + 6) v j = r j := fun v => pk_un h
  unfold p_pass1
  repeat' split
  all_goals first | rfl | exact hu _
theorem passB_ne {m : Int32} {r : Nat → Int32} {n j : Nat} (h : ∀ b, b < n → j ≠ 10 + 9 * b + 6) : p_passB m r n j = r j := by
  induction n with
  | zero => rfl
  | succ n ih => exact (pass1_ne (h n (by omega))).trans (ih (fun b hb => h b (by omega)))
theorem passB_lo {m : Int32} {r : Nat → Int32} {n j : Nat} (h : j < 16) : p_passB m r n j = r j := passB_ne (fun b _ => by omega)
theorem passB_hi {m : Int32} {r : Nat → Int32} {n j : Nat} (hn : n ≤ 8) (h : 80 ≤ j) : p_passB m r n j = r j := passB_ne (fun b _ => by omega)
theorem passes_lo {m : Int32} {r : Nat → Int32} {n j : Nat} (h0 : 0 < j) (h : j < 16) : p_passes m r n j = r j := (pk_un (by omega)).trans (passB_lo h)
theorem passes_hi {m : Int32} {r : Nat → Int32} {n j : Nat} (hn : n ≤ 8) (h : 80 ≤ j) : p_passes m r n j = r j := (pk_un (by omega)).trans (passB_hi hn h)
def p_min (amt speed : Int32) : Int32 := (amt + speed - 1) / speed
def p_share (r : Nat → Int32) (b : Nat) (amt : Int32) : Int32 :=
  if amt = r (10 + 9 * b + 3) then r (10 + 9 * b + 4) else ((r (10 + 9 * b + 4)).toInt64 * amt.toInt64 / (r (10 + 9 * b + 3)).toInt64).toInt32
def p_dusts (r : Nat → Int32) (l : Nat) (amt pts : Int32) : Nat → Int32 :=
  let r1 := upd r (82 + 4 * l + 2) (r (82 + 4 * l + 2) + (amt.toInt64 * (r (82 + 4 * l + 0)).toInt64 * (400 - pts / amt).toInt64 / 100000).toInt32)
  upd r1 (82 + 4 * l + 3) (r1 (82 + 4 * l + 3) + amt)
def p_empties (r : Nat → Int32) (b : Nat) : Nat → Int32 := upd (upd (upd r (10 + 9 * b + 4) 0) (10 + 9 * b + 5) (-1)) (10 + 9 * b + 6) 0
def p_takes (r : Nat → Int32) (b : Nat) (amt : Int32) : Int32 × (Nat → Int32) :=
  let pts := p_share r b amt
  let r1 := upd r (10 + 9 * b + 3) (r (10 + 9 * b + 3) - amt)
  let r2 := upd r1 (10 + 9 * b + 4) (r1 (10 + 9 * b + 4) - pts)
  let r3 := upd r2 (10 + 9 * b + 8) (r2 (10 + 9 * b + 8) + amt)
  (pts, if r3 (10 + 9 * b + 3) = 0 then p_empties r3 b else r3)
def p_brings (r : Nat → Int32) (b : Nat) (kind amt pts : Int32) : Nat → Int32 :=
  let r1 := upd r (10 + 9 * b + 3) (r (10 + 9 * b + 3) + amt)
  let r2 := upd r1 (10 + 9 * b + 4) (r1 (10 + 9 * b + 4) + pts)
  let r3 := upd r2 (10 + 9 * b + 5) kind
  upd r3 (10 + 9 * b + 7) (r3 (10 + 9 * b + 7) + amt)
def p_ag2 (r : Nat → Int32) (b : Nat) (amt moist : Int32) : Int32 :=
  if r (10 + 9 * b + 1) ≤ moist ∧ moist ≤ r (10 + 9 * b + 2) then
    if amt ≤ r (10 + 9 * b + 0) - r (10 + 9 * b + 3) then if q_spoilt r b then 6 else 0 else 5
  else 4
def p_ag1 (r : Nat → Int32) (b : Nat) (kind amt moist : Int32) : Int32 :=
  if r (10 + 9 * b + 3) ≤ 0 then p_ag2 r b amt moist else if r (10 + 9 * b + 5) = kind then p_ag2 r b amt moist else 3
def p_against (r : Nat → Int32) (l : Nat) (from_ : Int32) (b : Nat) (kind amt moist : Int32) : Int32 :=
  if q_stands r l then 1 else
  if q_leads r l (nI b) then if from_ = -1 then p_ag1 r b kind amt moist else if q_leads r l from_ then p_ag1 r b kind amt moist else 2 else 2
abbrev q_truck (amt moist : Int32) : Prop := (1 ≤ amt ∧ amt ≤ 5000) ∧ (50 ≤ moist ∧ moist ≤ 400)
def p_cannotReceive (r : Nat → Int32) (l b kind amt moist : Int32) : Int32 × (Nat → Int32) :=
  if q_leg r l then if q_bin r b then if 0 ≤ kind ∧ kind ≤ 3 then if q_truck amt moist then
    if p_against r l.toNatClampNeg (-1) b.toNatClampNeg kind amt moist ≤ 0 then
      if r 0 + p_min amt (r (82 + 4 * l.toNatClampNeg + 0)) ≤ 1000000 then (0, r) else (-5, r)
    else (-4, upd r 5 (p_against r l.toNatClampNeg (-1) b.toNatClampNeg kind amt moist))
  else (-3, r) else (-2, r) else (-2, r) else (-2, r)
def p_above (moist : Int32) : Int32 := if moist ≤ 140 then 0 else moist - 140
def p_receives (r : Nat → Int32) (bk : Nat → Int64) (nb l b : Nat) (kind amt moist : Int32) : Int32 × (Nat → Int32) × (Nat → Int64) :=
  let r1 := p_passes (p_min amt (r (82 + 4 * l + 0))) r nb
  let r2 := p_brings r1 b kind amt (amt * moist)
  let r3 := p_dusts r2 l amt (amt * moist)
  let paid := (amt.toInt64 * (r3 (6 + kind.toNatClampNeg)).toInt64 * (1000 - 2 * p_above moist).toInt64 / 1000).toInt32
  let bk1 := vp_updL bk 0 (bk 0 + amt.toInt64)
  (paid, r3, vp_updL bk1 3 (bk1 3 + paid.toInt64))
def p_receive (K : KT) (l b kind amt moist : Int32) : Int32 × KT :=
  let c := p_cannotReceive K.1 l b kind amt moist
  if c.1 = 0 then
    let K1 := svK (c.2, K.2)
    let x := p_receives K1.1 K1.2.1 (nbK K) l.toNatClampNeg b.toNatClampNeg kind amt moist
    (x.1, (x.2.1, x.2.2, K1.2.2))
  else (c.1, (c.2, K.2))
def p_whyNotMove (r : Nat → Int32) (l from_ to : Nat) (amt : Int32) : Int32 :=
  if amt ≤ r (10 + 9 * from_ + 3) then p_against r l (nI from_) to (r (10 + 9 * from_ + 5)) amt (p_share r from_ amt / amt) else 7
def p_isNoMove (r : Nat → Int32) (l from_ to amt : Int32) : Int32 :=
  if q_leg r l then if q_bin r from_ then if q_bin r to then if from_ = to then -3 else if 1 ≤ amt ∧ amt ≤ 20000 then 0 else -3 else -2 else -2 else -2
def p_cannotMove (r : Nat → Int32) (l from_ to amt : Int32) : Int32 × (Nat → Int32) :=
  if p_isNoMove r l from_ to amt = 0 then
    if p_whyNotMove r l.toNatClampNeg from_.toNatClampNeg to.toNatClampNeg amt ≤ 0 then
      if r 0 + p_min amt (r (82 + 4 * l.toNatClampNeg + 0)) ≤ 1000000 then (0, r) else (-5, r)
    else (-4, upd r 5 (p_whyNotMove r l.toNatClampNeg from_.toNatClampNeg to.toNatClampNeg amt))
  else (p_isNoMove r l from_ to amt, r)
def p_moves (r : Nat → Int32) (nb l from_ to : Nat) (amt : Int32) : Int32 × (Nat → Int32) :=
  let r1 := p_passes (p_min amt (r (82 + 4 * l + 0))) r nb
  let x := p_takes r1 from_ amt
  (x.1, p_dusts (p_brings x.2 to (r1 (10 + 9 * from_ + 5)) amt x.1) l amt x.1)
def p_move (K : KT) (l from_ to amt : Int32) : Int32 × KT :=
  let c := p_cannotMove K.1 l from_ to amt
  if c.1 = 0 then
    let K1 := svK (c.2, K.2)
    let x := p_moves K1.1 (nbK K) l.toNatClampNeg from_.toNatClampNeg to.toNatClampNeg amt
    (x.1, (x.2, K1.2))
  else (c.1, (c.2, K.2))
def p_whyNot (r : Nat → Int32) (l from_ to amt : Int32) : Int32 :=
  if p_isNoMove r l from_ to amt = 0 then p_whyNotMove r l.toNatClampNeg from_.toNatClampNeg to.toNatClampNeg amt else p_isNoMove r l from_ to amt
def p_cannotClean (r : Nat → Int32) (l m : Int32) : Int32 :=
  if q_leg r l then if 1 ≤ m ∧ m ≤ 1000 then if r 0 + m ≤ 1000000 then 0 else -5 else -3 else -2
def p_cleans (r : Nat → Int32) (nb l : Nat) (m : Int32) : Int32 × (Nat → Int32) :=
  let r1 := p_passes m r nb
  let r2 := upd r1 (82 + 4 * l + 2) (if 0 ≤ r1 (82 + 4 * l + 2) - 50 * m then r1 (82 + 4 * l + 2) - 50 * m else 0)
  (r2 (82 + 4 * l + 2), r2)
def p_clean (K : KT) (l m : Int32) : Int32 × KT :=
  if p_cannotClean K.1 l m = 0 then
    let K1 := svK K
    let x := p_cleans K1.1 (nbK K) l.toNatClampNeg m
    (x.1, (x.2, K1.2))
  else (p_cannotClean K.1 l m, K)
def p_pass (K : KT) (m : Int32) : Int32 × KT :=
  if 1 ≤ m ∧ m ≤ 10000 then if K.1 0 + m ≤ 1000000 then
    let K1 := svK K
    let r := p_passes m K1.1 (nbK K)
    (r 0, (r, K1.2))
  else (-5, K) else (-3, K)
def p_cannotDry (r : Nat → Int32) (b st : Int32) : Int32 :=
  if q_bin r b then if 1 ≤ st ∧ st ≤ 200 then if r (10 + 9 * b.toNatClampNeg + 3) = 0 then -4 else if r 0 + 10 * st ≤ 1000000 then 0 else -5 else -3 else -2
def p_dry1 (b nb : Nat) (x : (Nat → Int32) × (Nat → Int64)) : (Nat → Int32) × (Nat → Int64) :=
  let r1 := p_passes 10 x.1 nb
  let out := r1 (10 + 9 * b + 4) / 20
  let lost := if r1 (10 + 9 * b + 3) - 1 ≤ out / 1000 then r1 (10 + 9 * b + 3) - 1 else out / 1000
  let r2 := upd r1 (10 + 9 * b + 4) (r1 (10 + 9 * b + 4) - out)
  let r3 := upd r2 (10 + 9 * b + 3) (r2 (10 + 9 * b + 3) - lost)
  let bk1 := vp_updL x.2 2 (x.2 2 + lost.toInt64)
  (upd r3 (10 + 9 * b + 8) (r3 (10 + 9 * b + 8) + lost), vp_updL bk1 5 (bk1 5 + 3))
def p_dries (b nb : Nat) : Nat → Nat → (Nat → Int32) × (Nat → Int64) → Int32 × (Nat → Int32) × (Nat → Int64)
  | 0, n, x => (nI n, x)
  | f + 1, n, x => if p_moist x.1 b ≤ 50 then (nI n, x) else p_dries b nb f (n + 1) (p_dry1 b nb x)
theorem dry1_2 {b nb : Nat} {x : (Nat → Int32) × (Nat → Int64)} {j : Nat} (h0 : 0 < j) (hj : j < 10) : (p_dry1 b nb x).1 j = x.1 j := by
  unfold p_dry1
  dsimp only
  rw [pk_un (by omega), pk_un (by omega), pk_un (by omega)]
  exact passes_lo h0 (by omega)
def p_dry (K : KT) (b st : Int32) : Int32 × KT :=
  if p_cannotDry K.1 b st = 0 then
    let K1 := svK K
    let x := p_dries b.toNatClampNeg (nbK K) st.toNatClampNeg 0 (K1.1, K1.2.1)
    (x.1, (x.2.1, x.2.2, K1.2.2))
  else (p_cannotDry K.1 b st, K)
def p_dump (K : KT) (bin : Int32) : Int32 × KT :=
  if q_bin K.1 bin then
    let K1 := svK K
    let b := bin.toNatClampNeg
    let had := K1.1 (10 + 9 * b + 3)
    let r1 := upd K1.1 (10 + 9 * b + 8) (K1.1 (10 + 9 * b + 8) + had)
    (had, (p_empties (upd r1 (10 + 9 * b + 3) 0) b, vp_updL K1.2.1 2 (K1.2.1 2 + had.toInt64), K1.2.2))
  else (-2, K)
