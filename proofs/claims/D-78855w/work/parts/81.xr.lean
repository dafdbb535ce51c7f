/-! the class's world for K -/
set_option maxRecDepth 100000
abbrev ST : Type := (Nat × Nat × Nat) × (Nat → Int32) × (Nat → Int64)
def stW (g : GT) (x : (Nat → Nat) × ST) : va_W := sw g x.1 x.2.1.1 x.2.1.2.1 x.2.1.2.2 x.2.2.1 x.2.2.2 []
abbrev rB (K : KT) (j : Nat) : Nat → Int32 := fun i => K.1 (130 * j + i)
abbrev bB6 (K : KT) (j : Nat) : Nat → Int64 := fun i => K.2.1 (6 * j + i)
/-- a stored state is block j of K -/
def StOk (d : ST) (K : KT) (j : Nat) : Prop := (K.1 (130 * j + 2) = nI d.1.1 ∧ K.1 (130 * j + 3) = nI d.1.2.1 ∧ K.1 (130 * j + 4) = nI d.1.2.2) ∧ SInv (rB K j) (bB6 K j) d.1.1 d.1.2.1 d.1.2.2 ∧ Agx d.1.1 d.1.2.1 d.1.2.2 d.2.1 (rB K j) ∧ ∀ i, i < 6 → d.2.2 i = bB6 K j i
theorem Agx.low {nb nl nc : Nat} {r r1 r2 : Nat → Int32} (hb : nb ≤ 8) (hl : nl ≤ 3) (hc : nc ≤ 6) (h : Agx nb nl nc r r1) (e : ∀ j, j < 130 → r2 j = r1 j) : Agx nb nl nc r r2 := by
  obtain ⟨⟨a0, a1, a5⟩, ap, ab, al, ac⟩ := h
  exact ⟨⟨a0.trans (e 0 (by decide)).symm, a1.trans (e 1 (by decide)).symm, a5.trans (e 5 (by decide)).symm⟩, fun j hj => (ap j hj).trans (e _ (by omega)).symm, fun i hi j hj => (ab i hi j hj).trans (e _ (by omega)).symm, fun i hi j hj => (al i hi j hj).trans (e _ (by omega)).symm, fun i hi j hj hn => (ac i hi j hj hn).trans (e _ (by omega)).symm⟩
theorem StOk.low {d : ST} {K K' : KT} {j j' : Nat} (h : StOk d K j) (e : ∀ i, i < 130 → rB K' j' i = rB K j i) (eb : ∀ i, i < 6 → bB6 K' j' i = bB6 K j i) : StOk d K' j' := by
  obtain ⟨⟨h2, h3, h4⟩, hS, hA, hb⟩ := h
  obtain ⟨n1, n2, n3⟩ := hS.1
  exact ⟨⟨(e 2 (by decide)).trans h2, (e 3 (by decide)).trans h3, (e 4 (by decide)).trans h4⟩, hS.low e eb, hA.low n1 n2 n3 e, fun i hi => (hb i hi).trans (eb i hi).symm⟩
theorem sw_congx {g : GT} {A : Nat → Nat} {nb nl nc : Nat} {r r' : Nat → Int32} {b b' : Nat → Int64} {suf : va_W} (h : Agx nb nl nc r r') (hb : ∀ j, j < 6 → b j = b' j) : sw g A nb nl nc r b suf = sw g A nb nl nc r' b' suf := by
  obtain ⟨⟨a0, a1, a5⟩, ap, ab, al, ac⟩ := h
  have e1 : prF r = prF r' := by
    funext i
    unfold prF
    by_cases c : i < 4
    · rw [if_pos c, if_pos c]; exact ap i c
    · rw [if_neg c, if_neg c]
  have eB : mpL (binsF A r) nb = mpL (binsF A r') nb := by
    unfold mpL
    refine List.map_congr_left (fun i hi => ?_)
    have hi' : i < nb := List.mem_range.mp hi
    unfold binsF bnC bnF bv
    rw [ab i hi' 0 (by decide), ab i hi' 1 (by decide), ab i hi' 2 (by decide), ab i hi' 3 (by decide), ab i hi' 4 (by decide), ab i hi' 5 (by decide), ab i hi' 6 (by decide), ab i hi' 7 (by decide), ab i hi' 8 (by decide)]
  have eL : mpL (legsF A r) nl = mpL (legsF A r') nl := by
    unfold mpL
    refine List.map_congr_left (fun i hi => ?_)
    have hi' : i < nl := List.mem_range.mp hi
    unfold legsF lgC lgF gv
    rw [al i hi' 0 (by decide), al i hi' 1 (by decide), al i hi' 2 (by decide), al i hi' 3 (by decide)]
  have eC : mpL (consF A r) nc = mpL (consF A r') nc := by
    unfold mpL
    refine List.map_congr_left (fun i hi => ?_)
    have hi' : i < nc := List.mem_range.mp hi
    unfold consF cnC cnF tv
    rw [ac i hi' 0 (by decide) (by decide), ac i hi' 1 (by decide) (by decide), ac i hi' 2 (by decide) (by decide), ac i hi' 3 (by decide) (by decide), ac i hi' 5 (by decide) (by decide)]
  unfold sw hdW tlW stF
  rw [eB, eL, eC, e1, a0, a1, a5, hb 0 (by decide), hb 1 (by decide), hb 2 (by decide), hb 3 (by decide), hb 4 (by decide), hb 5 (by decide)]
theorem cw_congx {g : GT} {a A : Nat → Nat} {nb nl nc : Nat} {r r' : Nat → Int32} {b b' : Nat → Int64} {od : Nat → Int32} {us : Int32} {tk : Nat → Int32} {bn : Int32} {suf : va_W} (h : Agx nb nl nc r r') (hb : ∀ j, j < 6 → b j = b' j) : cw g a A nb nl nc r b od us tk bn suf = cw g a A nb nl nc r' b' od us tk bn suf := by
  unfold cw
  rw [sw_congx h hb]
/-- history, images -/
def XD (K : KT) (hd tl : Nat) (f : Nat → Option Nat) (hist : List ((Nat → Nat) × ST)) (im : Nat → Option Nat) (kp : Nat → Option ((Nat → Nat) × ST)) : Prop :=
  (hist.length = svOf K ∧ hd < 6 ∧ tl = (hd + hist.length) % 6) ∧ (∀ i x, hist[i]? = some x → f ((hd + i) % 6) = some (x.1 0) ∧ StOk x.2 K (i + 1)) ∧ (∀ k, k < 2 → (kp k = none → K.2.2.2 k = 0 ∧ im k = none) ∧ (∀ x, kp k = some x → ¬ K.2.2.2 k = 0 ∧ im k = some (x.1 0) ∧ StOk x.2 K (6 + k)))
abbrev imC (g : GT) (a : Nat → Nat) (im : Nat → Option Nat) : Nat × va_E := (a 4, .inl (g.2 5, 2, .inr (.inr (.inr (.inr im)))))
def kpW (g : GT) (kp : Nat → Option ((Nat → Nat) × ST)) : va_W := ((kp 0).toList ++ (kp 1).toList).flatMap (stW g)
abbrev XX (g : GT) (a : Nat → Nat) (im : Nat → Option Nat) (t1 : Nat) (mb : Int32) (T : (Nat → Int32) × Int32) (ko fo dd : Nat → Nat) (hist : List ((Nat → Nat) × ST)) (kp : Nat → Option ((Nat → Nat) × ST)) (G : va_W) : va_W :=
  imC g a im :: (txW g a t1 mb T.2.toNatClampNeg T.1 ko fo dd ++ (lamW g (a 0) fo dd ++ (hist.flatMap (stW g) ++ (kpW g kp ++ G))))
def TOk (T : (Nat → Int32) × Int32) : Prop := T.2 = nI T.2.toNatClampNeg ∧ T.2.toNatClampNeg ≤ 120 ∧ chOk T.2.toNatClampNeg T.1
def XR (g : GT) (a : Nat → Nat) (K : KT) (T : (Nat → Int32) × Int32) (w : va_W) : Prop :=
  ∃ (A : Nat → Nat) (od : Nat → Int32) (us : Int32) (tk : Nat → Int32) (bn : Int32) (d1 hd tl : Nat) (f : Nat → Option Nat) (im : Nat → Option Nat) (t1 : Nat) (mb : Int32) (ko fo dd : Nat → Nat) (hist : List ((Nat → Nat) × ST)) (kp : Nat → Option ((Nat → Nat) × ST)) (G : va_W),
    w.Perm (cw g a A (nbK K) (nlK K) (ncK K) K.1 K.2.1 od us tk bn (dqW g (a 3) d1 hd tl f ++ XX g a im t1 mb T ko fo dd hist kp G)) ∧ XD K hd tl f hist im kp ∧ TOk T
/-- the blocks after a saving -/
theorem cp_at {α : Type} (r : Nat → α) {w f t m i : Nat} (hi : i < w) : cpN r w f t w (w * m + i) = if m = t then r (w * f + i) else r (w * m + i) := by
  unfold cpN
  by_cases c : m = t
  · subst c
    rw [if_pos (by omega), if_pos rfl]
    congr 1
    omega
  · rw [if_neg c, if_neg]
    intro h
    rcases Nat.lt_or_gt_of_ne c with q | q
    · have : w * (m + 1) ≤ w * t := Nat.mul_le_mul_left w q
      rw [Nat.mul_add] at this
      omega
    · have : w * (t + 1) ≤ w * m := Nat.mul_le_mul_left w q
      rw [Nat.mul_add] at this
      omega
theorem sh_at {α : Type} (r : Nat → α) {w i : Nat} (hi : i < w) (n : Nat) : ∀ m, shN w r n (w * m + i) = if 1 ≤ m ∧ m ≤ n then r (w * (m + 1) + i) else r (w * m + i) := by
  induction n with
  | zero => intro m; rw [if_neg (by omega)]; rfl
  | succ n ih =>
    intro m
    rw [shN, cp_at _ hi]
    by_cases c : m = n + 1
    · subst c
      rw [if_pos rfl, if_pos (by omega), ih, if_neg (by omega)]
    · rw [if_neg c, ih]
      by_cases c2 : 1 ≤ m ∧ m ≤ n
      · rw [if_pos c2, if_pos (by omega)]
      · rw [if_neg c2, if_neg (by omega)]
theorem sv_at {α : Type} (r : Nat → α) {w i : Nat} (hi : i < w) (sv m : Nat) (hm : 1 ≤ m) : svB w r sv (w * m + i) = if sv = 5 then (if m ≤ 4 then r (w * (m + 1) + i) else if m = 5 then r i else r (w * m + i)) else if m = sv + 1 then r i else r (w * m + i) := by
  unfold svB
  by_cases c : sv = 5
  · rw [if_pos c, if_pos c, cp_at _ hi]
    by_cases c2 : m = 5
    · subst c2
      rw [if_pos rfl, sh_at _ hi, if_neg (show ¬ (1 ≤ 0 ∧ 0 ≤ 4) by omega), if_neg (show ¬ 5 ≤ 4 by decide), if_pos rfl, Nat.mul_zero, Nat.zero_add]
    · rw [if_neg c2, sh_at _ hi]
      by_cases c3 : m ≤ 4
      · rw [if_pos c3, if_pos (show 1 ≤ m ∧ m ≤ 4 from ⟨hm, c3⟩)]
      · rw [if_neg c3, if_neg (show ¬ (1 ≤ m ∧ m ≤ 4) from fun q => c3 q.2), if_neg c2]
  · rw [if_neg c, if_neg c, cp_at _ hi, Nat.mul_zero, Nat.zero_add]
theorem pm3 {α : Type} (s P h R : List α) : (s ++ (P ++ (h ++ R))).Perm (P ++ ((h ++ s) ++ R)) := by
  rw [List.append_assoc h s R]
  exact (List.perm_append_comm_assoc s P (h ++ R)).trans ((List.perm_append_comm_assoc s h R).append_left P)
theorem hi_r {K' K0 : KT} (h : Hi K' K0) {j : Nat} (hj : 1 ≤ j) : rB K' j = rB K0 j := funext fun i => h.1 _ (by omega)
theorem hi_b {K' K0 : KT} (h : Hi K' K0) {j : Nat} (hj : 1 ≤ j) : bB6 K' j = bB6 K0 j := funext fun i => h.2.1 _ (by omega)
theorem StOk.hi {d : ST} {K' K0 : KT} (h : Hi K' K0) {j : Nat} (hj : 1 ≤ j) (hs : StOk d K0 j) : StOk d K' j := hs.low (fun i _ => by rw [hi_r h hj]) (fun i _ => by rw [hi_b h hj])
section XS
variable {g : GT} {a A : Nat → Nat} {K : KT} {T : (Nat → Int32) × Int32} {w : va_W} {d1 hd tl : Nat} {f : Nat → Option Nat} {im : Nat → Option Nat} {t1 : Nat} {mb : Int32} {ko fo dd : Nat → Nat} {hist : List ((Nat → Nat) × ST)} {kp : Nat → Option ((Nat → Nat) × ST)} {G : va_W}
theorem XD.size (hX : XD K hd tl f hist im kp) (h : KS K) : hist.length ≤ 5 ∧ tl < 6 ∧ (tl + 6 - hd) % 6 = hist.length := by
  obtain ⟨⟨h1, h2, h3⟩, -⟩ := hX
  have := h.1.2.2.2.2
  omega
theorem XD.hf (hX : XD K hd tl f hist im kp) (h : KS K) : (tl + 6 - hd) % 6 = 5 → ∃ x, f hd = some x := by
  intro q
  obtain ⟨h1, h2, h3⟩ := hX.size h
  have hl : 0 < hist.length := by omega
  obtain ⟨e, -⟩ := hX.2.1 0 hist[0] (List.getElem?_eq_getElem hl)
  have hd6 := hX.1.2.1
  rw [show (hd + 0) % 6 = hd by omega] at e
  exact ⟨_, e⟩
/-- the history after a recording -/
theorem XD.rec (hX : XD K hd tl f hist im kp) (h : KS K) {p : Int32 × KT} (hp : Hi p.2 (svK K)) (A : Nat → Nat) : XD p.2 (dqH hd tl) ((tl + 1) % 6) (dqF hd tl f (A 0)) ((if hist.length = 5 then hist.tail else hist) ++ [(A, ((nbK K, nlK K, ncK K), K.1, K.2.1))]) im kp := by
  obtain ⟨s1, s2, s3⟩ := hX.size h
  obtain ⟨⟨h1, h2, h3⟩, hH, hI⟩ := hX
  have hsv : svOf p.2 = svN (svOf K) := by
    unfold svOf
    rw [hp.2.2]
    show (nI (svN (svOf K))).toNatClampNeg = _
    exact nI_clamp (by have := svN_le h.1.2.2.2.2; omega)
  have blk : ∀ m, 1 ≤ m → (∀ i, i < 130 → rB p.2 m i = svB 130 K.1 (svOf K) (130 * m + i)) ∧ (∀ i, i < 6 → bB6 p.2 m i = svB 6 K.2.1 (svOf K) (6 * m + i)) := fun m hm => ⟨fun i _ => by rw [hi_r hp hm]; rfl, fun i _ => by rw [hi_b hp hm]; rfl⟩
  have now : StOk ((nbK K, nlK K, ncK K), K.1, K.2.1) K 0 := ⟨⟨by show K.1 (130 * 0 + 2) = _; exact h.1.1.1, h.1.2.1.1, h.1.2.2.1.1⟩, h.2.low (fun j _ => by show K.1 (130 * 0 + j) = _; rw [Nat.mul_zero, Nat.zero_add]) (fun j _ => by show K.2.1 (6 * 0 + j) = _; rw [Nat.mul_zero, Nat.zero_add]), Agx.lo h.1.1.2 h.1.2.1.2 h.1.2.2.1.2 (fun j _ => by show _ = K.1 (130 * 0 + j); rw [Nat.mul_zero, Nat.zero_add]), fun i _ => by show _ = K.2.1 (6 * 0 + i); rw [Nat.mul_zero, Nat.zero_add]⟩
  refine ⟨⟨?_, ?_, ?_⟩, ?_, ?_⟩
  · rw [hsv]
    unfold svN
    by_cases c : hist.length = 5
    · rw [if_pos c, if_pos (by omega), List.length_append, List.length_tail]; simp only [List.length_singleton]; omega
    · rw [if_neg c, if_neg (by omega), List.length_append]; simp only [List.length_singleton]; omega
  · unfold dqH; split <;> omega
  · unfold dqH
    by_cases c : hist.length = 5
    · rw [if_pos (by omega), if_pos c, List.length_append, List.length_tail]; simp only [List.length_singleton]; omega
    · rw [if_neg (by omega), if_neg c, List.length_append]; simp only [List.length_singleton]; omega
  · intro i x hx
    by_cases c : hist.length = 5
    · rw [if_pos c] at hx
      have hlt : hist.tail.length = 4 := by rw [List.length_tail]; omega
      unfold dqH dqF va_up
      rw [if_pos (show (tl + 6 - hd) % 6 = 5 by omega), if_pos (show (tl + 6 - hd) % 6 = 5 by omega)]
      by_cases c2 : i < 4
      · rw [List.getElem?_append_left (by omega), List.getElem?_tail] at hx
        obtain ⟨e1, e2⟩ := hH (i + 1) x hx
        rw [if_neg (by omega), if_neg (by omega), show ((hd + 1) % 6 + i) % 6 = (hd + (i + 1)) % 6 by omega]
        refine ⟨e1, e2.low (fun j hj => ?_) (fun j hj => ?_)⟩
        · rw [(blk (i + 1) (by omega)).1 j hj, sv_at _ hj _ _ (by omega), if_pos (by omega), if_pos (by omega)]
        · rw [(blk (i + 1) (by omega)).2 j hj, sv_at _ hj _ _ (by omega), if_pos (by omega), if_pos (by omega)]
      · rw [List.getElem?_append_right (by omega)] at hx
        have hi : i = 4 := by
          rcases Nat.lt_or_ge (i - hist.tail.length) 1 with q | q
          · omega
          · rw [List.getElem?_eq_none (by simpa using q)] at hx; exact absurd hx (by simp)
        subst hi
        rw [hlt] at hx
        have hx' : (A, ((nbK K, nlK K, ncK K), K.1, K.2.1)) = x := by simpa using hx
        subst hx'
        rw [if_pos (by omega)]
        refine ⟨rfl, now.low (fun j hj => ?_) (fun j hj => ?_)⟩
        · rw [(blk (4 + 1) (by omega)).1 j hj, sv_at _ hj _ _ (by omega), if_pos (by omega), if_neg (by omega), if_pos (by omega)]
          show _ = K.1 (130 * 0 + j); rw [Nat.mul_zero, Nat.zero_add]
        · rw [(blk (4 + 1) (by omega)).2 j hj, sv_at _ hj _ _ (by omega), if_pos (by omega), if_neg (by omega), if_pos (by omega)]
          show _ = K.2.1 (6 * 0 + j); rw [Nat.mul_zero, Nat.zero_add]
    · rw [if_neg c] at hx
      unfold dqH dqF va_up
      rw [if_neg (show ¬ (tl + 6 - hd) % 6 = 5 by omega), if_neg (show ¬ (tl + 6 - hd) % 6 = 5 by omega)]
      by_cases c2 : i < hist.length
      · rw [List.getElem?_append_left c2] at hx
        obtain ⟨e1, e2⟩ := hH i x hx
        rw [if_neg (by omega)]
        refine ⟨e1, e2.low (fun j hj => ?_) (fun j hj => ?_)⟩
        · rw [(blk (i + 1) (by omega)).1 j hj, sv_at _ hj _ _ (by omega), if_neg (by omega), if_neg (by omega)]
        · rw [(blk (i + 1) (by omega)).2 j hj, sv_at _ hj _ _ (by omega), if_neg (by omega), if_neg (by omega)]
      · rw [List.getElem?_append_right (by omega)] at hx
        have hi : i = hist.length := by
          rcases Nat.lt_or_ge (i - hist.length) 1 with q | q
          · omega
          · rw [List.getElem?_eq_none (by simpa using q)] at hx; exact absurd hx (by simp)
        subst hi
        have hx' : (A, ((nbK K, nlK K, ncK K), K.1, K.2.1)) = x := by simpa using hx
        subst hx'
        rw [if_pos (by omega)]
        refine ⟨rfl, now.low (fun j hj => ?_) (fun j hj => ?_)⟩
        · rw [(blk (hist.length + 1) (by omega)).1 j hj, sv_at _ hj _ _ (by omega), if_neg (by omega), if_pos (by omega)]
          show _ = K.1 (130 * 0 + j); rw [Nat.mul_zero, Nat.zero_add]
        · rw [(blk (hist.length + 1) (by omega)).2 j hj, sv_at _ hj _ _ (by omega), if_neg (by omega), if_pos (by omega)]
          show _ = K.2.1 (6 * 0 + j); rw [Nat.mul_zero, Nat.zero_add]
  · intro k hk
    have e22 : p.2.2.2.2 = K.2.2.2 := by rw [hp.2.2]; rfl
    rw [e22]
    refine ⟨(hI k hk).1, fun x hx => ?_⟩
    obtain ⟨i1, i2, i3⟩ := (hI k hk).2 x hx
    have h5 := h.1.2.2.2.2
    refine ⟨i1, i2, i3.low (fun j hj => ?_) (fun j hj => ?_)⟩
    · rw [(blk (6 + k) (by omega)).1 j hj, sv_at _ hj _ _ (by omega)]
      by_cases c : svOf K = 5
      · rw [if_pos c, if_neg (by omega), if_neg (by omega)]
      · rw [if_neg c, if_neg (by omega)]
    · rw [(blk (6 + k) (by omega)).2 j hj, sv_at _ hj _ _ (by omega)]
      by_cases c : svOf K = 5
      · rw [if_pos c, if_neg (by omega), if_neg (by omega)]
      · rw [if_neg c, if_neg (by omega)]
theorem XD.same (hX : XD K hd tl f hist im kp) {K' : KT} (hp : Hi K' K) : XD K' hd tl f hist im kp := by
  obtain ⟨⟨h1, h2, h3⟩, hH, hI⟩ := hX
  refine ⟨⟨by rw [h1]; unfold svOf; rw [hp.2.2], h2, h3⟩, fun i x hx => ⟨(hH i x hx).1, (hH i x hx).2.hi hp (by omega)⟩, fun k hk => ?_⟩
  rw [hp.2.2]
  exact ⟨(hI k hk).1, fun x hx => ⟨((hI k hk).2 x hx).1, ((hI k hk).2 x hx).2.1, ((hI k hk).2 x hx).2.2.hi hp (by omega)⟩⟩
/-- a recording method's end -/
theorem XR.rec (h : KS K) (hX : XD K hd tl f hist im kp) (hT : TOk T) {y : Int32 × XO} {p : Int32 × KT} (hy : XRel K y p) (hw : Rec g a A (nbK K) (nlK K) (ncK K) (Rw K) (Bw K) d1 hd tl f (XX g a im t1 mb T ko fo dd hist kp G) y.2 w) : XR g a p.2 T w := by
  obtain ⟨-, hK, hc, hA, hb, hHi⟩ := hy
  obtain ⟨B, od, us, tk, bn, hP⟩ := hw
  rw [hc] at hP
  dsimp only at hP
  rw [cw_congx hA hb] at hP
  cases hr : y.2.1 with
  | false =>
    rw [hr] at hP hHi
    rw [if_neg Bool.false_ne_true] at hHi
    exact ⟨B, od, us, tk, bn, d1, hd, tl, f, im, t1, mb, ko, fo, dd, hist, kp, G, hP, hX.same hHi, hT⟩
  | true =>
    rw [hr] at hP hHi
    rw [if_pos rfl] at hHi
    refine ⟨B, od, us, tk, bn, d1, _, _, _, im, t1, mb, ko, fo, dd, _, kp, (if hist.length = 5 then hist.head?.toList.flatMap (stW g) else []) ++ G, hP.trans (cw_sufp ?_), hX.rec h hHi A, hT⟩
    refine List.Perm.append_left _ ?_
    have e0 : sw g A (nbK K) (nlK K) (ncK K) (Rw K) (Bw K) [] = stW g (A, ((nbK K, nlK K, ncK K), K.1, K.2.1)) := sw_congx (Agx.lo h.1.1.2 h.1.2.1.2 h.1.2.2.1.2 (fun j hj => svK_lo K hj)) (fun j hj => svK_loB K hj)
    rw [e0]
    have eP : ∀ (h : List ((Nat → Nat) × ST)) (G' : va_W), XX g a im t1 mb T ko fo dd h kp G' = (imC g a im :: (txW g a t1 mb T.2.toNatClampNeg T.1 ko fo dd ++ lamW g (a 0) fo dd)) ++ (h.flatMap (stW g) ++ (kpW g kp ++ G')) := fun h G' => by
      show imC g a im :: (txW g a t1 mb T.2.toNatClampNeg T.1 ko fo dd ++ (lamW g (a 0) fo dd ++ (h.flatMap (stW g) ++ (kpW g kp ++ G')))) = imC g a im :: ((txW g a t1 mb T.2.toNatClampNeg T.1 ko fo dd ++ lamW g (a 0) fo dd) ++ (h.flatMap (stW g) ++ (kpW g kp ++ G')))
      rw [List.append_assoc]
    rw [eP, eP]
    by_cases c : hist.length = 5
    · rw [if_pos c, if_pos c]
      match hist, c with
      | x0 :: hs, _ =>
        show (stW g (A, ((nbK K, nlK K, ncK K), K.1, K.2.1)) ++ ((imC g a im :: (txW g a t1 mb T.2.toNatClampNeg T.1 ko fo dd ++ lamW g (a 0) fo dd)) ++ ((stW g x0 ++ hs.flatMap (stW g)) ++ (kpW g kp ++ G)))).Perm ((imC g a im :: (txW g a t1 mb T.2.toNatClampNeg T.1 ko fo dd ++ lamW g (a 0) fo dd)) ++ ((hs ++ [(A, ((nbK K, nlK K, ncK K), K.1, K.2.1))]).flatMap (stW g) ++ (kpW g kp ++ (([x0].flatMap (stW g)) ++ G))))
        rw [List.flatMap_append, List.flatMap_singleton, List.flatMap_singleton]
        refine List.Perm.trans (l₂ := stW g (A, ((nbK K, nlK K, ncK K), K.1, K.2.1)) ++ ((imC g a im :: (txW g a t1 mb T.2.toNatClampNeg T.1 ko fo dd ++ lamW g (a 0) fo dd)) ++ (hs.flatMap (stW g) ++ (kpW g kp ++ (stW g x0 ++ G))))) ?_ (pm3 _ _ _ _)
        refine List.Perm.append_left _ (List.Perm.append_left _ ?_)
        rw [List.append_assoc]
        refine (List.perm_append_comm_assoc (stW g x0) (hs.flatMap (stW g)) (kpW g kp ++ G)).trans (List.Perm.append_left _ ?_)
        exact List.perm_append_comm_assoc (stW g x0) (kpW g kp) G
    · rw [if_neg c, if_neg c, List.flatMap_append, List.flatMap_singleton, List.nil_append]
      exact pm3 _ _ _ _
end XS
