/-! images over the class's world for K -/
set_option maxRecDepth 100000
theorem pm_k0 {α : Type} (s k0 k1 G : List α) : (s ++ ((k0 ++ k1) ++ G)).Perm ((s ++ k1) ++ (k0 ++ G)) := by
  have := pmB [s, k0, k1, G] [0, 2, 1, 3] 4 rfl (by decide)
  have e1 : ([0, 2, 1, 3].filterMap (fun i => [s, k0, k1, G][i]?)) = [s, k1, k0, G] := rfl
  rw [e1] at this
  simp only [List.flatten_cons, List.flatten_nil, List.append_nil] at this
  simpa only [List.append_assoc] using this.symm
theorem pm_k1 {α : Type} (s k0 k1 G : List α) : (s ++ ((k0 ++ k1) ++ G)).Perm ((k0 ++ s) ++ (k1 ++ G)) := by
  have := pmB [s, k0, k1, G] [1, 0, 2, 3] 4 rfl (by decide)
  have e1 : ([1, 0, 2, 3].filterMap (fun i => [s, k0, k1, G][i]?)) = [k0, s, k1, G] := rfl
  rw [e1] at this
  simp only [List.flatten_cons, List.flatten_nil, List.append_nil] at this
  simpa only [List.append_assoc] using this.symm
theorem pm_b {α : Type} (i : α) (tx la hi k s kR G : List α) (h : k.Perm (s ++ kR)) : (i :: (tx ++ (la ++ (hi ++ (k ++ G))))).Perm (i :: (s ++ (tx ++ (la ++ (hi ++ (kR ++ G)))))) := by
  refine List.Perm.cons i ?_
  refine ((((h.append_right G).append_left hi).append_left la).append_left tx).trans ?_
  have := pmB [tx, la, hi, s, kR, G] [3, 0, 1, 2, 4, 5] 6 rfl (by decide)
  have e1 : ([3, 0, 1, 2, 4, 5].filterMap (fun i => [tx, la, hi, s, kR, G][i]?)) = [s, tx, la, hi, kR, G] := rfl
  rw [e1] at this
  simp only [List.flatten_cons, List.flatten_nil, List.append_nil] at this
  simpa only [List.append_assoc] using this.symm
section IM
variable {l : Launch} {g : GT} {a : Nat → Nat} {K : KT} {T : (Nat → Int32) × Int32}
abbrev kpK (K : KT) (k : Nat) : KT := (cpN K.1 130 0 (6 + k) 130, cpN K.2.1 6 0 (6 + k) 6, (K.2.2.1, upd K.2.2.2 k 1))
theorem kp_lo (k : Nat) {j : Nat} (hj : j < 130) : (kpK K k).1 j = K.1 j := cpN_lo _ (by omega) hj
theorem kp_loB (k : Nat) {j : Nat} (hj : j < 6) : (kpK K k).2.1 j = K.2.1 j := cpN_lo _ (by omega) hj
theorem kp_n (k : Nat) : nbK (kpK K k) = nbK K ∧ nlK (kpK K k) = nlK K ∧ ncK (kpK K k) = ncK K ∧ svOf (kpK K k) = svOf K := by
  refine ⟨?_, ?_, ?_, rfl⟩
  · unfold nbK; rw [kp_lo k (by decide)]
  · unfold nlK; rw [kp_lo k (by decide)]
  · unfold ncK; rw [kp_lo k (by decide)]
theorem ks_kp (h : KS K) (k : Nat) : KS (kpK K k) := by
  obtain ⟨e1, e2, e3, e4⟩ := kp_n (K := K) k
  obtain ⟨⟨⟨h1, h2⟩, ⟨h3, h4⟩, ⟨h5, h6⟩, ⟨h7, h8⟩⟩, hS⟩ := h
  refine ⟨⟨⟨?_, by omega⟩, ⟨?_, by omega⟩, ⟨?_, by omega⟩, ⟨?_, by omega⟩⟩, ?_⟩
  · rw [e1, kp_lo k (by decide)]; exact h1
  · rw [e2, kp_lo k (by decide)]; exact h3
  · rw [e3, kp_lo k (by decide)]; exact h5
  · rw [e4]; exact h7
  · rw [e1, e2, e3]; exact hS.low (fun j hj => kp_lo k hj) (fun j hj => kp_loB k hj)
theorem ks_keep (h : KS K) (x : Int32) : KS (p_keep K x).2 := by
  unfold p_keep
  by_cases c : 0 ≤ x ∧ x ≤ 1
  · rw [if_pos c]; exact ks_kp h _
  · rw [if_neg c]; exact h
theorem now_ok (h : KS K) {K' : KT} {j : Nat} (e : ∀ i, i < 130 → rB K' j i = K.1 i) (eb : ∀ i, i < 6 → bB6 K' j i = K.2.1 i) : StOk ((nbK K, nlK K, ncK K), K.1, K.2.1) K' j :=
  ⟨⟨(e 2 (by decide)).trans h.1.1.1, (e 3 (by decide)).trans h.1.2.1.1, (e 4 (by decide)).trans h.1.2.2.1.1⟩, h.2.low e eb, Agx.lo h.1.1.2 h.1.2.1.2 h.1.2.2.1.2 (fun i hi => (e i hi).symm), fun i hi => (eb i hi).symm⟩
theorem XD.keep {hd tl : Nat} {f : Nat → Option Nat} {hist : List ((Nat → Nat) × ST)} {im : Nat → Option Nat} {kp : Nat → Option ((Nat → Nat) × ST)} (h : KS K) (hD : XD K hd tl f hist im kp) {k : Nat} (hk : k < 2) (B : Nat → Nat) :
    XD (kpK K k) hd tl f hist (va_up im k (some (B 0))) (va_up kp k (some (B, ((nbK K, nlK K, ncK K), K.1, K.2.1)))) := by
  obtain ⟨⟨h1, h2, h3⟩, hH, hI⟩ := hD
  have h5 := h.1.2.2.2.2
  have oth : ∀ m, m ≠ 6 + k → (∀ i, i < 130 → rB (kpK K k) m i = rB K m i) ∧ (∀ i, i < 6 → bB6 (kpK K k) m i = bB6 K m i) := fun m hm => ⟨fun i hi => by show cpN K.1 130 0 (6 + k) 130 (130 * m + i) = _; rw [cp_at _ hi, if_neg hm], fun i hi => by show cpN K.2.1 6 0 (6 + k) 6 (6 * m + i) = _; rw [cp_at _ hi, if_neg hm]⟩
  refine ⟨⟨h1, h2, h3⟩, fun i x hx => ?_, fun j hj => ?_⟩
  · obtain ⟨e1, e2⟩ := hH i x hx
    have hi : i < hist.length := by
      rcases Nat.lt_or_ge i hist.length with q | q
      · exact q
      · rw [List.getElem?_eq_none q] at hx; exact absurd hx (by simp)
    exact ⟨e1, e2.low (oth (i + 1) (by omega)).1 (oth (i + 1) (by omega)).2⟩
  · by_cases q : j = k
    · subst q
      rw [va_up_self, va_up_self]
      refine ⟨fun z => absurd z (by simp), fun x hx => ?_⟩
      have hx' : (B, ((nbK K, nlK K, ncK K), K.1, K.2.1)) = x := by simpa using hx
      subst hx'
      refine ⟨?_, rfl, now_ok h (fun i hi => ?_) (fun i hi => ?_)⟩
      · show ¬ upd K.2.2.2 j 1 j = 0
        rw [upd_eq]; decide
      · show cpN K.1 130 0 (6 + j) 130 (130 * (6 + j) + i) = _
        rw [cp_at _ hi, if_pos rfl, Nat.mul_zero, Nat.zero_add]
      · show cpN K.2.1 6 0 (6 + j) 6 (6 * (6 + j) + i) = _
        rw [cp_at _ hi, if_pos rfl, Nat.mul_zero, Nat.zero_add]
    · rw [va_up_ne _ _ q, va_up_ne _ _ q]
      obtain ⟨z1, z2⟩ := hI j hj
      have e : (kpK K k).2.2.2 j = K.2.2.2 j := upd_ne q
      refine ⟨fun z => ⟨by rw [e]; exact (z1 z).1, (z1 z).2⟩, fun x hx => ?_⟩
      obtain ⟨y1, y2, y3⟩ := z2 x hx
      exact ⟨by rw [e]; exact y1, y2, y3.low (oth (6 + j) (by omega)).1 (oth (6 + j) (by omega)).2⟩
theorem kpW_up {kp : Nat → Option ((Nat → Nat) × ST)} {k : Nat} (hk : k < 2) (x : (Nat → Nat) × ST) (G : va_W) : (stW g x ++ (kpW g kp ++ G)).Perm (kpW g (va_up kp k (some x)) ++ ((kp k).toList.flatMap (stW g) ++ G)) := by
  unfold kpW
  rw [List.flatMap_append, List.flatMap_append]
  match k, hk with
  | 0, _ =>
    rw [va_up_self, va_up_ne _ _ (show (1 : Nat) ≠ 0 by decide)]
    rw [show (some x).toList.flatMap (stW g) = stW g x from List.flatMap_singleton _ _]
    exact pm_k0 _ _ _ _
  | 1, _ =>
    rw [va_up_self, va_up_ne _ _ (show (0 : Nat) ≠ 1 by decide)]
    rw [show (some x).toList.flatMap (stW g) = stW g x from List.flatMap_singleton _ _]
    exact pm_k1 _ _ _ _
theorem xk_keep (h : KS K) (x : Int32) : XK l g a M_X0_keep [.int x] K T (.int (p_keep K x).1) (p_keep K x).2 T := by
  intro w hX
  obtain ⟨A, od, us, tk, bn, d1, hd, tl, f, im, t1, mb, ko, fo, dd, hist, kp, G, hP, hD, hT⟩ := hX
  have pp : (cw g a A (nbK K) (nlK K) (ncK K) K.1 K.2.1 od us tk bn (dqW g (a 3) d1 hd tl f ++ XX g a im t1 mb T ko fo dd hist kp G)).Perm (elC a us bn (A 0) :: (imC g a im :: sw g A (nbK K) (nlK K) (ncK K) K.1 K.2.1 (odtk g a od tk ++ (dqW g (a 3) d1 hd tl f ++ (txW g a t1 mb T.2.toNatClampNeg T.1 ko fo dd ++ (lamW g (a 0) fo dd ++ (hist.flatMap (stW g) ++ (kpW g kp ++ G)))))))) := by
    rw [cw_can, sw_suf g A (nbK K) (nlK K) (ncK K) K.1 K.2.1 (odtk g a od tk ++ (dqW g (a 3) d1 hd tl f ++ (txW g a t1 mb T.2.toNatClampNeg T.1 ko fo dd ++ (lamW g (a 0) fo dd ++ (hist.flatMap (stW g) ++ (kpW g kp ++ G))))))]
    exact (pm_kp (odtk g a od tk) (sw g A (nbK K) (nlK K) (ncK K) K.1 K.2.1 []) (dqW g (a 3) d1 hd tl f) [imC g a im] (txW g a t1 mb T.2.toNatClampNeg T.1 ko fo dd) (lamW g (a 0) fo dd) (hist.flatMap (stW g)) (kpW g kp) G).cons _
  refine ⟨_, [], _, 0, _, (hP.trans pp).trans (by rw [List.append_nil]), x_keep l g a A _ _ _ _ _ us bn im _ h.1.1.2 h.1.2.1.2 h.1.2.2.1.2 x, rfl, ?_⟩
  intro rv w1 hw
  rw [List.append_nil]
  unfold p_keep
  by_cases c : 0 ≤ x ∧ x ≤ 1
  · rw [if_pos c] at hw ⊢
    obtain ⟨rfl, B, hB⟩ := hw
    obtain ⟨-, hk⟩ := in_c (n := 1) rfl (by decide) c
    obtain ⟨e1, e2, e3, e4⟩ := kp_n (K := K) x.toNatClampNeg
    refine ⟨?_, A, od, us, tk, bn, d1, hd, tl, f, va_up im x.toNatClampNeg (some (B 0)), t1, mb, ko, fo, dd, hist, va_up kp x.toNatClampNeg (some (B, ((nbK K, nlK K, ncK K), K.1, K.2.1))), (kp x.toNatClampNeg).toList.flatMap (stW g) ++ G, ?_, hD.keep h (by omega) B, hT⟩
    · show some (Value.int (K.1 0)) = some (Value.int ((kpK K x.toNatClampNeg).1 0))
      rw [kp_lo x.toNatClampNeg (j := 0) (by decide)]
    · rw [show (nbK (cpN K.1 130 0 (6 + x.toNatClampNeg) 130, cpN K.2.1 6 0 (6 + x.toNatClampNeg) 6, (K.2.2.1, upd K.2.2.2 x.toNatClampNeg 1))) = nbK K from e1, show (nlK (cpN K.1 130 0 (6 + x.toNatClampNeg) 130, cpN K.2.1 6 0 (6 + x.toNatClampNeg) 6, (K.2.2.1, upd K.2.2.2 x.toNatClampNeg 1))) = nlK K from e2, show (ncK (cpN K.1 130 0 (6 + x.toNatClampNeg) 130, cpN K.2.1 6 0 (6 + x.toNatClampNeg) 6, (K.2.2.1, upd K.2.2.2 x.toNatClampNeg 1))) = ncK K from e3]
      rw [cw_congx (r' := K.1) (b' := K.2.1) (Agx.lo h.1.1.2 h.1.2.1.2 h.1.2.2.1.2 (fun j hj => kp_lo x.toNatClampNeg hj)) (fun j hj => kp_loB x.toNatClampNeg hj), cw_can]
      refine hB.trans (List.Perm.cons _ ?_)
      rw [sw_suf, sw_suf g A]
      exact pm_kp2 (odtk g a od tk) (sw g A (nbK K) (nlK K) (ncK K) K.1 K.2.1 []) (dqW g (a 3) d1 hd tl f) [imC g a (va_up im x.toNatClampNeg (some (B 0)))] (txW g a t1 mb T.2.toNatClampNeg T.1 ko fo dd) (lamW g (a 0) fo dd) (hist.flatMap (stW g)) (kpW g kp) G (sw g B (nbK K) (nlK K) (ncK K) K.1 K.2.1 []) _ _ (kpW_up (by omega) (B, ((nbK K, nlK K, ncK K), K.1, K.2.1)) G)
  · rw [if_neg c] at hw ⊢
    obtain ⟨rfl, rfl⟩ := hw
    exact ⟨rfl, A, od, us, tk, bn, d1, hd, tl, f, im, t1, mb, ko, fo, dd, hist, kp, G, pp.symm, hD, hT⟩
theorem kpW_at {kp : Nat → Option ((Nat → Nat) × ST)} {k : Nat} (hk : k < 2) {x : (Nat → Nat) × ST} (e : kp k = some x) : ∃ kR, (kpW g kp).Perm (stW g x ++ kR) := by
  unfold kpW
  rw [List.flatMap_append]
  match k, hk, e with
  | 0, _, e => exact ⟨(kp 1).toList.flatMap (stW g), by rw [e, show (some x).toList.flatMap (stW g) = stW g x from List.flatMap_singleton _ _]⟩
  | 1, _, e => exact ⟨(kp 0).toList.flatMap (stW g), by rw [e, show (some x).toList.flatMap (stW g) = stW g x from List.flatMap_singleton _ _]; exact List.perm_append_comm⟩
theorem sv_img {k : Nat} (h : KS K) : (∀ i, i < 130 → rB (svK K) (6 + k) i = rB K (6 + k) i) ∧ (∀ i, i < 6 → bB6 (svK K) (6 + k) i = bB6 K (6 + k) i) := by
  have h5 := h.1.2.2.2.2
  refine ⟨fun i hi => ?_, fun i hi => ?_⟩
  · show svB 130 K.1 (svOf K) (130 * (6 + k) + i) = _
    rw [sv_at _ hi _ _ (by omega)]
    by_cases c : svOf K = 5
    · rw [if_pos c, if_neg (by omega), if_neg (by omega)]
    · rw [if_neg c, if_neg (by omega)]
  · show svB 6 K.2.1 (svOf K) (6 * (6 + k) + i) = _
    rw [sv_at _ hi _ _ (by omega)]
    by_cases c : svOf K = 5
    · rw [if_pos c, if_neg (by omega), if_neg (by omega)]
    · rw [if_neg c, if_neg (by omega)]
theorem kx_back (h : KS K) {k : Nat} {d : ST} (hs : StOk d K (6 + k)) : XRel K (d.2.1 0, true, d.1, d.2.1, d.2.2) (cpN (svK K).1 130 (6 + k) 0 130 0, (cpN (svK K).1 130 (6 + k) 0 130, cpN (svK K).2.1 6 (6 + k) 0 6, (svK K).2.2)) := by
  have hs' : StOk d (svK K) (6 + k) := hs.low (sv_img h).1 (sv_img h).2
  obtain ⟨k1, k2, k3, k4, k5⟩ := KS.blk (K' := (cpN (svK K).1 130 (6 + k) 0 130, cpN (svK K).2.1 6 (6 + k) 0 6, (svK K).2.2)) hs' (fun i hi => cp0_lo (svK K).1 hi) (fun i hi => cp0_lo (svK K).2.1 hi) (sv_ok h).1 (sv_ok h).2
  refine ⟨?_, k1, k2.symm, ?_, k5, ⟨fun j hj => cp0_hi (svK K).1 hj, fun j hj => cp0_hi (svK K).2.1 hj, rfl⟩⟩
  · exact k4.1.1
  · have q1 := congrArg (fun z => z.1) k2
    have q2 := congrArg (fun z => z.2.1) k2
    have q3 := congrArg (fun z => z.2.2) k2
    dsimp only at q1 q2 q3 ⊢
    rw [q1, q2, q3]; exact k4
theorem xk_back (h : KS K) (x : Int32) : XK l g a M_X0_back [.int x] K T (.int (p_back K x).1) (p_back K x).2 T := by
  intro w hX
  obtain ⟨A, od, us, tk, bn, d1, hd, tl, f, im, t1, mb, ko, fo, dd, hist, kp, G, hP, hD, hT⟩ := hX
  have zero : (0 ≤ x ∧ x ≤ 1 → im x.toNatClampNeg = none) → XC l g M_X0_back [.int x] (a 0) w (fun rv w1 => rv = some (.int (if 0 ≤ x ∧ x ≤ 1 then -4 else -2)) ∧ XR g a K T w1) := by
    intro him
    have pp : (cw g a A (nbK K) (nlK K) (ncK K) K.1 K.2.1 od us tk bn (dqW g (a 3) d1 hd tl f ++ XX g a im t1 mb T ko fo dd hist kp G)).Perm (imC g a im :: elC a us bn (A 0) :: ((odtk g a od tk ++ (sw g A (nbK K) (nlK K) (ncK K) K.1 K.2.1 [] ++ dqW g (a 3) d1 hd tl f)) ++ (txW g a t1 mb T.2.toNatClampNeg T.1 ko fo dd ++ (lamW g (a 0) fo dd ++ (hist.flatMap (stW g) ++ (kpW g kp ++ G)))))) := by
      rw [cw_can]
      refine List.Perm.trans (List.Perm.cons _ ?_) (List.Perm.swap _ _ _)
      have : odtk g a od tk ++ (sw g A (nbK K) (nlK K) (ncK K) K.1 K.2.1 [] ++ (dqW g (a 3) d1 hd tl f ++ XX g a im t1 mb T ko fo dd hist kp G)) = (odtk g a od tk ++ (sw g A (nbK K) (nlK K) (ncK K) K.1 K.2.1 [] ++ dqW g (a 3) d1 hd tl f)) ++ XX g a im t1 mb T ko fo dd hist kp G := by simp only [List.append_assoc]
      rw [this]
      exact List.perm_middle
    refine ⟨_, [], _, 1, _, (hP.trans pp).trans (by rw [List.append_nil]), x_back0 l g a us bn (A 0) im _ x him, rfl, ?_⟩
    rintro rv w1 ⟨rfl, rfl⟩
    rw [List.append_nil]
    exact ⟨rfl, A, od, us, tk, bn, d1, hd, tl, f, im, t1, mb, ko, fo, dd, hist, kp, G, pp.symm, hD, hT⟩
  unfold p_back
  by_cases c : 0 ≤ x ∧ x ≤ 1
  · rw [if_pos c]
    obtain ⟨-, hk⟩ := in_c (n := 1) rfl (by decide) c
    obtain ⟨z1, z2⟩ := hD.2.2 x.toNatClampNeg (by omega)
    cases hkp : kp x.toNatClampNeg with
    | none =>
      have := zero (fun _ => (z1 hkp).2)
      rw [if_pos c] at this
      rw [if_pos (z1 hkp).1]
      exact this
    | some J =>
      obtain ⟨y1, y2, y3⟩ := z2 J hkp
      rw [if_neg y1]
      dsimp only
      obtain ⟨n1, n2, n3⟩ := y3.2.1.1
      obtain ⟨kR, hR⟩ := kpW_at (g := g) (show x.toNatClampNeg < 2 by omega) hkp
      have e : cw g a A (nbK K) (nlK K) (ncK K) K.1 K.2.1 od us tk bn (dqW g (a 3) d1 hd tl f ++ XX g a im t1 mb T ko fo dd hist kp G) = cw g a A (nbK K) (nlK K) (ncK K) (Rw K) (Bw K) od us tk bn (dqW g (a 3) d1 hd tl f ++ XX g a im t1 mb T ko fo dd hist kp G) := cw_congx (Agx.lo h.1.1.2 h.1.2.1.2 h.1.2.2.1.2 (fun j hj => (svK_lo K hj).symm)) (fun j hj => (svK_loB K hj).symm)
      rw [e] at hP
      have pX : (XX g a im t1 mb T ko fo dd hist kp G).Perm (imC g a im :: sw g J.1 J.2.1.1 J.2.1.2.1 J.2.1.2.2 J.2.2.1 J.2.2.2 (txW g a t1 mb T.2.toNatClampNeg T.1 ko fo dd ++ (lamW g (a 0) fo dd ++ (hist.flatMap (stW g) ++ (kR ++ G))))) := by
        rw [sw_suf]
        exact pm_b _ _ _ _ _ _ _ _ hR
      refine ⟨_, [], _, 0, _, (hP.trans (cw_sufp (pX.append_left _))).trans (by rw [List.append_nil]), x_back1 l g a A _ _ _ _ _ od us tk bn h.1.1.2 h.1.2.1.2 h.1.2.2.1.2 d1 hd tl f hD.1.2.1 (hD.size h).2.1 (hD.hf h) im J.1 _ _ _ _ _ n1 n2 n3 _ x c y2, rfl, ?_⟩
      rintro rv w1 ⟨rfl, hRc⟩
      rw [List.append_nil]
      have hy := kx_back h y3
      exact ⟨by rw [show J.2.2.1 0 = _ from hy.1], XR.rec h hD hT hy (hRc.perm pX.symm)⟩
  · have := zero (fun q => absurd q c)
    rw [if_neg c] at this ⊢
    exact this
theorem ks_back (h : KS K) (x : Int32) {w : va_W} (hX : XR g a K T w) : KS (p_back K x).2 := by
  obtain ⟨A, od, us, tk, bn, d1, hd, tl, f, im, t1, mb, ko, fo, dd, hist, kp, G, hP, hD, hT⟩ := hX
  unfold p_back
  by_cases c : 0 ≤ x ∧ x ≤ 1
  · rw [if_pos c]
    obtain ⟨-, hk⟩ := in_c (n := 1) rfl (by decide) c
    obtain ⟨z1, z2⟩ := hD.2.2 x.toNatClampNeg (by omega)
    cases hkp : kp x.toNatClampNeg with
    | none => rw [if_pos (z1 hkp).1]; exact h
    | some J =>
      obtain ⟨y1, y2, y3⟩ := z2 J hkp
      rw [if_neg y1]
      exact (kx_back h y3).2.1
  · rw [if_neg c]; exact h
end IM
