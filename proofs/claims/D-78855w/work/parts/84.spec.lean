/-! text, undo, images over the class's world for K -/
set_option maxRecDepth 100000
theorem pmB {α : Type} (Ls : List (List α)) (ks : List Nat) (n : Nat) (hn : Ls.length = n) (h : ks.isPerm (List.range n) = true) : (ks.filterMap (fun i => Ls[i]?)).flatten.Perm Ls.flatten := (perm_ix ks hn h).flatten
theorem pm_tx {α : Type} (P L Z : List α) (e : α) : (e :: (P ++ (L ++ Z))).Perm ((e :: L) ++ (P ++ Z)) := (List.perm_append_comm_assoc P L Z).cons e
theorem pm_un {α : Type} (b0 b1 b2 b3 b4 b5 b6 b7 b8 b9 : List α) : (b0 ++ (b1 ++ (b2 ++ (b3 ++ (b4 ++ (b5 ++ (b6 ++ (b7 ++ (b8 ++ b9))))))))).Perm (b2 ++ (b7 ++ (b0 ++ (b1 ++ (b3 ++ (b4 ++ (b5 ++ (b6 ++ (b8 ++ b9))))))))) := by
  have := pmB [b0, b1, b2, b3, b4, b5, b6, b7, b8, b9] [2, 7, 0, 1, 3, 4, 5, 6, 8, 9] 10 rfl (by decide)
  have e1 : ([2, 7, 0, 1, 3, 4, 5, 6, 8, 9].filterMap (fun i => [b0, b1, b2, b3, b4, b5, b6, b7, b8, b9][i]?)) = [b2, b7, b0, b1, b3, b4, b5, b6, b8, b9] := rfl
  rw [e1] at this
  simpa only [List.flatten_cons, List.flatten_nil, List.append_nil] using this.symm
theorem pm_un2 {α : Type} (b0 b1 b2 b3 b4 b5 b6 b7 b8 b9 : List α) : (b2 ++ (b7 ++ (b0 ++ (b1 ++ (b3 ++ (b4 ++ (b5 ++ (b6 ++ (b8 ++ b9))))))))).Perm (b0 ++ (b7 ++ (b2 ++ (b3 ++ (b4 ++ (b5 ++ (b6 ++ (b8 ++ (b1 ++ b9))))))))) := by
  have := pmB [b2, b7, b0, b1, b3, b4, b5, b6, b8, b9] [2, 1, 0, 4, 5, 6, 7, 8, 3, 9] 10 rfl (by decide)
  have e1 : ([2, 1, 0, 4, 5, 6, 7, 8, 3, 9].filterMap (fun i => [b2, b7, b0, b1, b3, b4, b5, b6, b8, b9][i]?)) = [b0, b7, b2, b3, b4, b5, b6, b8, b1, b9] := rfl
  rw [e1] at this
  simpa only [List.flatten_cons, List.flatten_nil, List.append_nil] using this.symm
theorem pm_kp {α : Type} (b0 b1 b2 b3 b4 b5 b6 b7 b8 : List α) : (b0 ++ (b1 ++ (b2 ++ (b3 ++ (b4 ++ (b5 ++ (b6 ++ (b7 ++ b8)))))))).Perm (b3 ++ (b1 ++ (b0 ++ (b2 ++ (b4 ++ (b5 ++ (b6 ++ (b7 ++ b8)))))))) := by
  have := pmB [b0, b1, b2, b3, b4, b5, b6, b7, b8] [3, 1, 0, 2, 4, 5, 6, 7, 8] 9 rfl (by decide)
  have e1 : ([3, 1, 0, 2, 4, 5, 6, 7, 8].filterMap (fun i => [b0, b1, b2, b3, b4, b5, b6, b7, b8][i]?)) = [b3, b1, b0, b2, b4, b5, b6, b7, b8] := rfl
  rw [e1] at this
  simpa only [List.flatten_cons, List.flatten_nil, List.append_nil] using this.symm
theorem pm_kp2 {α : Type} (b0 b1 b2 b3 b4 b5 b6 b7 b8 s k g' : List α) (h : (s ++ (b7 ++ b8)).Perm (k ++ (g' ++ b8))) : (b3 ++ (s ++ (b1 ++ (b0 ++ (b2 ++ (b4 ++ (b5 ++ (b6 ++ (b7 ++ b8))))))))).Perm (b0 ++ (b1 ++ (b2 ++ (b3 ++ (b4 ++ (b5 ++ (b6 ++ (k ++ (g' ++ b8))))))))) := by
  have := pmB [b3, s, b1, b0, b2, b4, b5, b6, b7 ++ b8] [3, 2, 4, 0, 5, 6, 7, 1, 8] 9 rfl (by decide)
  have e1 : ([3, 2, 4, 0, 5, 6, 7, 1, 8].filterMap (fun i => [b3, s, b1, b0, b2, b4, b5, b6, b7 ++ b8][i]?)) = [b0, b1, b2, b3, b4, b5, b6, s, b7 ++ b8] := rfl
  rw [e1] at this
  simp only [List.flatten_cons, List.flatten_nil, List.append_nil] at this
  refine this.symm.trans ?_
  exact ((((((h.append_left b6).append_left b5).append_left b4).append_left b3).append_left b2).append_left b1).append_left b0
section SP
variable {l : Launch} {g : GT} {a A : Nat → Nat} {K : KT} {T : (Nat → Int32) × Int32} {nb nl nc : Nat} {r : Nat → Int32} {b : Nat → Int64} {od : Nat → Int32} {us : Int32} {tk : Nat → Int32} {bn : Int32} {im : Nat → Option Nat} {t1 : Nat} {mb : Int32} {ko fo dd : Nat → Nat} {hist : List ((Nat → Nat) × ST)} {kp : Nat → Option ((Nat → Nat) × ST)} {G D : va_W}
abbrev odtk (g : GT) (a : Nat → Nat) (od tk : Nat → Int32) : va_W := [(a 1, .inl (g.2 0, 8, .inl od)), (a 2, .inl (g.2 0, 8, .inl tk))]
theorem cw_can (suf : va_W) : cw g a A nb nl nc r b od us tk bn suf = elC a us bn (A 0) :: (odtk g a od tk ++ (sw g A nb nl nc r b [] ++ suf)) := by
  unfold cw
  rw [sw_suf]
  rfl
abbrev tx6 (g : GT) (a : Nat → Nat) (ko fo dd : Nat → Nat) : va_W := [(a 6, .inl (g.2 6, 4, .inr (.inr (.inr (.inr (rfs ko 0 4)))))), (ko 0, .inr (2, [.int 114, .int 5, .ref (fo 0), .ref (dd 0)])), (ko 1, .inr (2, [.int 109, .int 4, .ref (fo 1), .ref (dd 1)])), (ko 2, .inr (2, [.int 99, .int 2, .ref (fo 2), .ref (dd 2)])), (ko 3, .inr (2, [.int 100, .int 2, .ref (fo 3), .ref (dd 3)]))]
theorem can_tx (Y : va_W) (ln : Nat) (t : Nat → Int32) : cw g a A nb nl nc r b od us tk bn (D ++ (imC g a im :: (txW g a t1 mb ln t ko fo dd ++ Y))) = elC a us bn (A 0) :: ((odtk g a od tk ++ (sw g A nb nl nc r b [] ++ (D ++ [imC g a im]))) ++ (txW g a t1 mb ln t ko fo dd ++ Y)) := by
  rw [cw_can]
  simp only [List.append_assoc, List.singleton_append]
theorem can_sb (Y : va_W) (ln : Nat) (t : Nat → Int32) : cw g a A nb nl nc r b od us tk bn (D ++ (imC g a im :: (txW g a t1 mb ln t ko fo dd ++ Y))) = elC a us bn (A 0) :: ((odtk g a od tk ++ (sw g A nb nl nc r b [] ++ (D ++ [imC g a im]))) ++ (sbW g (a 5) t1 mb ln t ++ (tx6 g a ko fo dd ++ Y))) := by
  rw [can_tx]; rfl
theorem xk_type (h : KS K) (x : Int32) : XK l g a M_X0_type [.int x] K T (.int (p_type T x).1) K (p_type T x).2 := by
  intro w hX
  obtain ⟨A, od, us, tk, bn, d1, hd, tl, f, im, t1, mb, ko, fo, dd, hist, kp, G, hP, hD, hT⟩ := hX
  obtain ⟨ht1, ht2, ht3⟩ := id hT
  rw [can_sb] at hP
  refine ⟨_, _, _, 0, _, hP.trans (pm_tx _ _ _ _), x_type l g a us bn (A 0) t1 mb _ T.1 ht2 x, rfl, ?_⟩
  intro rv w1 hw
  have same : ∀ w1, w1 = (elC a us bn (A 0) :: sbW g (a 5) t1 mb T.2.toNatClampNeg T.1) → XR g a K T (w1 ++ ((odtk g a od tk ++ (sw g A (nbK K) (nlK K) (ncK K) K.1 K.2.1 [] ++ (dqW g (a 3) d1 hd tl f ++ [imC g a im]))) ++ (tx6 g a ko fo dd ++ (lamW g (a 0) fo dd ++ (hist.flatMap (stW g) ++ (kpW g kp ++ G)))))) := by
    rintro w1 rfl
    exact ⟨A, od, us, tk, bn, d1, hd, tl, f, im, t1, mb, ko, fo, dd, hist, kp, G, by rw [can_sb]; exact (pm_tx _ _ _ _).symm, hD, hT⟩
  unfold p_type
  by_cases c : 0 ≤ x ∧ x ≤ 255
  · rw [if_pos c] at hw ⊢
    rw [← ht1] at hw
    by_cases c2 : T.2 = 120
    · rw [if_pos c2] at hw ⊢
      exact ⟨hw.1, same _ hw.2⟩
    · rw [if_neg c2] at hw ⊢
      obtain ⟨e1, rfl⟩ := hw
      have e2 : T.2 + 1 = nI (T.2.toNatClampNeg + 1) := (congrArg (fun z => z + 1) ht1).trans (nI_add _ 1)
      have hlt : T.2.toNatClampNeg < 120 := by
        rcases Nat.lt_or_ge T.2.toNatClampNeg 120 with q | q
        · exact q
        · exact absurd (by rw [ht1, show T.2.toNatClampNeg = 120 by omega]; rfl) c2
      have e3 : (T.2 + 1).toNatClampNeg = T.2.toNatClampNeg + 1 := by rw [e2, nI_clamp (by omega)]
      refine ⟨by rw [e1, e2], A, od, us, tk, bn, d1, hd, tl, f, im, t1, mb, ko, fo, dd, hist, kp, G, ?_, hD, ?_⟩
      · dsimp only
        rw [can_sb, e3]; exact (pm_tx _ _ _ _).symm
      · refine ⟨?_, ?_, ?_⟩
        · dsimp only; rw [e3]; exact e2
        · dsimp only; omega
        · dsimp only
          rw [e3]
          intro j hj
          by_cases q : j = T.2.toNatClampNeg
          · subst q; rw [upd_eq]; exact c
          · rw [upd_ne q]; exact ht3 j (by omega)
  · rw [if_neg c] at hw ⊢
    exact ⟨hw.1, same _ hw.2⟩
theorem xk_clear (h : KS K) : XK l g a M_X0_clearText [] K T (.int T.2) K (T.1, 0) := by
  intro w hX
  obtain ⟨A, od, us, tk, bn, d1, hd, tl, f, im, t1, mb, ko, fo, dd, hist, kp, G, hP, hD, hT⟩ := hX
  obtain ⟨ht1, ht2, ht3⟩ := id hT
  rw [can_sb] at hP
  refine ⟨_, _, _, 0, _, hP.trans (pm_tx _ _ _ _), x_clearText l g a us bn (A 0) t1 mb _ T.1 ht2, rfl, ?_⟩
  rintro rv w1 ⟨e1, mb', rfl⟩
  refine ⟨by rw [e1, ← ht1], A, od, us, tk, bn, d1, hd, tl, f, im, t1, mb', ko, fo, dd, hist, kp, G, ?_, hD, ⟨rfl, (show (0 : Int32).toNatClampNeg ≤ 120 by decide), fun j hj => absurd hj (Nat.not_lt_zero j)⟩⟩
  rw [can_sb]; exact (pm_tx _ _ _ _).symm
theorem xk_fault (h : KS K) : XK l g a M_X0_textFault [] K T (.int (xtf T.1 T.2.toNatClampNeg)) K T := by
  intro w hX
  obtain ⟨A, od, us, tk, bn, d1, hd, tl, f, im, t1, mb, ko, fo, dd, hist, kp, G, hP, hD, hT⟩ := hX
  obtain ⟨ht1, ht2, ht3⟩ := id hT
  rw [can_tx] at hP
  refine ⟨_, _, _, 0, _, hP.trans (pm_tx _ _ _ _), x_textFault l g a us bn (A 0) t1 mb _ T.1 ko fo dd ht2 ht3, rfl, ?_⟩
  rintro rv w1 ⟨rfl, rfl⟩
  refine ⟨rfl, A, od, us, tk, bn, d1, hd, tl, f, im, t1, mb, ko, fo, dd, hist, kp, G, ?_, hD, hT⟩
  rw [can_tx]; exact (pm_tx _ _ _ _).symm
theorem Rec.perm {d1 hd tl : Nat} {f : Nat → Option Nat} {X X' : va_W} {o : XO} {w : va_W} (h : Rec g a A nb nl nc r b d1 hd tl f X o w) (hp : X.Perm X') : Rec g a A nb nl nc r b d1 hd tl f X' o w := by
  obtain ⟨B, od, us, tk, bn, hP⟩ := h
  refine ⟨B, od, us, tk, bn, hP.trans (cw_sufp ?_)⟩
  unfold recD
  cases o.1 with
  | true => exact (hp.append_left _).append_left _
  | false => exact hp.append_left _
theorem xk_orders (h : KS K) (P : Int32 × Int32 × (Nat → Int32) × Int32 × Int32) : XK l g a M_X0_orders [] K T (.int (p_orders T T.2.toNatClampNeg K P).1) (p_orders T T.2.toNatClampNeg K P).2 T := by
  intro w hX
  obtain ⟨A, od, us, tk, bn, d1, hd, tl, f, im, t1, mb, ko, fo, dd, hist, kp, G, hP, hD, hT⟩ := hX
  obtain ⟨ht1, ht2, ht3⟩ := id hT
  have e : cw g a A (nbK K) (nlK K) (ncK K) K.1 K.2.1 od us tk bn (dqW g (a 3) d1 hd tl f ++ XX g a im t1 mb T ko fo dd hist kp G) = cw g a A (nbK K) (nlK K) (ncK K) (Rw K) (Bw K) od us tk bn (dqW g (a 3) d1 hd tl f ++ XX g a im t1 mb T ko fo dd hist kp G) := cw_congx (Agx.lo h.1.1.2 h.1.2.1.2 h.1.2.2.1.2 (fun j hj => (svK_lo K hj).symm)) (fun j hj => (svK_loB K hj).symm)
  rw [e] at hP
  have pX : (XX g a im t1 mb T ko fo dd hist kp G).Perm (txW g a t1 mb T.2.toNatClampNeg T.1 ko fo dd ++ (imC g a im :: (lamW g (a 0) fo dd ++ (hist.flatMap (stW g) ++ (kpW g kp ++ G))))) := List.perm_middle.symm
  refine ⟨_, [], _, 0, _, (hP.trans (cw_sufp (pX.append_left _))).trans (by rw [List.append_nil]), x_orders l g a A _ _ _ _ _ od us tk bn h.1.1.2 h.1.2.1.2 h.1.2.2.1.2 d1 hd tl f _ t1 mb _ T.1 ko fo dd hD.1.2.1 (hD.size h).2.1 (hD.hf h) ht2 ht3 h.sp (fun x hx => List.mem_cons_of_mem _ (List.mem_append_left _ hx)), rfl, ?_⟩
  rintro rv w1 ⟨rfl, hR⟩
  rw [List.append_nil]
  have hy := kx_orders h (T := T) ht2 P
  exact ⟨by rw [hy.1], XR.rec h hD hT hy (hR.perm pX.symm)⟩
/-! undo -/
theorem KS.blk {K K' : KT} {d : ST} {j : Nat} (hs : StOk d K j) (e : ∀ i, i < 130 → K'.1 i = rB K j i) (eb : ∀ i, i < 6 → K'.2.1 i = bB6 K j i) {sv : Nat} (h5 : K'.2.2.1 = nI sv) (hsv : sv ≤ 5) : KS K' ∧ (nbK K', nlK K', ncK K') = d.1 ∧ svOf K' = sv ∧ Agx d.1.1 d.1.2.1 d.1.2.2 d.2.1 K'.1 ∧ (∀ i, i < 6 → d.2.2 i = K'.2.1 i) := by
  obtain ⟨⟨h2, h3, h4⟩, hS, hA, hb⟩ := hs
  obtain ⟨n1, n2, n3⟩ := hS.1
  obtain ⟨k, e1, e2, e3, e4⟩ := KOk.mk' (K' := K') ((e 2 (by decide)).trans h2) n1 ((e 3 (by decide)).trans h3) n2 ((e 4 (by decide)).trans h4) n3 h5 hsv
  refine ⟨⟨k, ?_⟩, by rw [e1, e2, e3], e4, hA.low n1 n2 n3 e, fun i hi => (hb i hi).trans (eb i hi).symm⟩
  rw [e1, e2, e3]; exact hS.low e eb
theorem cp0_lo {α : Type} (r : Nat → α) {w f i : Nat} (hi : i < w) : cpN r w f 0 w i = r (w * f + i) := by
  have := cp_at r (w := w) (f := f) (t := 0) (m := 0) hi
  rw [if_pos rfl, Nat.mul_zero, Nat.zero_add] at this
  exact this
theorem cp0_hi {α : Type} (r : Nat → α) {w f i : Nat} (hi : w ≤ i) : cpN r w f 0 w i = r i := by
  unfold cpN
  rw [if_neg]
  rw [Nat.mul_zero]
  omega
theorem xk_undo (h : KS K) : XK l g a M_X0_undo [] K T (.int (p_undo K).1) (p_undo K).2 T := by
  have hs5 := h.1.2.2.2.2
  have hs1 := h.1.2.2.2.1
  by_cases c : K.2.2.1 = 0
  · have ep : p_undo K = (-4, K) := if_pos c
    rw [ep]
    intro w hX
    obtain ⟨A, od, us, tk, bn, d1, hd, tl, f, im, t1, mb, ko, fo, dd, hist, kp, G, hP, hD, hT⟩ := hX
    have h0 : hist.length = 0 := by
      rw [hD.1.1]
      unfold svOf
      rw [c]; rfl
    have hd6 := hD.1.2.1
    have he : hd = tl := by rw [hD.1.2.2, h0]; omega
    have pp : (cw g a A (nbK K) (nlK K) (ncK K) K.1 K.2.1 od us tk bn (dqW g (a 3) d1 hd tl f ++ XX g a im t1 mb T ko fo dd hist kp G)).Perm (elC a us bn (A 0) :: (dqW g (a 3) d1 hd tl f ++ ((odtk g a od tk ++ sw g A (nbK K) (nlK K) (ncK K) K.1 K.2.1 []) ++ XX g a im t1 mb T ko fo dd hist kp G))) := by
      rw [cw_can, ← List.append_assoc]
      exact (List.perm_append_comm_assoc _ _ _).cons _
    refine ⟨_, [], _, 0, _, (hP.trans pp).trans (by rw [List.append_nil]), x_undo0 l g a (A 0) us bn d1 hd tl f hD.1.2.1 (hD.size h).2.1 _ he, rfl, ?_⟩
    rintro rv w1 ⟨rfl, rfl⟩
    rw [List.append_nil]
    exact ⟨rfl, A, od, us, tk, bn, d1, hd, tl, f, im, t1, mb, ko, fo, dd, hist, kp, G, pp.symm, hD, hT⟩
  · have ep : p_undo K = (K.2.2.1 - 1, (cpN K.1 130 (svOf K) 0 130, cpN K.2.1 6 (svOf K) 0 6, (K.2.2.1 - 1, K.2.2.2))) := if_neg c
    have hpos : 1 ≤ svOf K := by
      rcases Nat.eq_zero_or_pos (svOf K) with q | q
      · rw [hs1, q] at c; exact absurd rfl c
      · exact q
    have e1 : K.2.2.1 - 1 = nI (svOf K - 1) := (congrArg (fun z => z - 1) hs1).trans (pk_sub (b := 1) hpos)
    rw [ep]
    dsimp only
    · intro w hX
      obtain ⟨A, od, us, tk, bn, d1, hd, tl, f, im, t1, mb, ko, fo, dd, hist, kp, G, hP, hD, hT⟩ := hX
      obtain ⟨s1, s2, s3⟩ := hD.size h
      have hd6 := hD.1.2.1
      have hlen := hD.1.1
      have htl := hD.1.2.2
      obtain ⟨hs, x, rfl⟩ : ∃ hs x, hist = hs ++ [x] := by
        rcases List.eq_nil_or_concat hist with q | ⟨hs, x, q⟩
        · rw [q] at hlen; simp only [List.length_nil] at hlen; omega
        · exact ⟨hs, x, by rw [q, List.concat_eq_append]⟩
      have hl : hs.length + 1 = svOf K := by rw [← hlen, List.length_append, List.length_singleton]
      rw [List.length_append, List.length_singleton] at htl s1 s3
      obtain ⟨f1, f2⟩ := hD.2.1 hs.length x (by rw [List.getElem?_append_right (Nat.le_refl _), Nat.sub_self]; rfl)
      rw [hl] at f2
      obtain ⟨k1, k2, k3, k4, k5⟩ := KS.blk (K' := (cpN K.1 130 (svOf K) 0 130, cpN K.2.1 6 (svOf K) 0 6, (K.2.2.1 - 1, K.2.2.2))) f2 (fun i hi => cp0_lo K.1 hi) (fun i hi => cp0_lo K.2.1 hi) e1 (by omega)
      have q1 : nbK (cpN K.1 130 (svOf K) 0 130, cpN K.2.1 6 (svOf K) 0 6, (K.2.2.1 - 1, K.2.2.2)) = x.2.1.1 := congrArg (fun z => z.1) k2
      have q2 : nlK (cpN K.1 130 (svOf K) 0 130, cpN K.2.1 6 (svOf K) 0 6, (K.2.2.1 - 1, K.2.2.2)) = x.2.1.2.1 := congrArg (fun z => z.2.1) k2
      have q3 : ncK (cpN K.1 130 (svOf K) 0 130, cpN K.2.1 6 (svOf K) 0 6, (K.2.2.1 - 1, K.2.2.2)) = x.2.1.2.2 := congrArg (fun z => z.2.2) k2
      have eT : ∃ Z, stW g x = (x.1 0, .inr (1, stF x.1 x.2.2.1 x.2.2.2)) :: Z := ⟨_, rfl⟩
      obtain ⟨Z, eZ⟩ := eT
      have pp : (cw g a A (nbK K) (nlK K) (ncK K) K.1 K.2.1 od us tk bn (dqW g (a 3) d1 hd tl f ++ XX g a im t1 mb T ko fo dd (hs ++ [x]) kp G)).Perm (elC a us bn (A 0) :: (dqW g (a 3) d1 hd tl f ++ (stW g x ++ (odtk g a od tk ++ (sw g A (nbK K) (nlK K) (ncK K) K.1 K.2.1 [] ++ ([imC g a im] ++ (txW g a t1 mb T.2.toNatClampNeg T.1 ko fo dd ++ (lamW g (a 0) fo dd ++ (hs.flatMap (stW g) ++ (kpW g kp ++ G)))))))))) := by
        rw [cw_can]
        refine List.Perm.cons _ ?_
        have := pm_un (odtk g a od tk) (sw g A (nbK K) (nlK K) (ncK K) K.1 K.2.1 []) (dqW g (a 3) d1 hd tl f) [imC g a im] (txW g a t1 mb T.2.toNatClampNeg T.1 ko fo dd) (lamW g (a 0) fo dd) (hs.flatMap (stW g)) (stW g x) (kpW g kp) G
        have eX : XX g a im t1 mb T ko fo dd (hs ++ [x]) kp G = [imC g a im] ++ (txW g a t1 mb T.2.toNatClampNeg T.1 ko fo dd ++ (lamW g (a 0) fo dd ++ (hs.flatMap (stW g) ++ (stW g x ++ (kpW g kp ++ G))))) := by
          show imC g a im :: (txW g a t1 mb T.2.toNatClampNeg T.1 ko fo dd ++ (lamW g (a 0) fo dd ++ ((hs ++ [x]).flatMap (stW g) ++ (kpW g kp ++ G)))) = _
          rw [List.flatMap_append, List.flatMap_singleton, List.append_assoc]
          rfl
        rw [eX]
        exact this
      have hx : f ((tl + 5) % 6) = some (x.1 0) := by rw [← f1]; congr 1; omega
      have C := x_undo1 l g a (A 0) us bn d1 hd tl f hd6 s2 (x.1 0) (stF x.1 x.2.2.1 x.2.2.2) (Z ++ (odtk g a od tk ++ (sw g A (nbK K) (nlK K) (ncK K) K.1 K.2.1 [] ++ ([imC g a im] ++ (txW g a t1 mb T.2.toNatClampNeg T.1 ko fo dd ++ (lamW g (a 0) fo dd ++ (hs.flatMap (stW g) ++ (kpW g kp ++ G)))))))) (by omega) hx
      refine ⟨_, [], _, 0, _, (hP.trans pp).trans (by rw [List.append_nil, eZ]; exact List.Perm.refl _), C, rfl, ?_⟩
      rintro rv w1 ⟨rfl, rfl⟩
      rw [List.append_nil]
      refine ⟨by rw [e1]; congr 3; omega, x.1, od, us, tk, bn, d1, hd, (tl + 5) % 6, va_up f ((tl + 5) % 6) none, im, t1, mb, ko, fo, dd, hs, kp, sw g A (nbK K) (nlK K) (ncK K) K.1 K.2.1 [] ++ G, ?_, ?_, hT⟩
      · rw [q1, q2, q3, cw_can]
        refine List.Perm.cons _ ?_
        rw [← sw_congx k4 k5]
        have := pm_un2 (odtk g a od tk) (sw g A (nbK K) (nlK K) (ncK K) K.1 K.2.1 []) (dqW g (a 3) d1 hd ((tl + 5) % 6) (va_up f ((tl + 5) % 6) none)) [imC g a im] (txW g a t1 mb T.2.toNatClampNeg T.1 ko fo dd) (lamW g (a 0) fo dd) (hs.flatMap (stW g)) (stW g x) (kpW g kp) G
        rw [eZ] at this
        show ((dqW g (a 3) d1 hd ((tl + 5) % 6) (va_up f ((tl + 5) % 6) none)) ++ (((x.1 0, .inr (1, stF x.1 x.2.2.1 x.2.2.2)) :: Z) ++ (odtk g a od tk ++ (sw g A (nbK K) (nlK K) (ncK K) K.1 K.2.1 [] ++ ([imC g a im] ++ (txW g a t1 mb T.2.toNatClampNeg T.1 ko fo dd ++ (lamW g (a 0) fo dd ++ (hs.flatMap (stW g) ++ (kpW g kp ++ G))))))))).Perm _
        refine this.trans ?_
        rw [← eZ]
        exact List.Perm.refl _
      · refine ⟨⟨by rw [k3]; omega, hd6, by omega⟩, fun i y hy => ?_, fun k hk => ?_⟩
        · have hi : i < hs.length := by
            rcases Nat.lt_or_ge i hs.length with q | q
            · exact q
            · rw [List.getElem?_eq_none q] at hy; exact absurd hy (by simp)
          obtain ⟨y1, y2⟩ := hD.2.1 i y (by rw [List.getElem?_append_left hi]; exact hy)
          refine ⟨by rw [va_up_ne _ _ (by omega)]; exact y1, y2.low (fun j hj => ?_) (fun j hj => ?_)⟩
          · exact cp0_hi K.1 (by omega)
          · exact cp0_hi K.2.1 (by omega)
        · obtain ⟨z1, z2⟩ := hD.2.2 k hk
          refine ⟨z1, fun y hy => ?_⟩
          obtain ⟨y1, y2, y3⟩ := z2 y hy
          exact ⟨y1, y2, y3.low (fun j hj => cp0_hi K.1 (by omega)) (fun j hj => cp0_hi K.2.1 (by omega))⟩
theorem ks_undo (h : KS K) {w : va_W} (hX : XR g a K T w) : KS (p_undo K).2 := by
  have hs5 := h.1.2.2.2.2
  have hs1 := h.1.2.2.2.1
  by_cases c : K.2.2.1 = 0
  · have ep : p_undo K = (-4, K) := if_pos c
    rw [ep]; exact h
  · have ep : p_undo K = (K.2.2.1 - 1, (cpN K.1 130 (svOf K) 0 130, cpN K.2.1 6 (svOf K) 0 6, (K.2.2.1 - 1, K.2.2.2))) := if_neg c
    have hpos : 1 ≤ svOf K := by
      rcases Nat.eq_zero_or_pos (svOf K) with q | q
      · rw [hs1, q] at c; exact absurd rfl c
      · exact q
    have e1 : K.2.2.1 - 1 = nI (svOf K - 1) := (congrArg (fun z => z - 1) hs1).trans (pk_sub (b := 1) hpos)
    obtain ⟨A, od, us, tk, bn, d1, hd, tl, f, im, t1, mb, ko, fo, dd, hist, kp, G, hP, hD, hT⟩ := hX
    have hlen := hD.1.1
    obtain ⟨-, f2⟩ := hD.2.1 (svOf K - 1) (hist[svOf K - 1]'(by omega)) (List.getElem?_eq_getElem (by omega))
    rw [show svOf K - 1 + 1 = svOf K by omega] at f2
    rw [ep]
    exact (KS.blk (K' := (cpN K.1 130 (svOf K) 0 130, cpN K.2.1 6 (svOf K) 0 6, (K.2.2.1 - 1, K.2.2.2))) f2 (fun i hi => cp0_lo K.1 hi) (fun i hi => cp0_lo K.2.1 hi) e1 (by omega)).1
end SP
