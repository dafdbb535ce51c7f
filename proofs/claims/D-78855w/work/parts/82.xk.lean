/-! the class's methods over its world for K -/
set_option maxRecDepth 100000
def XC (l : Launch) (g : GT) (M : Md) (As : List Value) (a0 : Nat) (w : va_W) (post : Option Value → va_W → Prop) : Prop :=
  ∃ (wc wr : va_W) (P : Option Value → va_W → Prop) (q0 : Nat) (fs : List Value), w.Perm (wc ++ wr) ∧ Ct l g M (.ref a0 :: As) wc P ∧ wc[q0]? = some (a0, .inr (0, fs)) ∧ ∀ rv w1, P rv w1 → post rv (w1 ++ wr)
/-- the class's method M, on K and T, answers v and leaves K' and T' -/
abbrev XK (l : Launch) (g : GT) (a : Nat → Nat) (M : Md) (As : List Value) (K : KT) (T : (Nat → Int32) × Int32) (v : Value) (K' : KT) (T' : (Nat → Int32) × Int32) : Prop :=
  ∀ w, XR g a K T w → XC l g M As (a 0) w (fun rv w1 => rv = some v ∧ XR g a K' T' w1)
section XKS
variable {l : Launch} {g : GT} {a : Nat → Nat} {K : KT} {T : (Nat → Int32) × Int32} {M : Md} {As : List Value}
theorem XR.perm {w w' : va_W} (h : XR g a K T w) (hp : w'.Perm w) : XR g a K T w' := by
  obtain ⟨A, od, us, tk, bn, d1, hd, tl, f, im, t1, mb, ko, fo, dd, hist, kp, G, h1, h2⟩ := h
  exact ⟨A, od, us, tk, bn, d1, hd, tl, f, im, t1, mb, ko, fo, dd, hist, kp, G, hp.trans h1, h2⟩
theorem xk_rec (h : KS K) {y : Int32 × XO} {p : Int32 × KT} (hy : XRel K y p)
    (hC : ∀ (A : Nat → Nat) (od : Nat → Int32) (us : Int32) (tk : Nat → Int32) (bn : Int32) (d1 hd tl : Nat) (f : Nat → Option Nat) (X : va_W), hd < 6 → tl < 6 → ((tl + 6 - hd) % 6 = 5 → ∃ x, f hd = some x) → Ct l g M (.ref (a 0) :: As) (cw g a A (nbK K) (nlK K) (ncK K) (Rw K) (Bw K) od us tk bn (dqW g (a 3) d1 hd tl f ++ X)) (fun rv w => rv = some (.int y.1) ∧ Rec g a A (nbK K) (nlK K) (ncK K) (Rw K) (Bw K) d1 hd tl f X y.2 w)) : XK l g a M As K T (.int p.1) p.2 T := by
  intro w hX
  obtain ⟨A, od, us, tk, bn, d1, hd, tl, f, im, t1, mb, ko, fo, dd, hist, kp, G, hP, hD, hT⟩ := hX
  have e : cw g a A (nbK K) (nlK K) (ncK K) K.1 K.2.1 od us tk bn (dqW g (a 3) d1 hd tl f ++ XX g a im t1 mb T ko fo dd hist kp G) = cw g a A (nbK K) (nlK K) (ncK K) (Rw K) (Bw K) od us tk bn (dqW g (a 3) d1 hd tl f ++ XX g a im t1 mb T ko fo dd hist kp G) := cw_congx (Agx.lo h.1.1.2 h.1.2.1.2 h.1.2.2.1.2 (fun j hj => (svK_lo K hj).symm)) (fun j hj => (svK_loB K hj).symm)
  rw [e] at hP
  refine ⟨_, [], _, 0, _, hP.trans (by rw [List.append_nil]), hC A od us tk bn d1 hd tl f (XX g a im t1 mb T ko fo dd hist kp G) hD.1.2.1 (hD.size h).2.1 (hD.hf h), rfl, ?_⟩
  rintro rv w1 ⟨rfl, hR⟩
  rw [List.append_nil]
  exact ⟨by rw [hy.1], XR.rec h hD hT hy hR⟩
theorem xk_ask {v : Value}
    (hC : ∀ (A : Nat → Nat) (od : Nat → Int32) (us : Int32) (tk : Nat → Int32) (bn : Int32) (suf : va_W), Ct l g M (.ref (a 0) :: As) (cw g a A (nbK K) (nlK K) (ncK K) K.1 K.2.1 od us tk bn suf) (fun rv w => rv = some v ∧ ∃ od' us' tk' bn', w = cw g a A (nbK K) (nlK K) (ncK K) K.1 K.2.1 od' us' tk' bn' suf)) : XK l g a M As K T v K T := by
  intro w hX
  obtain ⟨A, od, us, tk, bn, d1, hd, tl, f, im, t1, mb, ko, fo, dd, hist, kp, G, hP, hD, hT⟩ := hX
  refine ⟨_, [], _, 0, _, hP.trans (by rw [List.append_nil]), hC A od us tk bn _, rfl, ?_⟩
  rintro rv w1 ⟨rfl, od', us', tk', bn', rfl⟩
  rw [List.append_nil]
  exact ⟨rfl, A, od', us', tk', bn', d1, hd, tl, f, im, t1, mb, ko, fo, dd, hist, kp, G, List.Perm.refl _, hD, hT⟩
theorem xk_askE {v : Value}
    (hC : ∀ (A : Nat → Nat) (od : Nat → Int32) (us : Int32) (tk : Nat → Int32) (bn : Int32) (suf : va_W), CtE l g M (.ref (a 0) :: As) (cw g a A (nbK K) (nlK K) (ncK K) K.1 K.2.1 od us tk bn suf) (some v) (cw g a A (nbK K) (nlK K) (ncK K) K.1 K.2.1 od us tk bn suf)) : XK l g a M As K T v K T := by
  intro w hX
  obtain ⟨A, od, us, tk, bn, d1, hd, tl, f, im, t1, mb, ko, fo, dd, hist, kp, G, hP, hD, hT⟩ := hX
  refine ⟨_, [], _, 0, _, hP.trans (by rw [List.append_nil]), hC A od us tk bn _, rfl, ?_⟩
  rintro rv w1 ⟨rfl, rfl⟩
  rw [List.append_nil]
  exact ⟨rfl, A, od, us, tk, bn, d1, hd, tl, f, im, t1, mb, ko, fo, dd, hist, kp, G, List.Perm.refl _, hD, hT⟩
theorem KS.sp (h : KS K) : ∀ i, i < nlK K → ¬ Rw K (82 + 4 * i + 0) = 0 := fun i hi q => by
  have := (h.R.2.2.1 i hi).1
  have q' : gv (Rw K) i 0 = 0 := q
  rw [q'] at this
  exact absurd this (by decide)
theorem KS.sp0 (h : KS K) : ∀ i, i < nlK K → ¬ K.1 (82 + 4 * i + 0) = 0 := fun i hi q => by
  have := (h.2.2.2.1 i hi).1
  have q' : gv K.1 i 0 = 0 := q
  rw [q'] at this
  exact absurd this (by decide)
theorem KS.cw (h : KS K) : ∀ c, c < ncK K → ∃ wd, Rw K (94 + 6 * c + 1) = nI wd ∧ 0 < wd ∧ wd ≤ 20000 := fun c hc => by
  obtain ⟨w0, w1, w2, -⟩ := con_w h.R hc
  exact ⟨_, w0, w1, w2⟩
theorem KS.cw0 (h : KS K) : ∀ c, c < ncK K → ∃ wd, K.1 (94 + 6 * c + 1) = nI wd ∧ 0 < wd ∧ wd ≤ 20000 := fun c hc => by
  obtain ⟨w0, w1, w2, -⟩ := con_w h.2 hc
  exact ⟨_, w0, w1, w2⟩
theorem z_take {r : Nat → Int32} {amt : Int32} : ∀ i, i < nbK K → 1 ≤ amt → amt ≤ r (10 + 9 * i + 3) → ¬ amt = r (10 + 9 * i + 3) → ¬ r (10 + 9 * i + 3) = 0 := fun i _ h1 h2 _ q => by
  rw [q] at h2
  exact absurd (Int32.le_trans h1 h2) (by decide)
theorem xk_addBin (h : KS K) (cap : Int32) : XK l g a M_X0_addBin [.int cap] K T (.int (p_addBin K cap).1) (p_addBin K cap).2 T := xk_rec h (kx_addBin h cap) fun A od us tk bn d1 hd tl f X hh ht hf => x_addBin l g a A _ _ _ _ _ od us tk bn _ h.1.1.2 h.1.2.1.2 h.1.2.2.1.2 d1 hd tl f X rfl hh ht hf cap
theorem xk_addLeg (h : KS K) (x1 : Int32) : XK l g a M_X0_addLeg [.int x1] K T (.int (p_addLeg K x1).1) (p_addLeg K x1).2 T := xk_rec h (kx_addLeg h x1) fun A od us tk bn d1 hd tl f X hh ht hf => x_addLeg l g a A _ _ _ _ _ od us tk bn _ h.1.1.2 h.1.2.1.2 h.1.2.2.1.2 d1 hd tl f X rfl hh ht hf x1
theorem xk_addCon (h : KS K) (x1 x2 x3 x4 : Int32) : XK l g a M_X0_addContract [.int x1, .int x2, .int x3, .int x4] K T (.int (p_addContract K x1 x2 x3 x4).1) (p_addContract K x1 x2 x3 x4).2 T := xk_rec h (kx_addCon h x1 x2 x3 x4) fun A od us tk bn d1 hd tl f X hh ht hf => x_addCon l g a A _ _ _ _ _ od us tk bn _ h.1.1.2 h.1.2.1.2 h.1.2.2.1.2 d1 hd tl f X rfl hh ht hf x1 x2 x3 x4
theorem xk_setBand (h : KS K) (x1 x2 x3 : Int32) : XK l g a M_X0_setBand [.int x1, .int x2, .int x3] K T (.int (p_setBand K x1 x2 x3).1) (p_setBand K x1 x2 x3).2 T := xk_rec h (kx_setBand h x1 x2 x3) fun A od us tk bn d1 hd tl f X hh ht hf => x_setBand l g a A _ _ _ _ _ od us tk bn _ h.1.1.2 h.1.2.1.2 h.1.2.2.1.2 d1 hd tl f X rfl hh ht hf x1 x2 x3
theorem xk_setSpeed (h : KS K) (x1 x2 : Int32) : XK l g a M_X0_setSpeed [.int x1, .int x2] K T (.int (p_setSpeed K x1 x2).1) (p_setSpeed K x1 x2).2 T := xk_rec h (kx_setSpeed h x1 x2) fun A od us tk bn d1 hd tl f X hh ht hf => x_setSpeed l g a A _ _ _ _ _ od us tk bn _ h.1.1.2 h.1.2.1.2 h.1.2.2.1.2 d1 hd tl f X rfl hh ht hf x1 x2
theorem xk_spout (h : KS K) (x1 x2 : Int32) : XK l g a M_X0_spout [.int x1, .int x2] K T (.int (p_spout K x1 x2).1) (p_spout K x1 x2).2 T := xk_rec h (kx_spout h x1 x2) fun A od us tk bn d1 hd tl f X hh ht hf => x_spout l g a A _ _ _ _ _ od us tk bn _ h.1.1.2 h.1.2.1.2 h.1.2.2.1.2 d1 hd tl f X rfl hh ht hf x1 x2
theorem xk_setPrice (h : KS K) (x1 x2 : Int32) : XK l g a M_X0_setPrice [.int x1, .int x2] K T (.int (p_setPrice K x1 x2).1) (p_setPrice K x1 x2).2 T := xk_rec h (kx_setPrice h x1 x2) fun A od us tk bn d1 hd tl f X hh ht hf => x_setPrice l g a A _ _ _ _ _ od us tk bn _ h.1.1.2 h.1.2.1.2 h.1.2.2.1.2 d1 hd tl f X rfl hh ht hf x1 x2
theorem xk_setDust (h : KS K) (x1 : Int32) : XK l g a M_X0_setDustLimit [.int x1] K T (.int (p_setDustLimit K x1).1) (p_setDustLimit K x1).2 T := xk_rec h (kx_setDust h x1) fun A od us tk bn d1 hd tl f X hh ht hf => x_setDust l g a A _ _ _ _ _ od us tk bn _ h.1.1.2 h.1.2.1.2 h.1.2.2.1.2 d1 hd tl f X rfl hh ht hf x1
theorem xk_receive (h : KS K) (x1 x2 x3 x4 x5 : Int32) : XK l g a M_X0_receive [.int x1, .int x2, .int x3, .int x4, .int x5] K T (.int (p_receive K x1 x2 x3 x4 x5).1) (p_receive K x1 x2 x3 x4 x5).2 T := xk_rec h (kx_receive h x1 x2 x3 x4 x5) fun A od us tk bn d1 hd tl f X hh ht hf => x_receive l g a A _ _ _ _ _ od us tk bn _ h.1.1.2 h.1.2.1.2 h.1.2.2.1.2 d1 hd tl f X rfl hh ht hf x1 x2 x3 x4 x5 h.sp
theorem xk_move (h : KS K) (x1 x2 x3 x4 : Int32) : XK l g a M_X0_move [.int x1, .int x2, .int x3, .int x4] K T (.int (p_move K x1 x2 x3 x4).1) (p_move K x1 x2 x3 x4).2 T := xk_rec h (kx_move h x1 x2 x3 x4) fun A od us tk bn d1 hd tl f X hh ht hf => x_move l g a A _ _ _ _ _ od us tk bn _ h.1.1.2 h.1.2.1.2 h.1.2.2.1.2 d1 hd tl f X rfl hh ht hf x1 x2 x3 x4 h.sp
theorem xk_clean (h : KS K) (x1 x2 : Int32) : XK l g a M_X0_clean [.int x1, .int x2] K T (.int (p_clean K x1 x2).1) (p_clean K x1 x2).2 T := xk_rec h (kx_clean h x1 x2) fun A od us tk bn d1 hd tl f X hh ht hf => x_clean l g a A _ _ _ _ _ od us tk bn _ h.1.1.2 h.1.2.1.2 h.1.2.2.1.2 d1 hd tl f X rfl hh ht hf x1 x2
theorem xk_pass (h : KS K) (x1 : Int32) : XK l g a M_X0_pass [.int x1] K T (.int (p_pass K x1).1) (p_pass K x1).2 T := xk_rec h (kx_pass h x1) fun A od us tk bn d1 hd tl f X hh ht hf => x_pass l g a A _ _ _ _ _ od us tk bn _ h.1.1.2 h.1.2.1.2 h.1.2.2.1.2 d1 hd tl f X rfl hh ht hf x1
theorem xk_dry (h : KS K) (x1 x2 : Int32) : XK l g a M_X0_dry [.int x1, .int x2] K T (.int (p_dry K x1 x2).1) (p_dry K x1 x2).2 T := xk_rec h (kx_dry h x1 x2) fun A od us tk bn d1 hd tl f X hh ht hf => x_pdry l g a A _ _ _ _ _ od us tk bn _ h.1.1.2 h.1.2.1.2 h.1.2.2.1.2 d1 hd tl f X rfl hh ht hf x1 x2
theorem xk_dump (h : KS K) (x1 : Int32) : XK l g a M_X0_dump [.int x1] K T (.int (p_dump K x1).1) (p_dump K x1).2 T := xk_rec h (kx_dump h x1) fun A od us tk bn d1 hd tl f X hh ht hf => x_dump l g a A _ _ _ _ _ od us tk bn _ h.1.1.2 h.1.2.1.2 h.1.2.2.1.2 d1 hd tl f X rfl hh ht hf x1
theorem xk_load (h : KS K) (x1 x2 : Int32) : XK l g a M_X0_load [.int x1, .int x2] K T (.int (p_load K x1 x2).1) (p_load K x1 x2).2 T := xk_rec h (kx_load h x1 x2) fun A od us tk bn d1 hd tl f X hh ht hf => x_load l g a A _ _ _ _ _ od us tk bn _ h.1.1.2 h.1.2.1.2 h.1.2.2.1.2 d1 hd tl f X rfl hh ht hf x1 x2 h.sp h.cw
theorem xk_count (h : KS K) (x1 : Int32) : XK l g a M_X0_count [.int x1] K T (.int (p_count K.1 (nbK K) (ncK K) x1)) K T := xk_askE fun A od us tk bn suf => (count_eq h.2 h.1.1.1 h.1.2.1.1 h.1.2.2.1.1 x1) ▸ x_cnt l g a A _ _ _ _ _ od us tk bn suf h.1.1.2 h.1.2.1.2 h.1.2.2.1.2 x1
theorem xk_bin (h : KS K) (x1 x2 : Int32) : XK l g a M_X0_bin [.int x1, .int x2] K T (.int (p_bin K.1 x1 x2)) K T := xk_askE fun A od us tk bn suf => (bin_eq h.1.1.1 x1 x2) ▸ x_bin l g a A _ _ _ _ _ od us tk bn suf h.1.1.2 h.1.2.1.2 h.1.2.2.1.2 x1 x2
theorem xk_leg (h : KS K) (x1 x2 : Int32) : XK l g a M_X0_leg [.int x1, .int x2] K T (.int (p_leg K.1 x1 x2)) K T := xk_askE fun A od us tk bn suf => (leg_eq h.1.2.1.1 x1 x2) ▸ x_leg l g a A _ _ _ _ _ od us tk bn suf h.1.1.2 h.1.2.1.2 h.1.2.2.1.2 x1 x2
theorem xk_price (h : KS K) (x1 : Int32) : XK l g a M_X0_price [.int x1] K T (.int (p_price K.1 x1)) K T := xk_askE fun A od us tk bn suf => x_price l g a A _ _ _ _ _ od us tk bn suf h.1.1.2 h.1.2.1.2 h.1.2.2.1.2 x1
theorem xk_book (h : KS K) (x1 : Int32) : XK l g a M_X0_book [.int x1] K T (.long (p_book K.2.1 x1)) K T := xk_askE fun A od us tk bn suf => (book_eq h.2 x1) ▸ x_book l g a A _ _ _ _ _ od us tk bn suf h.1.1.2 h.1.2.1.2 h.1.2.2.1.2 x1
theorem xk_audit (h : KS K) : XK l g a M_X0_audit [] K T (.int (p_audit K.1 K.2.1 (nbK K))) K T := xk_askE fun A od us tk bn suf => (audit_eq h.2) ▸ x_audit l g a A _ _ _ _ _ od us tk bn suf h.1.1.2 h.1.2.1.2 h.1.2.2.1.2
theorem xk_whyNot (h : KS K) (x1 x2 x3 x4 : Int32) : XK l g a M_X0_whyNot [.int x1, .int x2, .int x3, .int x4] K T (.int (p_whyNot K.1 x1 x2 x3 x4)) K T := xk_askE fun A od us tk bn suf => (wN_eq h.2 h.1.1.1 h.1.2.1.1 x1 x2 x3 x4) ▸ x_whyNot l g a A _ _ _ _ _ od us tk bn suf h.1.1.2 h.1.2.1.2 h.1.2.2.1.2 x1 x2 x3 x4 z_take
theorem xk_contract (h : KS K) (x1 x2 : Int32) : XK l g a M_X0_contract [.int x1, .int x2] K T (.int (p_contract K.1 x1 x2)) K T := xk_askE fun A od us tk bn suf => (con_eq h.2 h.1.2.2.1.1 x1 x2) ▸ x_contract l g a A _ _ _ _ _ od us tk bn suf h.1.1.2 h.1.2.1.2 h.1.2.2.1.2 x1 x2
theorem xk_spoilsIn (h : KS K) (x1 : Int32) : XK l g a M_X0_spoilsIn [.int x1] K T (.int (p_spoilsIn K.1 x1)) K T := xk_askE fun A od us tk bn suf => (spI_eq h.1.1.1 x1) ▸ x_spoilsIn l g a A _ _ _ _ _ od us tk bn suf h.1.1.2 h.1.2.1.2 h.1.2.2.1.2 x1
theorem xk_stepsTo (h : KS K) (x1 x2 : Int32) : XK l g a M_X0_stepsTo [.int x1, .int x2] K T (.int (p_stepsTo K.1 x1 x2)) K T := xk_askE fun A od us tk bn suf => (steps_eq h.2 h.1.1.1 x1 x2) ▸ x_stepsTo l g a A _ _ _ _ _ od us tk bn suf h.1.1.2 h.1.2.1.2 h.1.2.2.1.2 x1 x2
theorem xk_bestLeg (h : KS K) (x1 x2 x3 x4 : Int32) : XK l g a M_X0_bestLeg [.int x1, .int x2, .int x3, .int x4] K T (.int (p_bestLeg K.1 (nlK K) x1 x2 x3 x4)) K T := xk_askE fun A od us tk bn suf => (bL_eq h.2 h.1.1.1 x1 x2 x3 x4) ▸ x_bestLeg l g a A _ _ _ _ _ od us tk bn suf h.1.1.2 h.1.2.1.2 h.1.2.2.1.2 x1 x2 x3 x4 h.sp0
theorem xk_bestBin (h : KS K) (x1 x2 x3 x4 : Int32) : XK l g a M_X0_bestBin [.int x1, .int x2, .int x3, .int x4] K T (.int (p_bestBin K.1 (nbK K) x1 x2 x3 x4)) K T := xk_askE fun A od us tk bn suf => (bB_eq h.2 h.1.2.1.1 x1 x2 x3 x4) ▸ x_bestBin l g a A _ _ _ _ _ od us tk bn suf h.1.1.2 h.1.2.1.2 h.1.2.2.1.2 x1 x2 x3 x4
theorem xk_digest (h : KS K) : XK l g a M_X0_digest [] K T (.long (p_digest K.1 K.2.1 (nbK K) (nlK K) (ncK K))) K T := xk_askE fun A od us tk bn suf => (dig_eq h.2 h.1.1.1 h.1.2.1.1 h.1.2.2.1.1) ▸ x_digest l g a A _ _ _ _ _ od us tk bn suf h.1.1.2 h.1.2.1.2 h.1.2.2.1.2
theorem xk_blend (h : KS K) (x1 x2 : Int32) : XK l g a M_X0_blend [.int x1, .int x2] K T (.int (p_blend K.1 (nbK K) x1 x2)) K T := xk_ask fun A od us tk bn suf => (blend_eq h.2 h.1.2.1.1 h.1.2.2.1.1 x1 x2) ▸ x_pblend l g a A _ _ _ _ _ od us tk bn suf h.1.1.2 h.1.2.1.2 h.1.2.2.1.2 x1 x2 h.cw0
theorem xk_whyNoBlend (h : KS K) (x1 x2 : Int32) : XK l g a M_X0_whyNoBlend [.int x1, .int x2] K T (.int (p_whyNoBlend K.1 (nbK K) x1 x2)) K T := xk_ask fun A od us tk bn suf => (whyB_eq h.2 h.1.2.1.1 h.1.2.2.1.1 x1 x2) ▸ x_pwhyNoBlend l g a A _ _ _ _ _ od us tk bn suf h.1.1.2 h.1.2.1.2 h.1.2.2.1.2 x1 x2 h.cw0
theorem xk_fromBin (h : KS K) (x1 x2 x3 : Int32) : XK l g a M_X0_fromBin [.int x1, .int x2, .int x3] K T (.int (p_fromBin K.1 (nbK K) x1 x2 x3)) K T := xk_ask fun A od us tk bn suf => (from_eq h.2 h.1.1.1 h.1.2.1.1 h.1.2.2.1.1 x1 x2 x3) ▸ x_fromBin l g a A _ _ _ _ _ od us tk bn suf h.1.1.2 h.1.2.1.2 h.1.2.2.1.2 x1 x2 x3 h.cw0
theorem xk_blendMoisture (h : KS K) (x1 x2 : Int32) : XK l g a M_X0_blendMoisture [.int x1, .int x2] K T (.int (p_blendMoisture K.1 (nbK K) x1 x2)) K T := xk_ask fun A od us tk bn suf => (blMo_eq h.2 h.1.2.1.1 h.1.2.2.1.1 x1 x2) ▸ x_pblendMoisture l g a A _ _ _ _ _ od us tk bn suf h.1.1.2 h.1.2.1.2 h.1.2.2.1.2 x1 x2 h.cw0
end XKS
