/-! the recording methods: moves, load -/
set_option maxRecDepth 100000
def y_receive (r : Nat → Int32) (b : Nat → Int64) (nb nl nc : Nat) (le bi kind amt mo : Int32) : Int32 × XO :=
  if 0 ≤ (x_rF r nb nl le bi kind amt mo).1 then ((s_pay (xr3 r nb le.toNatClampNeg bi.toNatClampNeg (nI kind.toNatClampNeg) amt mo) kind.toNatClampNeg amt mo).toInt32, true, (nb, nl, nc), xr3 r nb le.toNatClampNeg bi.toNatClampNeg (nI kind.toNatClampNeg) amt mo, vp_updL (vp_updL b 0 (b 0 + amt.toInt64)) 3 (b 3 + (s_pay (xr3 r nb le.toNatClampNeg bi.toNatClampNeg (nI kind.toNatClampNeg) amt mo) kind.toNatClampNeg amt mo)))
  else ((x_rF r nb nl le bi kind amt mo).1, false, (nb, nl, nc), (x_rF r nb nl le bi kind amt mo).2, b)
def y_move (r : Nat → Int32) (b : Nat → Int64) (nb nl nc : Nat) (le bi bj amt : Int32) : Int32 × XO :=
  if 0 ≤ (x_mF r nb nl le bi bj amt).1 then (xmP r nb le.toNatClampNeg bi.toNatClampNeg amt, true, (nb, nl, nc), xm4 r nb le.toNatClampNeg bi.toNatClampNeg bj.toNatClampNeg amt, b)
  else ((x_mF r nb nl le bi bj amt).1, false, (nb, nl, nc), (x_mF r nb nl le bi bj amt).2, b)
def y_clean (r : Nat → Int32) (b : Nat → Int64) (nb nl nc : Nat) (le mi : Int32) : Int32 × XO :=
  if 0 ≤ x_cF r nl le mi then (x_cl r nb le.toNatClampNeg mi (82 + 4 * le.toNatClampNeg + 2), true, (nb, nl, nc), x_cl r nb le.toNatClampNeg mi, b) else (x_cF r nl le mi, false, (nb, nl, nc), r, b)
def y_pass (r : Nat → Int32) (b : Nat → Int64) (nb nl nc : Nat) (mi : Int32) : Int32 × XO :=
  if 1 ≤ mi ∧ mi ≤ 10000 then if q_time r mi.toInt64 then (s_passes mi r nb 0, true, (nb, nl, nc), s_passes mi r nb, b) else (-5, false, (nb, nl, nc), r, b) else (-3, false, (nb, nl, nc), r, b)
def y_dry (r : Nat → Int32) (b : Nat → Int64) (nb nl nc : Nat) (bi st : Int32) : Int32 × XO :=
  if 0 ≤ x_dF r nb bi st then (nI (x_dries bi.toNatClampNeg nb st.toNatClampNeg 0 (r, b)).1, true, (nb, nl, nc), (x_dries bi.toNatClampNeg nb st.toNatClampNeg 0 (r, b)).2.1, (x_dries bi.toNatClampNeg nb st.toNatClampNeg 0 (r, b)).2.2) else (x_dF r nb bi st, false, (nb, nl, nc), r, b)
def y_dump (r : Nat → Int32) (b : Nat → Int64) (nb nl nc : Nat) (bi : Int32) : Int32 × XO :=
  if q_n nb bi then
    if r (10 + 9 * bi.toNatClampNeg + 3) ≤ 0 then (r (10 + 9 * bi.toNatClampNeg + 3), true, (nb, nl, nc), r, vp_updL b 2 (b 2 + (r (10 + 9 * bi.toNatClampNeg + 3)).toInt64))
    else (r (10 + 9 * bi.toNatClampNeg + 3), true, (nb, nl, nc), pb r bi.toNatClampNeg (b_take (bv r bi.toNatClampNeg) (r (10 + 9 * bi.toNatClampNeg + 3))), vp_updL b 2 (b 2 + (r (10 + 9 * bi.toNatClampNeg + 3)).toInt64))
  else (-2, false, (nb, nl, nc), r, b)
def xldT (u : Nat → Int32) (sp : Int32) : Nat → Int64
  | 0 => 0
  | k + 1 => xldT u sp k + (p_min (u k) sp).toInt64
abbrev xla (u : Nat → Int32) (nb lg k : Nat) (r : Nat → Int32) : Nat → Int32 := s_passes (p_min (u k) (r (82 + 4 * lg + 0))) r nb
abbrev xlb (u : Nat → Int32) (nb lg k : Nat) (r : Nat → Int32) : Nat → Int32 := pb (xla u nb lg k r) k (b_take (bv (xla u nb lg k r) k) (u k))
abbrev xlc (u : Nat → Int32) (nb lg k : Nat) (r : Nat → Int32) : Nat → Int32 := pg4 (xlb u nb lg k r) lg (l_lift (gv (xlb u nb lg k r) lg) (u k) (b_share (bv (xla u nb lg k r) k) (u k) / u k))
def xld1 (u : Nat → Int32) (nb lg : Nat) (k : Nat) (r : Nat → Int32) : Nat → Int32 := if u k ≤ 0 then r else xlc u nb lg k r
abbrev xlU (r : Nat → Int32) (nb c l : Nat) : Nat → Int32 := xuN r nb c l (nI (x_bestN r nb c l))
abbrev xl3 (r : Nat → Int32) (nb c l : Nat) : Nat → Int32 := upd (iter (xld1 (xlU r nb c l) nb l) nb r) (94 + 6 * c + 5) (x_bM r nb c l)
def y_load (r : Nat → Int32) (b : Nat → Int64) (nb nl nc : Nat) (con leg : Int32) : Int32 × XO :=
  if q_n nc con ∧ q_n nl leg then
    if c_open (tv r con.toNatClampNeg) then
      if x_fb r nb con.toNatClampNeg leg.toNatClampNeg ≤ 0 then
        if ¬ 0 < lg_cmp ((r 0).toInt64 + xldT (xlU r nb con.toNatClampNeg leg.toNatClampNeg) (r (82 + 4 * leg.toNatClampNeg + 0)) nb) 1000000 then
          (xl3 r nb con.toNatClampNeg leg.toNatClampNeg (94 + 6 * con.toNatClampNeg + 1) * xl3 r nb con.toNatClampNeg leg.toNatClampNeg (94 + 6 * con.toNatClampNeg + 3), true, (nb, nl, nc), xl3 r nb con.toNatClampNeg leg.toNatClampNeg,
            vp_updL (vp_updL b 1 (b 1 + (xl3 r nb con.toNatClampNeg leg.toNatClampNeg (94 + 6 * con.toNatClampNeg + 1)).toInt64)) 4 (b 4 + (xl3 r nb con.toNatClampNeg leg.toNatClampNeg (94 + 6 * con.toNatClampNeg + 1)).toInt64 * (xl3 r nb con.toNatClampNeg leg.toNatClampNeg (94 + 6 * con.toNatClampNeg + 3)).toInt64))
        else (-5, false, (nb, nl, nc), r, b)
      else (-4, false, (nb, nl, nc), (upd r 5 (x_fb r nb con.toNatClampNeg leg.toNatClampNeg)), b)
    else (-4, false, (nb, nl, nc), r, b)
  else (-2, false, (nb, nl, nc), r, b)
theorem x_rF_ok {r : Nat → Int32} {nb nl : Nat} {le bi kind amt mo : Int32} (h : 0 ≤ (x_rF r nb nl le bi kind amt mo).1) : ((q_n nl le ∧ q_n nb bi) ∧ (0 ≤ kind ∧ kind ≤ 4 - 1)) ∧ (x_rF r nb nl le bi kind amt mo).2 = r := by
  unfold x_rF at h ⊢
  split
  · rename_i h1
    rw [if_pos h1] at h
    refine ⟨h1, ?_⟩
    split
    · rename_i h2
      rw [if_pos h2] at h
      split
      · rename_i h3
        rw [if_pos h3] at h
        split
        · split <;> rfl
        · rename_i h4; rw [if_neg h4] at h; exact absurd (show (0 : Int32) ≤ -4 from h) (by decide)
      · rfl
    · rfl
  · rename_i h1; rw [if_neg h1] at h; exact absurd (show (0 : Int32) ≤ -2 from h) (by decide)
theorem s_ref_7 {r : Nat → Int32} {le bi bj : Nat} {amt : Int32} (h : s_mref r le bi bj amt ≤ 0) : amt ≤ r (10 + 9 * bi + 3) := by
  unfold s_mref at h
  by_cases q : amt ≤ r (10 + 9 * bi + 3)
  · exact q
  · rw [if_neg q] at h; exact absurd h (by decide)
theorem x_mF_ok {r : Nat → Int32} {nb nl : Nat} {le bi bj amt : Int32} (h : 0 ≤ (x_mF r nb nl le bi bj amt).1) : 0 ≤ x_mA nb nl le bi bj amt ∧ amt ≤ r (10 + 9 * bi.toNatClampNeg + 3) ∧ (x_mF r nb nl le bi bj amt).2 = r := by
  unfold x_mF at h ⊢
  by_cases h1 : 0 ≤ x_mA nb nl le bi bj amt
  · rw [if_pos h1] at h ⊢
    by_cases h2 : s_mref r le.toNatClampNeg bi.toNatClampNeg bj.toNatClampNeg amt ≤ 0
    · rw [if_pos h2] at h ⊢
      refine ⟨h1, s_ref_7 h2, ?_⟩
      split <;> rfl
    · rw [if_neg h2] at h; exact absurd (show (0 : Int32) ≤ -4 from h) (by decide)
  · rw [if_neg h1] at h; exact absurd h h1
theorem x_cF_ok {r : Nat → Int32} {nl : Nat} {le mi : Int32} (h : 0 ≤ x_cF r nl le mi) : q_n nl le := by
  unfold x_cF at h
  by_cases h1 : q_n nl le
  · exact h1
  · rw [if_neg h1] at h; exact absurd h (by decide)
theorem x_dF_ok {r : Nat → Int32} {nb : Nat} {bi st : Int32} (h : 0 ≤ x_dF r nb bi st) : q_n nb bi ∧ (1 ≤ st ∧ st ≤ 200) := by
  unfold x_dF at h
  by_cases h1 : q_n nb bi
  · rw [if_pos h1] at h
    by_cases h2 : 1 ≤ st ∧ st ≤ 200
    · exact ⟨h1, h2⟩
    · rw [if_neg h2] at h; exact absurd h (by decide)
  · rw [if_neg h1] at h; exact absurd h (by decide)
theorem b_pass_ne (m : Int32) (v : Nat → Int32) {k : Nat} (h : k ≠ 6) : b_pass m v k = v k := by
  unfold b_pass
  repeat' split
  all_goals first | rfl | exact pk_un h
theorem s_pass_ne {m : Int32} {r : Nat → Int32} {n j : Nat} (h : ∀ i, i < n → j ≠ 10 + 9 * i + 6) : s_pass m r n j = r j := by
  induction n with
  | zero => rfl
  | succ n ih =>
    show pb (s_pass m r n) n (b_pass m (bv (s_pass m r n) n)) j = r j
    rw [← ih (fun i hi => h i (by omega))]
    unfold pb
    by_cases q : 10 + 9 * n ≤ j ∧ j < 10 + 9 * n + 9
    · rw [if_pos q, b_pass_ne _ _ (by have := h n (by omega); omega)]
      show s_pass m r n (10 + 9 * n + (j - (10 + 9 * n))) = _
      rw [show 10 + 9 * n + (j - (10 + 9 * n)) = j by omega]
    · rw [if_neg q]
theorem s_passes_ne {m : Int32} {r : Nat → Int32} {n j : Nat} (h : ∀ i, i < n → j ≠ 10 + 9 * i + 6) (h0 : j ≠ 0) : s_passes m r n j = r j := (pk_un h0).trans (s_pass_ne h)
theorem ge1_ne0 {x y : Int32} (h1 : 1 ≤ x) (h2 : x ≤ y) : ¬ y = 0 := fun e => by
  subst e
  exact absurd (Int32.le_trans h1 h2) (by decide)
theorem pos_ne0 {x : Int32} (h : ¬ x ≤ 0) : ¬ x = 0 := fun e => h (by rw [e]; exact Int32.le_refl _)
theorem b_take_hi (v : Nat → Int32) (u : Int32) {k : Nat} (h : k < 3) : b_take v u k = v k := by
  unfold b_take b_emp
  split
  · rw [pk_un (by omega), pk_un (by omega), pk_un (by omega), pk_un (by omega), pk_un (by omega), pk_un (by omega)]
  · rw [pk_un (by omega), pk_un (by omega), pk_un (by omega)]
theorem xld1_ne {u : Nat → Int32} {nb lg k : Nat} {r : Nat → Int32} {j : Nat} (hp : ∀ i, i < nb → j ≠ 10 + 9 * i + 6) (h0 : j ≠ 0) (hb : j < 10 + 9 * k ∨ 10 + 9 * k + 9 ≤ j) (hl : j < 82 + 4 * lg + 2 ∨ 82 + 4 * lg + 4 ≤ j) : xld1 u nb lg k r j = r j := by
  unfold xld1
  split
  · rfl
  · have h1 : xla u nb lg k r j = r j := s_passes_ne hp h0
    have h2 : xlb u nb lg k r j = r j := (pb_out j hb).trans h1
    rw [← h2]
    show pg4 (xlb u nb lg k r) lg _ j = _
    unfold pg4
    by_cases q : 82 + 4 * lg ≤ j ∧ j < 82 + 4 * lg + 4
    · rw [if_pos q]
      unfold l_lift
      rw [pk_un (by omega), pk_un (by omega)]
      show xlb u nb lg k r (82 + 4 * lg + (j - (82 + 4 * lg))) = _
      rw [show 82 + 4 * lg + (j - (82 + 4 * lg)) = j by omega]
    · rw [if_neg q]
theorem xld_ne {u : Nat → Int32} {nb lg n : Nat} {r : Nat → Int32} {j : Nat} (hp : ∀ i, i < nb → j ≠ 10 + 9 * i + 6) (h0 : j ≠ 0) (hb : ∀ k, k < n → j < 10 + 9 * k ∨ 10 + 9 * k + 9 ≤ j) (hl : j < 82 + 4 * lg + 2 ∨ 82 + 4 * lg + 4 ≤ j) : iter (xld1 u nb lg) n r j = r j := by
  induction n with
  | zero => rfl
  | succ n ih =>
    show xld1 u nb lg n (iter (xld1 u nb lg) n r) j = r j
    rw [xld1_ne hp h0 (hb n (by omega)) hl]
    exact ih (fun k hk => hb k (by omega))
theorem xmn_0 {r : Nat → Int32} {o : Nat} {lf : Int32} (h0 : r (10 + 9 * o + 3) = 0) (h : ¬ lf ≤ 0) : xmn r o lf = 0 := by
  unfold xmn; rw [h0, if_pos (Int32.not_le.mp h)]
theorem xta_0 (r : Nat → Int32) (og : Nat → Nat) (k : Nat) (h0 : r (10 + 9 * k + 3) = 0) (f : Nat) : ∀ (i : Nat) (x : (Nat → Int32) × Int32), x.1 k = 0 → (xta r og f i x).1 k = 0 := by
  induction f with
  | zero => intro i x h; exact h
  | succ f ih =>
    intro i x h
    unfold xta
    split
    · exact h
    · rename_i hl
      refine ih _ _ ?_
      show upd x.1 (og i) _ k = 0
      by_cases q : k = og i
      · subst q
        rw [show upd x.1 (og i) (x.1 (og i) + xmn r (og i) x.2) (og i) = x.1 (og i) + xmn r (og i) x.2 from if_pos rfl, xmn_0 h0 hl, h]; rfl
      · rw [pk_un q]; exact h
theorem xtb_0 (r : Nat → Int32) (og : Nat → Nat) (k : Nat) (h0 : r (10 + 9 * k + 3) = 0) (f : Nat) : ∀ (x : (Nat → Int32) × Int32), x.1 k = 0 → (xtb r og f x).1 k = 0 := by
  induction f with
  | zero => intro x h; exact h
  | succ f ih =>
    intro x h
    unfold xtb
    split
    · exact h
    · rename_i hl
      refine ih _ ?_
      show upd x.1 (og f) _ k = 0
      by_cases q : k = og f
      · subst q
        rw [show upd x.1 (og f) (x.1 (og f) + xmn r (og f) x.2) (og f) = x.1 (og f) + xmn r (og f) x.2 from if_pos rfl, xmn_0 h0 hl, h]; rfl
      · rw [pk_un q]; exact h
theorem xU_0 (r : Nat → Int32) (og : Nat → Nat) (n : Nat) (am num : Int32) {k : Nat} (h0 : r (10 + 9 * k + 3) = 0) : xU r og n am num k = 0 := xtb_0 r og k h0 n _ (xta_0 r og k h0 n 0 _ rfl)
theorem cw_setC1 {g : GT} {a A : Nat → Nat} {nb nl nc : Nat} {r : Nat → Int32} {b : Nat → Int64} {od : Nat → Int32} {us : Int32} {tk : Nat → Int32} {bn : Int32} {suf : va_W} {i k : Nat} (hi : i < nc) (hnb : nb ≤ 8) (hnl : nl ≤ 3) (hk : k < 6) (h4 : k ≠ 4) (x : Int32) : (cw g a A nb nl nc r b od us tk bn suf).set (nb + nl + i + 11) (cnC (A (30 + i)) (upd (tv r i) k x)) = cw g a A nb nl nc (upd r (94 + 6 * i + k) x) b od us tk bn suf :=
  cw_setC hi hnb hnl (fun j hj _ => tv_upd hk j hj) (fun j hj => pk_un (by omega))
def M_X0_receive : Md := (yX0_receive, cX0_receive, 7, (some .int), 7, 177, 26, 170)
theorem ok_X0_receive : MOKv M_X0_receive 5 := ⟨q810, q811, q89, q812, ⟨by decide +kernel, by decide +kernel, by decide +kernel⟩⟩
set_option maxHeartbeats 4000000 in
theorem x_receive (l : Launch) (g : GT) (a A : Nat → Nat) (nb nl nc : Nat) (r : Nat → Int32) (b : Nat → Int64) (od : Nat → Int32) (us : Int32) (tk : Nat → Int32) (bn : Int32) (suf : va_W) (hnb : nb ≤ 8) (hnl : nl ≤ 3) (hnc : nc ≤ 6) (d1 hd tl : Nat) (f : Nat → Option Nat) (X : va_W) (hs0 : suf = dqW g (a 3) d1 hd tl f ++ X) (hh : hd < 6) (ht : tl < 6) (hf : (tl + 6 - hd) % 6 = 5 → ∃ x, f hd = some x) (le bi kind amt mo : Int32) (hsp : ∀ i, i < nl → ¬ r (82 + 4 * i + 0) = 0) : Ct l g M_X0_receive [.ref (a 0), .int le, .int bi, .int kind, .int amt, .int mo] (cw g a A nb nl nc r b od us tk bn suf) (fun rv w => rv = some (.int (y_receive r b nb nl nc le bi kind amt mo).1) ∧ Rec g a A nb nl nc r b d1 hd tl f X (y_receive r b nb nl nc le bi kind amt mo).2 w) := by
  refine Ct.start2 (M := M_X0_receive) rfl [(0, .ref (a 0)), (1, .int le), (2, .int bi), (3, .int kind), (4, .int amt), (5, .int mo)] rfl (by decide +kernel) (Nat.le_of_ble_eq_true rfl) ?_
  intro p e s m args below meth c A9 C
  refine v_aload_n C dX0_receive_0 0 rfl ?_
  refine v_iload_n C dX0_receive_1 1 rfl ?_
  refine v_iload_n C dX0_receive_2 2 rfl ?_
  refine v_iload_n C dX0_receive_3 3 rfl ?_
  refine v_iload C dX0_receive_4 4 rfl ?_
  refine v_iload C dX0_receive_6 5 rfl ?_
  refine v_callVE (wr := []) (ws' := (cw g a A nb nl nc (x_rF r nb nl le bi kind amt mo).2 b od us tk bn suf)) C (x_receiveFault l g a A nb nl nc r b od us tk bn suf hnb hnl hnc le bi kind amt mo hsp) ok_X0_receiveFault rfl q265 rfl (Nat.le_of_ble_eq_true rfl) 0 rfl rfl rfl dX0_receive_8 (roomL rfl rfl) (by rw [List.append_nil]) (by rw [List.append_nil]) ?_
  refine v_st (st' := [_]) rfl ?_
  refine v_istore (lv' := [(6, _), (0, _), (1, _), (2, _), (3, _), (4, _), (5, _)]) C dX0_receive_11 (by decide) rfl ?_
  refine v_iload C dX0_receive_13 0 rfl ?_
  refine v_if_ge C 21 dX0_receive_15 (by decide) (fun c15_1 => ?_) (fun c15_1 => ?_)
  · skip
    obtain ⟨⟨⟨hq1, hq2⟩, hq3⟩, hrF⟩ := x_rF_ok c15_1
    obtain ⟨ele, hle⟩ := isB_c (n := nl) rfl (by omega) hq1
    obtain ⟨ebi, hbi⟩ := isB_c (n := nb) rfl (by omega) hq2
    obtain ⟨eki, hki⟩ := in_c (n := 3) rfl (by decide) hq3
    refine v_aload_n C dX0_receive_21 1 rfl ?_
    rw [hrF]
    subst hs0
    refine v_rec C hnb hnl hnc hh ht hf q517 (Nat.le_of_ble_eq_true rfl) dX0_receive_22 (roomL rfl rfl) ?_
    generalize hs1 : dqW g (a 3) d1 (dqH hd tl) ((tl + 1) % 6) (dqF hd tl f (A 0)) ++ (sw g A nb nl nc r b [] ++ X) = suf
    intro A
    refine v_aload_n C dX0_receive_25 1 rfl ?_
    refine v_iload_n C dX0_receive_26 2 rfl ?_
    refine v_eqi ele ?_
    refine v_iload_n C dX0_receive_27 3 rfl ?_
    refine v_eqi ebi ?_
    refine v_iload_n C dX0_receive_28 4 rfl ?_
    refine v_eqi eki ?_
    refine v_iload C dX0_receive_29 5 rfl ?_
    refine v_iload C dX0_receive_31 6 rfl ?_
    refine v_callVw C (x_doReceive l g a A nb nl nc r b od us tk bn suf hnb hnl hnc le.toNatClampNeg hle bi.toNatClampNeg hbi kind.toNatClampNeg (by omega) amt mo hsp) ok_X0_doReceive rfl q333 rfl (Nat.le_of_ble_eq_true rfl) 0 rfl rfl rfl dX0_receive_33 (roomL rfl rfl) ⟨rfl, rfl⟩ ?_
    exact v_iret C dX0_receive_36 (Nat.le_of_ble_eq_true rfl) (Nat.le_of_ble_eq_true rfl) (by unfold y_receive; rw [if_pos c15_1]; exact ⟨rfl, _, _, _, _, _, by subst hs1; exact List.Perm.refl _⟩)
  · skip
    refine v_iload C dX0_receive_18 0 rfl ?_
    exact v_iret C dX0_receive_20 (Nat.le_of_ble_eq_true rfl) (Nat.le_of_ble_eq_true rfl) (by unfold y_receive; rw [if_neg c15_1]; exact ⟨rfl, _, _, _, _, _, by subst hs0; exact List.Perm.refl _⟩)
def M_X0_move : Md := (yX0_move, cX0_move, 6, (some .int), 8, 202, 26, 170)
theorem ok_X0_move : MOKv M_X0_move 4 := ⟨q814, q815, q89, q816, ⟨by decide +kernel, by decide +kernel, by decide +kernel⟩⟩
set_option maxHeartbeats 4000000 in
theorem x_move (l : Launch) (g : GT) (a A : Nat → Nat) (nb nl nc : Nat) (r : Nat → Int32) (b : Nat → Int64) (od : Nat → Int32) (us : Int32) (tk : Nat → Int32) (bn : Int32) (suf : va_W) (hnb : nb ≤ 8) (hnl : nl ≤ 3) (hnc : nc ≤ 6) (d1 hd tl : Nat) (f : Nat → Option Nat) (X : va_W) (hs0 : suf = dqW g (a 3) d1 hd tl f ++ X) (hh : hd < 6) (ht : tl < 6) (hf : (tl + 6 - hd) % 6 = 5 → ∃ x, f hd = some x) (le bi bj amt : Int32) (hsp : ∀ i, i < nl → ¬ r (82 + 4 * i + 0) = 0) : Ct l g M_X0_move [.ref (a 0), .int le, .int bi, .int bj, .int amt] (cw g a A nb nl nc r b od us tk bn suf) (fun rv w => rv = some (.int (y_move r b nb nl nc le bi bj amt).1) ∧ Rec g a A nb nl nc r b d1 hd tl f X (y_move r b nb nl nc le bi bj amt).2 w) := by
  refine Ct.start2 (M := M_X0_move) rfl [(0, .ref (a 0)), (1, .int le), (2, .int bi), (3, .int bj), (4, .int amt)] rfl (by decide +kernel) (Nat.le_of_ble_eq_true rfl) ?_
  intro p e s m args below meth c A9 C
  refine v_aload_n C dX0_move_0 0 rfl ?_
  refine v_iload_n C dX0_move_1 1 rfl ?_
  refine v_iload_n C dX0_move_2 2 rfl ?_
  refine v_iload_n C dX0_move_3 3 rfl ?_
  refine v_iload C dX0_move_4 4 rfl ?_
  refine v_callVE (wr := []) (ws' := (cw g a A nb nl nc (x_mF r nb nl le bi bj amt).2 b od us tk bn suf)) C (x_moveFault l g a A nb nl nc r b od us tk bn suf hnb hnl hnc le bi bj amt hsp (fun i hi h1 h2 _ => ge1_ne0 h1 h2)) ok_X0_moveFault rfl q403 rfl (Nat.le_of_ble_eq_true rfl) 0 rfl rfl rfl dX0_move_6 (roomL rfl rfl) (by rw [List.append_nil]) (by rw [List.append_nil]) ?_
  refine v_st (st' := [_]) rfl ?_
  refine v_istore (lv' := [(5, _), (0, _), (1, _), (2, _), (3, _), (4, _)]) C dX0_move_9 (by decide) rfl ?_
  refine v_iload C dX0_move_11 0 rfl ?_
  refine v_if_ge C 19 dX0_move_13 (by decide) (fun c13_1 => ?_) (fun c13_1 => ?_)
  · skip
    obtain ⟨hmA, ham, hmF⟩ := x_mF_ok c13_1
    obtain ⟨⟨⟨hq1, hq2⟩, hq3⟩, hqn, hqa⟩ := x_mA0 hmA
    obtain ⟨ele, hle⟩ := isB_c (n := nl) rfl (by omega) hq1
    obtain ⟨ebi, hbi⟩ := isB_c (n := nb) rfl (by omega) hq2
    obtain ⟨ebj, hbj⟩ := isB_c (n := nb) rfl (by omega) hq3
    refine v_aload_n C dX0_move_19 1 rfl ?_
    rw [hmF]
    subst hs0
    refine v_rec C hnb hnl hnc hh ht hf q517 (Nat.le_of_ble_eq_true rfl) dX0_move_20 (roomL rfl rfl) ?_
    generalize hs1 : dqW g (a 3) d1 (dqH hd tl) ((tl + 1) % 6) (dqF hd tl f (A 0)) ++ (sw g A nb nl nc r b [] ++ X) = suf
    intro A
    refine v_aload_n C dX0_move_23 1 rfl ?_
    refine v_iload_n C dX0_move_24 2 rfl ?_
    refine v_eqi ele ?_
    refine v_iload_n C dX0_move_25 3 rfl ?_
    refine v_eqi ebi ?_
    refine v_iload_n C dX0_move_26 4 rfl ?_
    refine v_eqi ebj ?_
    refine v_iload C dX0_move_27 5 rfl ?_
    refine v_callVw C (x_doMove l g a A nb nl nc r b od us tk bn suf hnb hnl hnc le.toNatClampNeg hle bi.toNatClampNeg hbi bj.toNatClampNeg hbj amt (in1_ne hqa) hsp (fun _ => by rw [xr1, s_passes_ne (fun i hi => by omega) (by omega)]; exact ge1_ne0 hqa.1 ham)) ok_X0_doMove rfl q423 rfl (Nat.le_of_ble_eq_true rfl) 0 rfl rfl rfl dX0_move_29 (roomL rfl rfl) ⟨rfl, rfl⟩ ?_
    exact v_iret C dX0_move_32 (Nat.le_of_ble_eq_true rfl) (Nat.le_of_ble_eq_true rfl) (by unfold y_move; rw [if_pos c13_1]; exact ⟨rfl, _, _, _, _, _, by subst hs1; exact List.Perm.refl _⟩)
  · skip
    refine v_iload C dX0_move_16 0 rfl ?_
    exact v_iret C dX0_move_18 (Nat.le_of_ble_eq_true rfl) (Nat.le_of_ble_eq_true rfl) (by unfold y_move; rw [if_neg c13_1]; exact ⟨rfl, _, _, _, _, _, by subst hs0; exact List.Perm.refl _⟩)
def M_X0_clean : Md := (yX0_clean, cX0_clean, 4, (some .int), 7, 163, 25, 164)
theorem ok_X0_clean : MOKv M_X0_clean 2 := ⟨q822, q823, q89, q824, ⟨by decide +kernel, by decide +kernel, by decide +kernel⟩⟩
set_option maxHeartbeats 4000000 in
theorem x_clean (l : Launch) (g : GT) (a A : Nat → Nat) (nb nl nc : Nat) (r : Nat → Int32) (b : Nat → Int64) (od : Nat → Int32) (us : Int32) (tk : Nat → Int32) (bn : Int32) (suf : va_W) (hnb : nb ≤ 8) (hnl : nl ≤ 3) (hnc : nc ≤ 6) (d1 hd tl : Nat) (f : Nat → Option Nat) (X : va_W) (hs0 : suf = dqW g (a 3) d1 hd tl f ++ X) (hh : hd < 6) (ht : tl < 6) (hf : (tl + 6 - hd) % 6 = 5 → ∃ x, f hd = some x) (le mi : Int32) : Ct l g M_X0_clean [.ref (a 0), .int le, .int mi] (cw g a A nb nl nc r b od us tk bn suf) (fun rv w => rv = some (.int (y_clean r b nb nl nc le mi).1) ∧ Rec g a A nb nl nc r b d1 hd tl f X (y_clean r b nb nl nc le mi).2 w) := by
  refine Ct.start2 (M := M_X0_clean) rfl [(0, .ref (a 0)), (1, .int le), (2, .int mi)] rfl (by decide +kernel) (Nat.le_of_ble_eq_true rfl) ?_
  intro p e s m args below meth c A9 C
  refine v_aload_n C dX0_clean_0 0 rfl ?_
  refine v_iload_n C dX0_clean_1 1 rfl ?_
  refine v_iload_n C dX0_clean_2 2 rfl ?_
  refine v_callVw C (x_cleanFault l g a A nb nl nc r b od us tk bn suf hnb hnl hnc le mi) ok_X0_cleanFault rfl q440 rfl (Nat.le_of_ble_eq_true rfl) 0 rfl rfl rfl dX0_clean_3 (roomL rfl rfl) ⟨rfl, rfl⟩ ?_
  refine v_istore_n (lv' := [(3, _), (0, _), (1, _), (2, _)]) C dX0_clean_6 rfl (by decide) rfl ?_
  refine v_iload_n C dX0_clean_7 0 rfl ?_
  refine v_if_ge C 13 dX0_clean_8 (by decide) (fun c8_1 => ?_) (fun c8_1 => ?_)
  · skip
    obtain ⟨ele, hle⟩ := isB_c (n := nl) rfl (by omega) (x_cF_ok c8_1)
    refine v_aload_n C dX0_clean_13 1 rfl ?_
    subst hs0
    refine v_rec C hnb hnl hnc hh ht hf q517 (Nat.le_of_ble_eq_true rfl) dX0_clean_14 (roomL rfl rfl) ?_
    generalize hs1 : dqW g (a 3) d1 (dqH hd tl) ((tl + 1) % 6) (dqF hd tl f (A 0)) ++ (sw g A nb nl nc r b [] ++ X) = suf
    intro A
    refine v_aload_n C dX0_clean_17 1 rfl ?_
    refine v_iload_n C dX0_clean_18 2 rfl ?_
    refine v_eqi ele ?_
    refine v_iload_n C dX0_clean_19 3 rfl ?_
    refine v_callVw C (x_doClean l g a A nb nl nc r b od us tk bn suf hnb hnl hnc le.toNatClampNeg hle mi) ok_X0_doClean rfl q451 rfl (Nat.le_of_ble_eq_true rfl) 0 rfl rfl rfl dX0_clean_20 (roomL rfl rfl) ⟨rfl, rfl⟩ ?_
    exact v_iret C dX0_clean_23 (Nat.le_of_ble_eq_true rfl) (Nat.le_of_ble_eq_true rfl) (by unfold y_clean; rw [if_pos c8_1]; exact ⟨rfl, _, _, _, _, _, by subst hs1; exact List.Perm.refl _⟩)
  · skip
    refine v_iload_n C dX0_clean_11 0 rfl ?_
    exact v_iret C dX0_clean_12 (Nat.le_of_ble_eq_true rfl) (Nat.le_of_ble_eq_true rfl) (by unfold y_clean; rw [if_neg c8_1]; exact ⟨rfl, _, _, _, _, _, by subst hs0; exact List.Perm.refl _⟩)
def M_X0_pass : Md := (yX0_pass, cX0_pass, 2, (some .int), 7, 163, 25, 164)
theorem ok_X0_pass : MOKv M_X0_pass 1 := ⟨q826, q827, q89, q828, ⟨by decide +kernel, by decide +kernel, by decide +kernel⟩⟩
set_option maxHeartbeats 4000000 in
theorem x_pass (l : Launch) (g : GT) (a A : Nat → Nat) (nb nl nc : Nat) (r : Nat → Int32) (b : Nat → Int64) (od : Nat → Int32) (us : Int32) (tk : Nat → Int32) (bn : Int32) (suf : va_W) (hnb : nb ≤ 8) (hnl : nl ≤ 3) (hnc : nc ≤ 6) (d1 hd tl : Nat) (f : Nat → Option Nat) (X : va_W) (hs0 : suf = dqW g (a 3) d1 hd tl f ++ X) (hh : hd < 6) (ht : tl < 6) (hf : (tl + 6 - hd) % 6 = 5 → ∃ x, f hd = some x) (mi : Int32) : Ct l g M_X0_pass [.ref (a 0), .int mi] (cw g a A nb nl nc r b od us tk bn suf) (fun rv w => rv = some (.int (y_pass r b nb nl nc mi).1) ∧ Rec g a A nb nl nc r b d1 hd tl f X (y_pass r b nb nl nc mi).2 w) := by
  refine Ct.start2 (M := M_X0_pass) rfl [(0, .ref (a 0)), (1, .int mi)] rfl (by decide +kernel) (Nat.le_of_ble_eq_true rfl) ?_
  intro p e s m args below meth c A9 C
  refine v_iload_n C dX0_pass_0 1 rfl ?_
  refine v_iconst (v := 1) C dX0_pass_1 (by decide) ?_
  refine v_sipush (v := 10000) C dX0_pass_2 (by decide) ?_
  refine v_callSp C (x_isIn l g _ _ _) ok_X0_isIn rfl q276 rfl (Nat.le_of_ble_eq_true rfl) dX0_pass_5 (roomL rfl rfl) ⟨rfl, rfl⟩ ?_
  refine v_if_neB C 14 dX0_pass_8 (by decide) (fun c8_1 => ?_) (fun c8_1 => ?_)
  · skip
    refine v_aload_n C dX0_pass_14 0 rfl ?_
    refine v_iload_n C dX0_pass_15 1 rfl ?_
    refine v_i2l C dX0_pass_16 ?_
    refine v_callVw C (x_hasTime l g a A nb nl nc r b od us tk bn suf hnb hnl hnc _) ok_X0_hasTime rfl q325 rfl (Nat.le_of_ble_eq_true rfl) 0 rfl rfl rfl dX0_pass_17 (roomL rfl rfl) ⟨rfl, rfl⟩ ?_
    refine v_if_neB C 26 dX0_pass_20 (by decide) (fun c20_2 => ?_) (fun c20_2 => ?_)
    · skip
      refine v_aload_n C dX0_pass_26 0 rfl ?_
      subst hs0
      refine v_rec C hnb hnl hnc hh ht hf q517 (Nat.le_of_ble_eq_true rfl) dX0_pass_27 (roomL rfl rfl) ?_
      generalize hs1 : dqW g (a 3) d1 (dqH hd tl) ((tl + 1) % 6) (dqF hd tl f (A 0)) ++ (sw g A nb nl nc r b [] ++ X) = suf
      intro A
      refine v_aload_n C dX0_pass_30 0 rfl ?_
      refine v_get C in_X0 rfl 0 rfl 0 (by decide) q483 (fun _ h => h) rfl dX0_pass_31 ?_
      refine v_iload_n C dX0_pass_34 1 rfl ?_
      refine v_zTVv (ws' := (cw g a A nb nl nc (s_passes mi r nb) b od us tk bn suf)) C (x_spass l g A nb nl nc r b suf hnb hnl hnc _) [_, _, _] rfl ok_X1_pass rfl q337 rfl (Nat.le_of_ble_eq_true rfl) 0 rfl rfl rfl dX0_pass_35 (roomL rfl rfl) ⟨rfl, rfl⟩ rfl ?_
      refine v_aload_n C dX0_pass_38 0 rfl ?_
      refine v_get C in_X0 rfl 0 rfl 0 (by decide) q483 (fun _ h => h) rfl dX0_pass_39 ?_
      refine v_getN C in_X1 rfl 3 rfl 4 (by decide) q163 (fun _ h => h) rfl dX0_pass_42 ?_
      exact v_iret C dX0_pass_45 (Nat.le_of_ble_eq_true rfl) (Nat.le_of_ble_eq_true rfl) (by unfold y_pass; rw [if_pos c8_1, if_pos c20_2]; exact ⟨rfl, _, _, _, _, _, by subst hs1; exact List.Perm.refl _⟩)
    · skip
      refine v_bipush (v := -5) C dX0_pass_23 (by decide) ?_
      exact v_iret C dX0_pass_25 (Nat.le_of_ble_eq_true rfl) (Nat.le_of_ble_eq_true rfl) (by unfold y_pass; rw [if_pos c8_1, if_neg c20_2]; exact ⟨rfl, _, _, _, _, _, by subst hs0; exact List.Perm.refl _⟩)
  · skip
    refine v_bipush (v := -3) C dX0_pass_11 (by decide) ?_
    exact v_iret C dX0_pass_13 (Nat.le_of_ble_eq_true rfl) (Nat.le_of_ble_eq_true rfl) (by unfold y_pass; rw [if_neg c8_1]; exact ⟨rfl, _, _, _, _, _, by subst hs0; exact List.Perm.refl _⟩)
def M_X0_dry : Md := (yX0_dry, cX0_dry, 4, (some .int), 7, 163, 25, 164)
theorem ok_X0_dry : MOKv M_X0_dry 2 := ⟨q830, q831, q89, q832, ⟨by decide +kernel, by decide +kernel, by decide +kernel⟩⟩
set_option maxHeartbeats 4000000 in
theorem x_pdry (l : Launch) (g : GT) (a A : Nat → Nat) (nb nl nc : Nat) (r : Nat → Int32) (b : Nat → Int64) (od : Nat → Int32) (us : Int32) (tk : Nat → Int32) (bn : Int32) (suf : va_W) (hnb : nb ≤ 8) (hnl : nl ≤ 3) (hnc : nc ≤ 6) (d1 hd tl : Nat) (f : Nat → Option Nat) (X : va_W) (hs0 : suf = dqW g (a 3) d1 hd tl f ++ X) (hh : hd < 6) (ht : tl < 6) (hf : (tl + 6 - hd) % 6 = 5 → ∃ x, f hd = some x) (bi st : Int32) : Ct l g M_X0_dry [.ref (a 0), .int bi, .int st] (cw g a A nb nl nc r b od us tk bn suf) (fun rv w => rv = some (.int (y_dry r b nb nl nc bi st).1) ∧ Rec g a A nb nl nc r b d1 hd tl f X (y_dry r b nb nl nc bi st).2 w) := by
  refine Ct.start2 (M := M_X0_dry) rfl [(0, .ref (a 0)), (1, .int bi), (2, .int st)] rfl (by decide +kernel) (Nat.le_of_ble_eq_true rfl) ?_
  intro p e s m args below meth c A9 C
  refine v_aload_n C dX0_dry_0 0 rfl ?_
  refine v_iload_n C dX0_dry_1 1 rfl ?_
  refine v_iload_n C dX0_dry_2 2 rfl ?_
  refine v_callVw C (x_dryFault l g a A nb nl nc r b od us tk bn suf hnb hnl hnc bi st) ok_X0_dryFault rfl q459 rfl (Nat.le_of_ble_eq_true rfl) 0 rfl rfl rfl dX0_dry_3 (roomL rfl rfl) ⟨rfl, rfl⟩ ?_
  refine v_istore_n (lv' := [(3, _), (0, _), (1, _), (2, _)]) C dX0_dry_6 rfl (by decide) rfl ?_
  refine v_iload_n C dX0_dry_7 0 rfl ?_
  refine v_if_ge C 13 dX0_dry_8 (by decide) (fun c8_1 => ?_) (fun c8_1 => ?_)
  · skip
    obtain ⟨hq1, hq2⟩ := x_dF_ok c8_1
    obtain ⟨ebi, hbi⟩ := isB_c (n := nb) rfl (by omega) hq1
    obtain ⟨est, hst⟩ := in_c (n := 200) rfl (by decide) ⟨Int32.le_trans (by decide) hq2.1, hq2.2⟩
    refine v_aload_n C dX0_dry_13 1 rfl ?_
    subst hs0
    refine v_rec C hnb hnl hnc hh ht hf q517 (Nat.le_of_ble_eq_true rfl) dX0_dry_14 (roomL rfl rfl) ?_
    generalize hs1 : dqW g (a 3) d1 (dqH hd tl) ((tl + 1) % 6) (dqF hd tl f (A 0)) ++ (sw g A nb nl nc r b [] ++ X) = suf
    intro A
    refine v_aload_n C dX0_dry_17 1 rfl ?_
    refine v_iload_n C dX0_dry_18 2 rfl ?_
    refine v_eqi ebi ?_
    refine v_iload_n C dX0_dry_19 3 rfl ?_
    refine v_eqi est ?_
    refine v_callVw C (x_doDry l g a A nb nl nc r b od us tk bn suf hnb hnl hnc bi.toNatClampNeg hbi st.toNatClampNeg hst) ok_X0_doDry rfl q470 rfl (Nat.le_of_ble_eq_true rfl) 0 rfl rfl rfl dX0_dry_20 (roomL rfl rfl) ⟨rfl, rfl⟩ ?_
    exact v_iret C dX0_dry_23 (Nat.le_of_ble_eq_true rfl) (Nat.le_of_ble_eq_true rfl) (by unfold y_dry; rw [if_pos c8_1]; exact ⟨rfl, _, _, _, _, _, by subst hs1; exact List.Perm.refl _⟩)
  · skip
    refine v_iload_n C dX0_dry_11 0 rfl ?_
    exact v_iret C dX0_dry_12 (Nat.le_of_ble_eq_true rfl) (Nat.le_of_ble_eq_true rfl) (by unfold y_dry; rw [if_neg c8_1]; exact ⟨rfl, _, _, _, _, _, by subst hs0; exact List.Perm.refl _⟩)
def M_X0_dump : Md := (yX0_dump, cX0_dump, 4, (some .int), 7, 163, 25, 164)
theorem ok_X0_dump : MOKv M_X0_dump 1 := ⟨q834, q835, q89, q836, ⟨by decide +kernel, by decide +kernel, by decide +kernel⟩⟩
set_option maxHeartbeats 4000000 in
theorem x_dump (l : Launch) (g : GT) (a A : Nat → Nat) (nb nl nc : Nat) (r : Nat → Int32) (b : Nat → Int64) (od : Nat → Int32) (us : Int32) (tk : Nat → Int32) (bn : Int32) (suf : va_W) (hnb : nb ≤ 8) (hnl : nl ≤ 3) (hnc : nc ≤ 6) (d1 hd tl : Nat) (f : Nat → Option Nat) (X : va_W) (hs0 : suf = dqW g (a 3) d1 hd tl f ++ X) (hh : hd < 6) (ht : tl < 6) (hf : (tl + 6 - hd) % 6 = 5 → ∃ x, f hd = some x) (bi : Int32) : Ct l g M_X0_dump [.ref (a 0), .int bi] (cw g a A nb nl nc r b od us tk bn suf) (fun rv w => rv = some (.int (y_dump r b nb nl nc bi).1) ∧ Rec g a A nb nl nc r b d1 hd tl f X (y_dump r b nb nl nc bi).2 w) := by
  refine Ct.start2 (M := M_X0_dump) rfl [(0, .ref (a 0)), (1, .int bi)] rfl (by decide +kernel) (Nat.le_of_ble_eq_true rfl) ?_
  intro p e s m args below meth c A9 C
  refine v_aload_n C dX0_dump_0 0 rfl ?_
  refine v_iload_n C dX0_dump_1 1 rfl ?_
  refine v_callVw C (x_isBin l g a A nb nl nc r b od us tk bn suf hnb hnl hnc _) ok_X0_isBin rfl q463 rfl (Nat.le_of_ble_eq_true rfl) 0 rfl rfl rfl dX0_dump_2 (roomL rfl rfl) ⟨rfl, rfl⟩ ?_
  refine v_if_neB C 11 dX0_dump_5 (by decide) (fun c5_1 => ?_) (fun c5_1 => ?_)
  · skip
    obtain ⟨ebi, hbi⟩ := isB_c (n := nb) rfl (by omega) c5_1
    refine v_aload_n C dX0_dump_11 0 rfl ?_
    subst hs0
    refine v_rec C hnb hnl hnc hh ht hf q517 (Nat.le_of_ble_eq_true rfl) dX0_dump_12 (roomL rfl rfl) ?_
    generalize hs1 : dqW g (a 3) d1 (dqH hd tl) ((tl + 1) % 6) (dqF hd tl f (A 0)) ++ (sw g A nb nl nc r b [] ++ X) = suf
    intro A
    refine v_aload_n C dX0_dump_15 0 rfl ?_
    refine v_get C in_X0 rfl 0 rfl 0 (by decide) q483 (fun _ h => h) rfl dX0_dump_16 ?_
    refine v_getN C in_X1 rfl 3 rfl 0 (by decide) q155 (fun _ h => h) rfl dX0_dump_19 ?_
    refine v_iload_n C dX0_dump_22 1 rfl ?_
    refine v_eqi ebi ?_
    refine v_zMV (ws' := (cw g a A nb nl nc r b od us tk bn suf)) C (j_get l g (A 1) (A 2) 8 (nI nb) nb (rfs A 10 nb) bi.toNatClampNeg (A (10 + bi.toNatClampNeg)) hbi hnb (by decide) (rfs_at A 10 hbi)) [_, _, _, _] rfl ok_J2_get rfl q359 rfl (Nat.le_of_ble_eq_true rfl) 0 rfl rfl rfl dX0_dump_23 (roomL rfl rfl) ⟨rfl, rfl⟩ rfl ?_
    refine v_castS (r := (RX4, TX4, 9)) C q360 (bi.toNatClampNeg + 11) (cw_bin hbi) rfl dX0_dump_26 ?_
    refine v_getN C in_X4 rfl (bi.toNatClampNeg + 11) (cw_bin hbi) 3 (by decide) q605 (fun _ h => h) rfl dX0_dump_29 ?_
    refine v_eqi (show _ = r (10 + 9 * bi.toNatClampNeg + 3) from rfl) ?_
    refine v_istore_n (lv' := [(2, _), (0, _), (1, _)]) C dX0_dump_32 rfl (by decide) rfl ?_
    refine v_iload_n C dX0_dump_33 0 rfl ?_
    refine v_if_le C 56 dX0_dump_34 (by decide) (fun c34_2 => ?_) (fun c34_2 => ?_)
    · skip
      refine v_aload_n C dX0_dump_56 1 rfl ?_
      refine v_get C in_X0 rfl 0 rfl 0 (by decide) q483 (fun _ h => h) rfl dX0_dump_57 ?_
      refine v_dup C dX0_dump_60 rfl ?_
      refine v_getN C in_X1 rfl 3 rfl 9 (by decide) q173 (fun _ h => h) rfl dX0_dump_61 ?_
      refine v_iload_n C dX0_dump_64 0 rfl ?_
      refine v_iadd C dX0_dump_65 ?_
      refine v_putN (ws' := (cw g a A nb nl nc r (vp_updL b 2 (b 2 + (r (10 + 9 * bi.toNatClampNeg + 3)).toInt64)) od us tk bn suf)) C in_X1 tyX1 tyX1_ok nmX1 rfl 3 rfl 9 (by decide) q173 (fun _ h => h) rfl rfl rfl (Nat.le_of_ble_eq_true rfl) dX0_dump_66 (cw_b2 (b 2 + (r (10 + 9 * bi.toNatClampNeg + 3)).toInt64) (toI32_add _ _)) ?_
      refine v_iload_n C dX0_dump_69 0 rfl ?_
      exact v_iret C dX0_dump_70 (Nat.le_of_ble_eq_true rfl) (Nat.le_of_ble_eq_true rfl) (by unfold y_dump; rw [if_pos c5_1, if_pos c34_2]; exact ⟨rfl, _, _, _, _, _, by subst hs1; exact List.Perm.refl _⟩)
    · skip
      refine v_aload_n C dX0_dump_37 1 rfl ?_
      refine v_get C in_X0 rfl 0 rfl 0 (by decide) q483 (fun _ h => h) rfl dX0_dump_38 ?_
      refine v_getN C in_X1 rfl 3 rfl 0 (by decide) q155 (fun _ h => h) rfl dX0_dump_41 ?_
      refine v_iload_n C dX0_dump_44 2 rfl ?_
      refine v_eqi ebi ?_
      refine v_zMV (ws' := (cw g a A nb nl nc r b od us tk bn suf)) C (j_get l g (A 1) (A 2) 8 (nI nb) nb (rfs A 10 nb) bi.toNatClampNeg (A (10 + bi.toNatClampNeg)) hbi hnb (by decide) (rfs_at A 10 hbi)) [_, _, _, _] rfl ok_J2_get rfl q359 rfl (Nat.le_of_ble_eq_true rfl) 0 rfl rfl rfl dX0_dump_45 (roomL rfl rfl) ⟨rfl, rfl⟩ rfl ?_
      refine v_castS (r := (RX4, TX4, 9)) C q360 (bi.toNatClampNeg + 11) (cw_bin hbi) rfl dX0_dump_48 ?_
      refine v_iload_n C dX0_dump_51 0 rfl ?_
      refine v_zFV (ws' := (cw g a A nb nl nc (pb r bi.toNatClampNeg (b_take (bv r bi.toNatClampNeg) (r (10 + 9 * bi.toNatClampNeg + 3)))) b od us tk bn suf)) C (x_take l g _ (bv r bi.toNatClampNeg) _ (fun h => absurd rfl h)) ok_X4_take rfl q427 rfl (Nat.le_of_ble_eq_true rfl) (bi.toNatClampNeg + 11) (cw_bin hbi) rfl rfl dX0_dump_52 (roomL rfl rfl) ⟨rfl, rfl⟩ (cw_setB hbi hnb pb_in pb_out) ?_
      refine v_istore_n (lv' := [(3, _), (2, _), (0, _), (1, _)]) C dX0_dump_55 rfl (by decide) rfl ?_
      refine v_aload_n C dX0_dump_56 2 rfl ?_
      refine v_get C in_X0 rfl 0 rfl 0 (by decide) q483 (fun _ h => h) rfl dX0_dump_57 ?_
      refine v_dup C dX0_dump_60 rfl ?_
      refine v_getN C in_X1 rfl 3 rfl 9 (by decide) q173 (fun _ h => h) rfl dX0_dump_61 ?_
      refine v_iload_n C dX0_dump_64 1 rfl ?_
      refine v_iadd C dX0_dump_65 ?_
      refine v_putN (ws' := (cw g a A nb nl nc (pb r bi.toNatClampNeg (b_take (bv r bi.toNatClampNeg) (r (10 + 9 * bi.toNatClampNeg + 3)))) (vp_updL b 2 (b 2 + (r (10 + 9 * bi.toNatClampNeg + 3)).toInt64)) od us tk bn suf)) C in_X1 tyX1 tyX1_ok nmX1 rfl 3 rfl 9 (by decide) q173 (fun _ h => h) rfl rfl rfl (Nat.le_of_ble_eq_true rfl) dX0_dump_66 (cw_b2 (b 2 + (r (10 + 9 * bi.toNatClampNeg + 3)).toInt64) (toI32_add _ _)) ?_
      refine v_iload_n C dX0_dump_69 1 rfl ?_
      exact v_iret C dX0_dump_70 (Nat.le_of_ble_eq_true rfl) (Nat.le_of_ble_eq_true rfl) (by unfold y_dump; rw [if_pos c5_1, if_neg c34_2]; exact ⟨rfl, _, _, _, _, _, by subst hs1; exact List.Perm.refl _⟩)
  · skip
    refine v_bipush (v := -2) C dX0_dump_8 (by decide) ?_
    exact v_iret C dX0_dump_10 (Nat.le_of_ble_eq_true rfl) (Nat.le_of_ble_eq_true rfl) (by unfold y_dump; rw [if_neg c5_1]; exact ⟨rfl, _, _, _, _, _, by subst hs0; exact List.Perm.refl _⟩)
def M_X0_load : Md := (yX0_load, cX0_load, 9, (some .int), 7, 183, 25, 164)
theorem ok_X0_load : MOKv M_X0_load 2 := ⟨q906, q907, q89, q908, ⟨by decide +kernel, by decide +kernel, by decide +kernel⟩⟩
set_option maxHeartbeats 4000000 in
theorem x_load (l : Launch) (g : GT) (a A : Nat → Nat) (nb nl nc : Nat) (r : Nat → Int32) (b : Nat → Int64) (od : Nat → Int32) (us : Int32) (tk : Nat → Int32) (bn : Int32) (suf : va_W) (hnb : nb ≤ 8) (hnl : nl ≤ 3) (hnc : nc ≤ 6) (d1 hd tl : Nat) (f : Nat → Option Nat) (X : va_W) (hs0 : suf = dqW g (a 3) d1 hd tl f ++ X) (hh : hd < 6) (ht : tl < 6) (hf : (tl + 6 - hd) % 6 = 5 → ∃ x, f hd = some x) (con leg : Int32) (hsp : ∀ i, i < nl → ¬ r (82 + 4 * i + 0) = 0) (hcw : ∀ c, c < nc → ∃ wd, r (94 + 6 * c + 1) = nI wd ∧ 0 < wd ∧ wd ≤ 20000) : Ct l g M_X0_load [.ref (a 0), .int con, .int leg] (cw g a A nb nl nc r b od us tk bn suf) (fun rv w => rv = some (.int (y_load r b nb nl nc con leg).1) ∧ Rec g a A nb nl nc r b d1 hd tl f X (y_load r b nb nl nc con leg).2 w) := by
  refine Ct.start2 (M := M_X0_load) rfl [(0, .ref (a 0)), (1, .int con), (2, .int leg)] rfl (by decide +kernel) (Nat.le_of_ble_eq_true rfl) ?_
  intro p e s m args below meth c A9 C
  refine v_aload_n C dX0_load_0 0 rfl ?_
  refine v_iload_n C dX0_load_1 1 rfl ?_
  refine v_iload_n C dX0_load_2 2 rfl ?_
  refine v_callVw C (x_areThere l g a A nb nl nc r b od us tk bn suf hnb hnl hnc _ _) ok_X0_areThere rfl q859 rfl (Nat.le_of_ble_eq_true rfl) 0 rfl rfl rfl dX0_load_3 (roomL rfl rfl) ⟨rfl, rfl⟩ ?_
  refine v_if_neB C 12 dX0_load_6 (by decide) (fun c6_1 => ?_) (fun c6_1 => ?_)
  · skip
    obtain ⟨hq1, hq2⟩ := id c6_1
    obtain ⟨econ, hcon⟩ := isB_c (n := nc) rfl (by omega) hq1
    obtain ⟨eleg, hleg⟩ := isB_c (n := nl) rfl (by omega) hq2
    obtain ⟨wd, hw, hw1, hw2⟩ := hcw _ hcon
    have hw0 : ¬ r (94 + 6 * con.toNatClampNeg + 1) = 0 := by rw [hw]; exact nI_ne0 hw1 (by omega)
    refine v_aload_n C dX0_load_12 0 rfl ?_
    refine v_get C in_X0 rfl 0 rfl 0 (by decide) q483 (fun _ h => h) rfl dX0_load_13 ?_
    refine v_getN C in_X1 rfl 3 rfl 2 (by decide) q159 (fun _ h => h) rfl dX0_load_16 ?_
    refine v_iload_n C dX0_load_19 1 rfl ?_
    refine v_eqi econ ?_
    refine v_zMV (ws' := (cw g a A nb nl nc r b od us tk bn suf)) C (j_get l g (A 5) (A 6) 6 (nI nc) nc (rfs A 30 nc) con.toNatClampNeg (A (30 + con.toNatClampNeg)) hcon hnc (by decide) (rfs_at A 30 hcon)) [_, _, _, _, _, _, _, _] rfl ok_J2_get rfl q359 rfl (Nat.le_of_ble_eq_true rfl) 0 rfl rfl rfl dX0_load_20 (roomL rfl rfl) ⟨rfl, rfl⟩ rfl ?_
    refine v_castS (r := (RX6, TX6, 5)) C q761 (nb + nl + con.toNatClampNeg + 11) (cw_con hcon) rfl dX0_load_23 ?_
    refine v_zFV (ws' := (cw g a A nb nl nc r b od us tk bn suf)) C (x_isOpen l g _ (tv r con.toNatClampNeg)) ok_X6_isOpen rfl q762 rfl (Nat.le_of_ble_eq_true rfl) (nb + nl + con.toNatClampNeg + 11) (cw_con hcon) rfl rfl dX0_load_26 (roomL rfl rfl) ⟨rfl, rfl⟩ (set_same (cw_con hcon)) ?_
    refine v_if_neB C 35 dX0_load_29 (by decide) (fun c29_2 => ?_) (fun c29_2 => ?_)
    · skip
      refine v_aload_n C dX0_load_35 0 rfl ?_
      refine v_iload_n C dX0_load_36 1 rfl ?_
      refine v_eqi econ ?_
      refine v_iload_n C dX0_load_37 2 rfl ?_
      refine v_eqi eleg ?_
      refine v_callVp C (x_findBlend l g a A nb nl nc r b od us tk bn suf hnb hnl hnc con.toNatClampNeg hcon leg.toNatClampNeg hleg hcw) ok_X0_findBlend rfl q863 rfl (Nat.le_of_ble_eq_true rfl) 0 rfl rfl rfl dX0_load_38 (roomL rfl rfl) ⟨rfl, rfl⟩ ?_
      rintro _ ⟨f0, us1, u, bn1, rfl, hpr⟩
      obtain ⟨hcn, hog⟩ := xog_ok r (r (94 + 6 * con.toNatClampNeg + 0)) leg.toNatClampNeg nb
      refine v_istore_n (lv' := [(3, _), (0, _), (1, _), (2, _)]) C dX0_load_41 rfl (by decide) rfl ?_
      refine v_iload_n C dX0_load_42 0 rfl ?_
      refine v_if_le C 52 dX0_load_43 (by decide) (fun c43_3 => ?_) (fun c43_3 => ?_)
      · skip
        obtain ⟨e1, hfo, e2⟩ := hpr (x_fb0 c43_3)
        subst e1; subst e2
        refine v_aload_n C dX0_load_52 1 rfl ?_
        refine v_aload_n C dX0_load_53 1 rfl ?_
        refine v_get C in_X0 rfl 0 rfl 0 (by decide) q483 (fun _ h => h) rfl dX0_load_54 ?_
        refine v_getN C in_X1 rfl 3 rfl 2 (by decide) q159 (fun _ h => h) rfl dX0_load_57 ?_
        refine v_iload_n C dX0_load_60 2 rfl ?_
        refine v_eqi econ ?_
        refine v_zMV (ws' := (cw g a A nb nl nc r b f0 (nI (xgC r nb con.toNatClampNeg leg.toNatClampNeg)) u (nI (x_bestN r nb con.toNatClampNeg leg.toNatClampNeg)) suf)) C (j_get l g (A 5) (A 6) 6 (nI nc) nc (rfs A 30 nc) con.toNatClampNeg (A (30 + con.toNatClampNeg)) hcon hnc (by decide) (rfs_at A 30 hcon)) [_, _, _, _, _, _, _, _] rfl ok_J2_get rfl q359 rfl (Nat.le_of_ble_eq_true rfl) 0 rfl rfl rfl dX0_load_61 (roomL rfl rfl) ⟨rfl, rfl⟩ rfl ?_
        refine v_castS (r := (RX6, TX6, 5)) C q761 (nb + nl + con.toNatClampNeg + 11) (cw_con hcon) rfl dX0_load_64 ?_
        refine v_getN C in_X6 rfl (nb + nl + con.toNatClampNeg + 11) (cw_con hcon) 1 (by decide) q704 (fun _ h => h) rfl dX0_load_67 ?_
        refine v_eqi (show _ = r (94 + 6 * con.toNatClampNeg + 1) from rfl) ?_
        refine v_callVw C (x_foundMo l g a A nb nl nc r b f0 (nI (xgC r nb con.toNatClampNeg leg.toNatClampNeg)) u (nI (x_bestN r nb con.toNatClampNeg leg.toNatClampNeg)) suf hnb hnl hnc (xgC r nb con.toNatClampNeg leg.toNatClampNeg) (xgN r nb con.toNatClampNeg leg.toNatClampNeg) (Nat.le_trans hcn hnb) rfl hfo hog _ hw0) ok_X0_foundMoisture rfl q901 rfl (Nat.le_of_ble_eq_true rfl) 0 rfl rfl rfl dX0_load_70 (roomL rfl rfl) ⟨rfl, rfl⟩ ?_
        refine v_istore (lv' := [(4, _), (3, _), (0, _), (1, _), (2, _)]) C dX0_load_73 (by decide) rfl ?_
        refine v_lconst (v := 0) C dX0_load_75 (by decide) ?_
        refine v_lstore (lv' := [(5, _), (4, _), (3, _), (0, _), (1, _), (2, _)]) C dX0_load_76 (by decide) rfl ?_
        refine v_iconst (v := 0) C dX0_load_78 (by decide) ?_
        refine v_istore (lv' := [(7, _), (5, _), (4, _), (3, _), (0, _), (1, _), (2, _)]) C dX0_load_79 (by decide) rfl ?_
        refine v_loop 0 nb (fun k => [(7, .int (nI k)), (5, .long (xldT (xlU r nb con.toNatClampNeg leg.toNatClampNeg) (r (82 + 4 * leg.toNatClampNeg + 0)) k)), (4, .int (x_bM r nb con.toNatClampNeg leg.toNatClampNeg)), (3, .int (x_fb r nb con.toNatClampNeg leg.toNatClampNeg)), (0, .ref (a 0)), (1, .int con), (2, .int leg)]) (fun k => cw g a A nb nl nc r b f0 (nI (xgC r nb con.toNatClampNeg leg.toNatClampNeg)) (xlU r nb con.toNatClampNeg leg.toNatClampNeg) (nI (x_bestN r nb con.toNatClampNeg leg.toNatClampNeg)) suf) rfl rfl (by omega) ?_ ?_
        · skip
          refine v_iload C dX0_load_81 0 rfl ?_
          refine v_aload_n C dX0_load_83 4 rfl ?_
          refine v_get C in_X0 rfl 0 rfl 0 (by decide) q483 (fun _ h => h) rfl dX0_load_84 ?_
          refine v_getN C in_X1 rfl 3 rfl 0 (by decide) q155 (fun _ h => h) rfl dX0_load_87 ?_
          refine v_zMV (ws' := (cw g a A nb nl nc r b f0 (nI (xgC r nb con.toNatClampNeg leg.toNatClampNeg)) (xlU r nb con.toNatClampNeg leg.toNatClampNeg) (nI (x_bestN r nb con.toNatClampNeg leg.toNatClampNeg)) suf)) C (j_size l g (A 1) (A 2) 8 (nI nb) nb (rfs A 10 nb)) [_, _, _, _] rfl ok_J2_size rfl q269 rfl (Nat.le_of_ble_eq_true rfl) 0 rfl rfl rfl dX0_load_90 (roomL rfl rfl) ⟨rfl, rfl⟩ rfl ?_
          refine v_icmp_ge C 123 dX0_load_93 (by decide) (fun c93_4 => ?_) (fun c93_4 => ?_)
          · skip
            refine v_aload_n C dX0_load_123 4 rfl ?_
            refine v_lload C dX0_load_124 1 rfl ?_
            refine v_callVw C (x_hasTime l g a A nb nl nc r b f0 (nI (xgC r nb con.toNatClampNeg leg.toNatClampNeg)) (xlU r nb con.toNatClampNeg leg.toNatClampNeg) (nI (x_bestN r nb con.toNatClampNeg leg.toNatClampNeg)) suf hnb hnl hnc _) ok_X0_hasTime rfl q325 rfl (Nat.le_of_ble_eq_true rfl) 0 rfl rfl rfl dX0_load_126 (roomL rfl rfl) ⟨rfl, rfl⟩ ?_
            refine v_if_neB C 135 dX0_load_129 (by decide) (fun c129_5 => ?_) (fun c129_5 => ?_)
            · skip
              refine v_aload_n C dX0_load_135 4 rfl ?_
              subst hs0
              refine v_rec C hnb hnl hnc hh ht hf q517 (Nat.le_of_ble_eq_true rfl) dX0_load_136 (roomL rfl rfl) ?_
              generalize hs1 : dqW g (a 3) d1 (dqH hd tl) ((tl + 1) % 6) (dqF hd tl f (A 0)) ++ (sw g A nb nl nc r b [] ++ X) = suf
              intro A
              refine v_iconst (v := 0) C dX0_load_139 (by decide) ?_
              refine v_istore (lv' := [(7, _), (5, _), (4, _), (3, _), (0, _), (1, _), (2, _)]) C dX0_load_140 (by decide) rfl ?_
              refine v_loop 0 nb (fun k => [(7, .int (nI k)), (5, .long (xldT (xlU r nb con.toNatClampNeg leg.toNatClampNeg) (r (82 + 4 * leg.toNatClampNeg + 0)) nb)), (4, .int (x_bM r nb con.toNatClampNeg leg.toNatClampNeg)), (3, .int (x_fb r nb con.toNatClampNeg leg.toNatClampNeg)), (0, .ref (a 0)), (1, .int con), (2, .int leg)]) (fun k => cw g a A nb nl nc (iter (xld1 (xlU r nb con.toNatClampNeg leg.toNatClampNeg) nb leg.toNatClampNeg) k r) b f0 (nI (xgC r nb con.toNatClampNeg leg.toNatClampNeg)) (xlU r nb con.toNatClampNeg leg.toNatClampNeg) (nI (x_bestN r nb con.toNatClampNeg leg.toNatClampNeg)) suf) rfl rfl (by omega) ?_ ?_
              · skip
                refine v_iload C dX0_load_142 0 rfl ?_
                refine v_aload_n C dX0_load_144 4 rfl ?_
                refine v_get C in_X0 rfl 0 rfl 0 (by decide) q483 (fun _ h => h) rfl dX0_load_145 ?_
                refine v_getN C in_X1 rfl 3 rfl 0 (by decide) q155 (fun _ h => h) rfl dX0_load_148 ?_
                refine v_zMV (ws' := (cw g a A nb nl nc (iter (xld1 (xlU r nb con.toNatClampNeg leg.toNatClampNeg) nb leg.toNatClampNeg) nb r) b f0 (nI (xgC r nb con.toNatClampNeg leg.toNatClampNeg)) (xlU r nb con.toNatClampNeg leg.toNatClampNeg) (nI (x_bestN r nb con.toNatClampNeg leg.toNatClampNeg)) suf)) C (j_size l g (A 1) (A 2) 8 (nI nb) nb (rfs A 10 nb)) [_, _, _, _] rfl ok_J2_size rfl q269 rfl (Nat.le_of_ble_eq_true rfl) 0 rfl rfl rfl dX0_load_151 (roomL rfl rfl) ⟨rfl, rfl⟩ rfl ?_
                refine v_icmp_ge C 256 dX0_load_154 (by decide) (fun c154_6 => ?_) (fun c154_6 => ?_)
                · skip
                  refine v_aload_n C dX0_load_256 4 rfl ?_
                  refine v_get C in_X0 rfl 0 rfl 0 (by decide) q483 (fun _ h => h) rfl dX0_load_257 ?_
                  refine v_getN C in_X1 rfl 3 rfl 2 (by decide) q159 (fun _ h => h) rfl dX0_load_260 ?_
                  refine v_iload_n C dX0_load_263 5 rfl ?_
                  refine v_eqi econ ?_
                  refine v_zMV (ws' := (cw g a A nb nl nc (iter (xld1 (xlU r nb con.toNatClampNeg leg.toNatClampNeg) nb leg.toNatClampNeg) nb r) b f0 (nI (xgC r nb con.toNatClampNeg leg.toNatClampNeg)) (xlU r nb con.toNatClampNeg leg.toNatClampNeg) (nI (x_bestN r nb con.toNatClampNeg leg.toNatClampNeg)) suf)) C (j_get l g (A 5) (A 6) 6 (nI nc) nc (rfs A 30 nc) con.toNatClampNeg (A (30 + con.toNatClampNeg)) hcon hnc (by decide) (rfs_at A 30 hcon)) [_, _, _, _, _, _, _, _] rfl ok_J2_get rfl q359 rfl (Nat.le_of_ble_eq_true rfl) 0 rfl rfl rfl dX0_load_264 (roomL rfl rfl) ⟨rfl, rfl⟩ rfl ?_
                  refine v_castS (r := (RX6, TX6, 5)) C q761 (nb + nl + con.toNatClampNeg + 11) (cw_con hcon) rfl dX0_load_267 ?_
                  refine v_astore (lv' := [(7, _), (5, _), (4, _), (3, _), (0, _), (1, _), (2, _)]) C dX0_load_270 (by decide) rfl ?_
                  refine v_aload C dX0_load_272 0 rfl ?_
                  refine v_iload C dX0_load_274 2 rfl ?_
                  refine v_putN (ws' := (cw g a A nb nl nc (xl3 r nb con.toNatClampNeg leg.toNatClampNeg) b f0 (nI (xgC r nb con.toNatClampNeg leg.toNatClampNeg)) (xlU r nb con.toNatClampNeg leg.toNatClampNeg) (nI (x_bestN r nb con.toNatClampNeg leg.toNatClampNeg)) suf)) C in_X6 tyX6 tyX6_ok nmX6 rfl (nb + nl + con.toNatClampNeg + 11) (cw_con hcon) 4 (by decide) q710 (fun _ h => h) rfl rfl rfl (Nat.le_of_ble_eq_true rfl) dX0_load_276 (cw_setC1 (k := 5) hcon hnb hnl (by decide) (by decide) _) ?_
                  refine v_aload_n C dX0_load_279 4 rfl ?_
                  refine v_get C in_X0 rfl 0 rfl 0 (by decide) q483 (fun _ h => h) rfl dX0_load_280 ?_
                  refine v_dup C dX0_load_283 rfl ?_
                  refine v_getN C in_X1 rfl 3 rfl 8 (by decide) q171 (fun _ h => h) rfl dX0_load_284 ?_
                  refine v_aload C dX0_load_287 0 rfl ?_
                  refine v_getN C in_X6 rfl (nb + nl + con.toNatClampNeg + 11) (cw_con hcon) 1 (by decide) q704 (fun _ h => h) rfl dX0_load_289 ?_
                  refine v_eqi (show _ = (xl3 r nb con.toNatClampNeg leg.toNatClampNeg) (94 + 6 * con.toNatClampNeg + 1) from rfl) ?_
                  refine v_iadd C dX0_load_292 ?_
                  refine v_putN (ws' := (cw g a A nb nl nc (xl3 r nb con.toNatClampNeg leg.toNatClampNeg) (vp_updL b 1 (b 1 + ((xl3 r nb con.toNatClampNeg leg.toNatClampNeg) (94 + 6 * con.toNatClampNeg + 1)).toInt64)) f0 (nI (xgC r nb con.toNatClampNeg leg.toNatClampNeg)) (xlU r nb con.toNatClampNeg leg.toNatClampNeg) (nI (x_bestN r nb con.toNatClampNeg leg.toNatClampNeg)) suf)) C in_X1 tyX1 tyX1_ok nmX1 rfl 3 rfl 8 (by decide) q171 (fun _ h => h) rfl rfl rfl (Nat.le_of_ble_eq_true rfl) dX0_load_293 (cw_b1 (b 1 + ((xl3 r nb con.toNatClampNeg leg.toNatClampNeg) (94 + 6 * con.toNatClampNeg + 1)).toInt64) (toI32_add _ _)) ?_
                  refine v_aload_n C dX0_load_296 4 rfl ?_
                  refine v_get C in_X0 rfl 0 rfl 0 (by decide) q483 (fun _ h => h) rfl dX0_load_297 ?_
                  refine v_dup C dX0_load_300 rfl ?_
                  refine v_getN C in_X1 rfl 3 rfl 11 (by decide) q177 (fun _ h => h) rfl dX0_load_301 ?_
                  refine v_aload C dX0_load_304 0 rfl ?_
                  refine v_getN C in_X6 rfl (nb + nl + con.toNatClampNeg + 11) (cw_con hcon) 1 (by decide) q704 (fun _ h => h) rfl dX0_load_306 ?_
                  refine v_eqi (show _ = (xl3 r nb con.toNatClampNeg leg.toNatClampNeg) (94 + 6 * con.toNatClampNeg + 1) from rfl) ?_
                  refine v_i2l C dX0_load_309 ?_
                  refine v_aload C dX0_load_310 0 rfl ?_
                  refine v_getN C in_X6 rfl (nb + nl + con.toNatClampNeg + 11) (cw_con hcon) 3 (by decide) q708 (fun _ h => h) rfl dX0_load_312 ?_
                  refine v_eqi (show _ = (xl3 r nb con.toNatClampNeg leg.toNatClampNeg) (94 + 6 * con.toNatClampNeg + 3) from rfl) ?_
                  refine v_i2l C dX0_load_315 ?_
                  refine v_lmul C dX0_load_316 ?_
                  refine v_ladd C dX0_load_317 ?_
                  refine v_putN (ws' := (cw g a A nb nl nc (xl3 r nb con.toNatClampNeg leg.toNatClampNeg) (vp_updL (vp_updL b 1 (b 1 + ((xl3 r nb con.toNatClampNeg leg.toNatClampNeg) (94 + 6 * con.toNatClampNeg + 1)).toInt64)) 4 (b 4 + ((xl3 r nb con.toNatClampNeg leg.toNatClampNeg) (94 + 6 * con.toNatClampNeg + 1)).toInt64 * ((xl3 r nb con.toNatClampNeg leg.toNatClampNeg) (94 + 6 * con.toNatClampNeg + 3)).toInt64)) f0 (nI (xgC r nb con.toNatClampNeg leg.toNatClampNeg)) (xlU r nb con.toNatClampNeg leg.toNatClampNeg) (nI (x_bestN r nb con.toNatClampNeg leg.toNatClampNeg)) suf)) C in_X1 tyX1 tyX1_ok nmX1 rfl 3 rfl 11 (by decide) q177 (fun _ h => h) rfl rfl rfl (Nat.le_of_ble_eq_true rfl) dX0_load_318 (cw_b4 _) ?_
                  refine v_aload C dX0_load_321 0 rfl ?_
                  refine v_getN C in_X6 rfl (nb + nl + con.toNatClampNeg + 11) (cw_con hcon) 1 (by decide) q704 (fun _ h => h) rfl dX0_load_323 ?_
                  refine v_eqi (show _ = (xl3 r nb con.toNatClampNeg leg.toNatClampNeg) (94 + 6 * con.toNatClampNeg + 1) from rfl) ?_
                  refine v_aload C dX0_load_326 0 rfl ?_
                  refine v_getN C in_X6 rfl (nb + nl + con.toNatClampNeg + 11) (cw_con hcon) 3 (by decide) q708 (fun _ h => h) rfl dX0_load_328 ?_
                  refine v_eqi (show _ = (xl3 r nb con.toNatClampNeg leg.toNatClampNeg) (94 + 6 * con.toNatClampNeg + 3) from rfl) ?_
                  refine v_imul C dX0_load_331 ?_
                  exact v_iret C dX0_load_332 (Nat.le_of_ble_eq_true rfl) (Nat.le_of_ble_eq_true rfl) (by unfold y_load; rw [if_pos c6_1, if_pos c29_2, if_pos c43_3, if_pos c129_5]; exact ⟨rfl, _, _, _, _, _, by subst hs1; exact List.Perm.refl _⟩)
                · exact absurd (Int32.le_refl _) c154_6
              · intro k hk hk0 hback
                refine v_iload C dX0_load_142 0 rfl ?_
                refine v_aload_n C dX0_load_144 4 rfl ?_
                refine v_get C in_X0 rfl 0 rfl 0 (by decide) q483 (fun _ h => h) rfl dX0_load_145 ?_
                refine v_getN C in_X1 rfl 3 rfl 0 (by decide) q155 (fun _ h => h) rfl dX0_load_148 ?_
                refine v_zMV (ws' := (cw g a A nb nl nc (iter (xld1 (xlU r nb con.toNatClampNeg leg.toNatClampNeg) nb leg.toNatClampNeg) k r) b f0 (nI (xgC r nb con.toNatClampNeg leg.toNatClampNeg)) (xlU r nb con.toNatClampNeg leg.toNatClampNeg) (nI (x_bestN r nb con.toNatClampNeg leg.toNatClampNeg)) suf)) C (j_size l g (A 1) (A 2) 8 (nI nb) nb (rfs A 10 nb)) [_, _, _, _] rfl ok_J2_size rfl q269 rfl (Nat.le_of_ble_eq_true rfl) 0 rfl rfl rfl dX0_load_151 (roomL rfl rfl) ⟨rfl, rfl⟩ rfl ?_
                refine v_icmp_ge C 256 dX0_load_154 (by decide) (fun c154_7 => ?_) (fun c154_7 => ?_)
                · exact absurd c154_7 (nI_ge hk (by first | decide | omega))
                · skip
                  refine v_aload_n C dX0_load_157 4 rfl ?_
                  refine v_get C in_X0 rfl 0 rfl 5 (by decide) q488 (fun _ h => h) rfl dX0_load_158 ?_
                  refine v_iload C dX0_load_161 0 rfl ?_
                  refine v_iald C dX0_load_163 2 rfl (ixn (by omega) (by decide)) ?_
                  refine v_if_le C 250 dX0_load_164 (by decide) (fun c164_8 => ?_) (fun c164_8 => ?_)
                  · skip
                    refine v_iinc (lv' := [(7, _), (5, _), (4, _), (3, _), (0, _), (1, _), (2, _)]) C dX0_load_250 0 rfl (nI_1 k) (by decide) rfl ?_
                    refine v_goto C 142 dX0_load_253 (by decide) ?_
                    rw [show iter (xld1 (xlU r nb con.toNatClampNeg leg.toNatClampNeg) nb leg.toNatClampNeg) (k + 1) r = (iter (xld1 (xlU r nb con.toNatClampNeg leg.toNatClampNeg) nb leg.toNatClampNeg) k r) from if_pos c164_8] at hback
                    exact hback
                  · skip
                    refine v_aload_n C dX0_load_167 4 rfl ?_
                    refine v_get C in_X0 rfl 0 rfl 0 (by decide) q483 (fun _ h => h) rfl dX0_load_168 ?_
                    refine v_aload_n C dX0_load_171 4 rfl ?_
                    refine v_get C in_X0 rfl 0 rfl 0 (by decide) q483 (fun _ h => h) rfl dX0_load_172 ?_
                    refine v_iload_n C dX0_load_175 6 rfl ?_
                    refine v_eqi eleg ?_
                    refine v_aload_n C dX0_load_176 4 rfl ?_
                    refine v_get C in_X0 rfl 0 rfl 5 (by decide) q488 (fun _ h => h) rfl dX0_load_177 ?_
                    refine v_iload C dX0_load_180 0 rfl ?_
                    refine v_iald C dX0_load_182 2 rfl (ixn (by omega) (by decide)) ?_
                    refine v_zTV (ws' := (cw g a A nb nl nc (iter (xld1 (xlU r nb con.toNatClampNeg leg.toNatClampNeg) nb leg.toNatClampNeg) k r) b f0 (nI (xgC r nb con.toNatClampNeg leg.toNatClampNeg)) (xlU r nb con.toNatClampNeg leg.toNatClampNeg) (nI (x_bestN r nb con.toNatClampNeg leg.toNatClampNeg)) suf)) C (x_minutesOf l g A nb nl nc (iter (xld1 (xlU r nb con.toNatClampNeg leg.toNatClampNeg) nb leg.toNatClampNeg) k r) b suf hnb hnl hnc leg.toNatClampNeg hleg _ (by rw [xld_ne (fun i hi => by omega) (by omega) (fun i hi => by omega) (by omega)]; exact hsp _ hleg)) [_, _, _] rfl ok_X1_minutesOf rfl q318 rfl (Nat.le_of_ble_eq_true rfl) 0 rfl rfl rfl dX0_load_183 (roomL rfl rfl) ⟨rfl, rfl⟩ rfl ?_
                    refine v_zTVv (ws' := (cw g a A nb nl nc (xla (xlU r nb con.toNatClampNeg leg.toNatClampNeg) nb leg.toNatClampNeg k (iter (xld1 (xlU r nb con.toNatClampNeg leg.toNatClampNeg) nb leg.toNatClampNeg) k r)) b f0 (nI (xgC r nb con.toNatClampNeg leg.toNatClampNeg)) (xlU r nb con.toNatClampNeg leg.toNatClampNeg) (nI (x_bestN r nb con.toNatClampNeg leg.toNatClampNeg)) suf)) C (x_spass l g A nb nl nc (iter (xld1 (xlU r nb con.toNatClampNeg leg.toNatClampNeg) nb leg.toNatClampNeg) k r) b suf hnb hnl hnc _) [_, _, _] rfl ok_X1_pass rfl q337 rfl (Nat.le_of_ble_eq_true rfl) 0 rfl rfl rfl dX0_load_186 (roomL rfl rfl) ⟨rfl, rfl⟩ rfl ?_
                    refine v_aload_n C dX0_load_189 4 rfl ?_
                    refine v_get C in_X0 rfl 0 rfl 0 (by decide) q483 (fun _ h => h) rfl dX0_load_190 ?_
                    refine v_getN C in_X1 rfl 3 rfl 0 (by decide) q155 (fun _ h => h) rfl dX0_load_193 ?_
                    refine v_iload C dX0_load_196 0 rfl ?_
                    refine v_zMV (ws' := (cw g a A nb nl nc (xla (xlU r nb con.toNatClampNeg leg.toNatClampNeg) nb leg.toNatClampNeg k (iter (xld1 (xlU r nb con.toNatClampNeg leg.toNatClampNeg) nb leg.toNatClampNeg) k r)) b f0 (nI (xgC r nb con.toNatClampNeg leg.toNatClampNeg)) (xlU r nb con.toNatClampNeg leg.toNatClampNeg) (nI (x_bestN r nb con.toNatClampNeg leg.toNatClampNeg)) suf)) C (j_get l g (A 1) (A 2) 8 (nI nb) nb (rfs A 10 nb) k (A (10 + k)) hk hnb (by decide) (rfs_at A 10 hk)) [_, _, _, _] rfl ok_J2_get rfl q359 rfl (Nat.le_of_ble_eq_true rfl) 0 rfl rfl rfl dX0_load_198 (roomL rfl rfl) ⟨rfl, rfl⟩ rfl ?_
                    refine v_castS (r := (RX4, TX4, 9)) C q360 (k + 11) (cw_bin hk) rfl dX0_load_201 ?_
                    refine v_aload_n C dX0_load_204 4 rfl ?_
                    refine v_get C in_X0 rfl 0 rfl 5 (by decide) q488 (fun _ h => h) rfl dX0_load_205 ?_
                    refine v_iload C dX0_load_208 0 rfl ?_
                    refine v_iald C dX0_load_210 2 rfl (ixn (by omega) (by decide)) ?_
                    refine v_zFV (ws' := (cw g a A nb nl nc (xlb (xlU r nb con.toNatClampNeg leg.toNatClampNeg) nb leg.toNatClampNeg k (iter (xld1 (xlU r nb con.toNatClampNeg leg.toNatClampNeg) nb leg.toNatClampNeg) k r)) b f0 (nI (xgC r nb con.toNatClampNeg leg.toNatClampNeg)) (xlU r nb con.toNatClampNeg leg.toNatClampNeg) (nI (x_bestN r nb con.toNatClampNeg leg.toNatClampNeg)) suf)) C (x_take l g _ (bv (xla (xlU r nb con.toNatClampNeg leg.toNatClampNeg) nb leg.toNatClampNeg k (iter (xld1 (xlU r nb con.toNatClampNeg leg.toNatClampNeg) nb leg.toNatClampNeg) k r)) k) _ (fun _ => by rw [show bv (xla (xlU r nb con.toNatClampNeg leg.toNatClampNeg) nb leg.toNatClampNeg k (iter (xld1 (xlU r nb con.toNatClampNeg leg.toNatClampNeg) nb leg.toNatClampNeg) k r)) k 3 = r (10 + 9 * k + 3) from (s_passes_ne (fun i hi => by omega) (by omega)).trans (xld_ne (fun i hi => by omega) (by omega) (fun i hi => by omega) (by omega))]; exact fun q => c164_8 (by rw [show xlU r nb con.toNatClampNeg leg.toNatClampNeg k = 0 from xU_0 r _ _ _ _ q]; exact Int32.le_refl _))) ok_X4_take rfl q427 rfl (Nat.le_of_ble_eq_true rfl) (k + 11) (cw_bin hk) rfl rfl dX0_load_211 (roomL rfl rfl) ⟨rfl, rfl⟩ (cw_setB hk hnb pb_in pb_out) ?_
                    refine v_istore (lv' := [(8, _), (7, _), (5, _), (4, _), (3, _), (0, _), (1, _), (2, _)]) C dX0_load_214 (by decide) rfl ?_
                    refine v_aload_n C dX0_load_216 5 rfl ?_
                    refine v_get C in_X0 rfl 0 rfl 0 (by decide) q483 (fun _ h => h) rfl dX0_load_217 ?_
                    refine v_getN C in_X1 rfl 3 rfl 1 (by decide) q157 (fun _ h => h) rfl dX0_load_220 ?_
                    refine v_iload_n C dX0_load_223 7 rfl ?_
                    refine v_eqi eleg ?_
                    refine v_zMV (ws' := (cw g a A nb nl nc (xlb (xlU r nb con.toNatClampNeg leg.toNatClampNeg) nb leg.toNatClampNeg k (iter (xld1 (xlU r nb con.toNatClampNeg leg.toNatClampNeg) nb leg.toNatClampNeg) k r)) b f0 (nI (xgC r nb con.toNatClampNeg leg.toNatClampNeg)) (xlU r nb con.toNatClampNeg leg.toNatClampNeg) (nI (x_bestN r nb con.toNatClampNeg leg.toNatClampNeg)) suf)) C (j_get l g (A 3) (A 4) 3 (nI nl) nl (rfs A 20 nl) leg.toNatClampNeg (A (20 + leg.toNatClampNeg)) hleg hnl (by decide) (rfs_at A 20 hleg)) [_, _, _, _, _, _] rfl ok_J2_get rfl q359 rfl (Nat.le_of_ble_eq_true rfl) 0 rfl rfl rfl dX0_load_224 (roomL rfl rfl) ⟨rfl, rfl⟩ rfl ?_
                    refine v_castS (r := (RX5, TX5, 4)) C q365 (nb + leg.toNatClampNeg + 11) (cw_leg hleg) rfl dX0_load_227 ?_
                    refine v_aload_n C dX0_load_230 5 rfl ?_
                    refine v_get C in_X0 rfl 0 rfl 5 (by decide) q488 (fun _ h => h) rfl dX0_load_231 ?_
                    refine v_iload C dX0_load_234 1 rfl ?_
                    refine v_iald C dX0_load_236 2 rfl (ixn (by omega) (by decide)) ?_
                    refine v_iload C dX0_load_237 0 rfl ?_
                    refine v_aload_n C dX0_load_239 5 rfl ?_
                    refine v_get C in_X0 rfl 0 rfl 5 (by decide) q488 (fun _ h => h) rfl dX0_load_240 ?_
                    refine v_iload C dX0_load_243 1 rfl ?_
                    refine v_iald C dX0_load_245 2 rfl (ixn (by omega) (by decide)) ?_
                    refine v_idiv C dX0_load_246 (pos_ne0 c164_8) ?_
                    refine v_zFVv (ws' := (cw g a A nb nl nc (xlc (xlU r nb con.toNatClampNeg leg.toNatClampNeg) nb leg.toNatClampNeg k (iter (xld1 (xlU r nb con.toNatClampNeg leg.toNatClampNeg) nb leg.toNatClampNeg) k r)) b f0 (nI (xgC r nb con.toNatClampNeg leg.toNatClampNeg)) (xlU r nb con.toNatClampNeg leg.toNatClampNeg) (nI (x_bestN r nb con.toNatClampNeg leg.toNatClampNeg)) suf)) C (x_lift l g _ (gv (xlb (xlU r nb con.toNatClampNeg leg.toNatClampNeg) nb leg.toNatClampNeg k (iter (xld1 (xlU r nb con.toNatClampNeg leg.toNatClampNeg) nb leg.toNatClampNeg) k r)) leg.toNatClampNeg) _ _) ok_X5_lift rfl q366 rfl (Nat.le_of_ble_eq_true rfl) (nb + leg.toNatClampNeg + 11) (cw_leg hleg) rfl rfl dX0_load_247 (roomL rfl rfl) ⟨rfl, rfl⟩ (cw_setG hleg hnb hnl pg_in pg_out) ?_
                    refine v_iinc (lv' := [(7, _), (8, _), (5, _), (4, _), (3, _), (0, _), (1, _), (2, _)]) C dX0_load_250 1 rfl (nI_1 k) (by decide) rfl ?_
                    refine v_goto C 142 dX0_load_253 (by decide) ?_
                    refine v_lvp (lv' := [(7, _), (5, _), (4, _), (3, _), (0, _), (1, _), (2, _)]) [0, 2, 3, 4, 5, 6, 7] rfl ?_
                    rw [show iter (xld1 (xlU r nb con.toNatClampNeg leg.toNatClampNeg) nb leg.toNatClampNeg) (k + 1) r = xlc (xlU r nb con.toNatClampNeg leg.toNatClampNeg) nb leg.toNatClampNeg k (iter (xld1 (xlU r nb con.toNatClampNeg leg.toNatClampNeg) nb leg.toNatClampNeg) k r) from if_neg c164_8] at hback
                    exact hback
            · skip
              refine v_bipush (v := -5) C dX0_load_132 (by decide) ?_
              exact v_iret C dX0_load_134 (Nat.le_of_ble_eq_true rfl) (Nat.le_of_ble_eq_true rfl) (by unfold y_load; rw [if_pos c6_1, if_pos c29_2, if_pos c43_3, if_neg c129_5]; exact ⟨rfl, _, _, _, _, _, by subst hs0; exact List.Perm.refl _⟩)
          · exact absurd (Int32.le_refl _) c93_4
        · intro k hk hk0 hback
          refine v_iload C dX0_load_81 0 rfl ?_
          refine v_aload_n C dX0_load_83 4 rfl ?_
          refine v_get C in_X0 rfl 0 rfl 0 (by decide) q483 (fun _ h => h) rfl dX0_load_84 ?_
          refine v_getN C in_X1 rfl 3 rfl 0 (by decide) q155 (fun _ h => h) rfl dX0_load_87 ?_
          refine v_zMV (ws' := (cw g a A nb nl nc r b f0 (nI (xgC r nb con.toNatClampNeg leg.toNatClampNeg)) (xlU r nb con.toNatClampNeg leg.toNatClampNeg) (nI (x_bestN r nb con.toNatClampNeg leg.toNatClampNeg)) suf)) C (j_size l g (A 1) (A 2) 8 (nI nb) nb (rfs A 10 nb)) [_, _, _, _] rfl ok_J2_size rfl q269 rfl (Nat.le_of_ble_eq_true rfl) 0 rfl rfl rfl dX0_load_90 (roomL rfl rfl) ⟨rfl, rfl⟩ rfl ?_
          refine v_icmp_ge C 123 dX0_load_93 (by decide) (fun c93_9 => ?_) (fun c93_9 => ?_)
          · exact absurd c93_9 (nI_ge hk (by first | decide | omega))
          · skip
            refine v_lload C dX0_load_96 1 rfl ?_
            refine v_aload_n C dX0_load_98 4 rfl ?_
            refine v_get C in_X0 rfl 0 rfl 0 (by decide) q483 (fun _ h => h) rfl dX0_load_99 ?_
            refine v_iload_n C dX0_load_102 6 rfl ?_
            refine v_eqi eleg ?_
            refine v_aload_n C dX0_load_103 4 rfl ?_
            refine v_get C in_X0 rfl 0 rfl 5 (by decide) q488 (fun _ h => h) rfl dX0_load_104 ?_
            refine v_iload C dX0_load_107 0 rfl ?_
            refine v_iald C dX0_load_109 2 rfl (ixn (by omega) (by decide)) ?_
            refine v_zTV (ws' := (cw g a A nb nl nc r b f0 (nI (xgC r nb con.toNatClampNeg leg.toNatClampNeg)) (xlU r nb con.toNatClampNeg leg.toNatClampNeg) (nI (x_bestN r nb con.toNatClampNeg leg.toNatClampNeg)) suf)) C (x_minutesOf l g A nb nl nc r b suf hnb hnl hnc leg.toNatClampNeg hleg _ (hsp _ hleg)) [_, _, _] rfl ok_X1_minutesOf rfl q318 rfl (Nat.le_of_ble_eq_true rfl) 0 rfl rfl rfl dX0_load_110 (roomL rfl rfl) ⟨rfl, rfl⟩ rfl ?_
            refine v_i2l C dX0_load_113 ?_
            refine v_ladd C dX0_load_114 ?_
            refine v_lstore (lv' := [(5, _), (7, _), (4, _), (3, _), (0, _), (1, _), (2, _)]) C dX0_load_115 (by decide) rfl ?_
            refine v_iinc (lv' := [(7, _), (5, _), (4, _), (3, _), (0, _), (1, _), (2, _)]) C dX0_load_117 1 rfl (nI_1 k) (by decide) rfl ?_
            refine v_goto C 81 dX0_load_120 (by decide) ?_
            exact hback
      · skip
        refine v_aload_n C dX0_load_46 1 rfl ?_
        refine v_iload_n C dX0_load_47 0 rfl ?_
        refine v_callVw C (x_refuse l g a A nb nl nc r b f0 us1 u bn1 suf hnb hnl hnc _) ok_X0_refuse rfl q314 rfl (Nat.le_of_ble_eq_true rfl) 0 rfl rfl rfl dX0_load_48 (roomL rfl rfl) ⟨rfl, rfl⟩ ?_
        exact v_iret C dX0_load_51 (Nat.le_of_ble_eq_true rfl) (Nat.le_of_ble_eq_true rfl) (by unfold y_load; rw [if_pos c6_1, if_pos c29_2, if_neg c43_3]; exact ⟨rfl, _, _, _, _, _, by subst hs0; exact List.Perm.refl _⟩)
    · skip
      refine v_bipush (v := -4) C dX0_load_32 (by decide) ?_
      exact v_iret C dX0_load_34 (Nat.le_of_ble_eq_true rfl) (Nat.le_of_ble_eq_true rfl) (by unfold y_load; rw [if_pos c6_1, if_neg c29_2]; exact ⟨rfl, _, _, _, _, _, by subst hs0; exact List.Perm.refl _⟩)
  · skip
    refine v_bipush (v := -2) C dX0_load_9 (by decide) ?_
    exact v_iret C dX0_load_11 (Nat.le_of_ble_eq_true rfl) (Nat.le_of_ble_eq_true rfl) (by unfold y_load; rw [if_neg c6_1]; exact ⟨rfl, _, _, _, _, _, by subst hs0; exact List.Perm.refl _⟩)
