/-! orders -/
set_option maxRecDepth 100000
def jx (sg : Int32) : Nat := if sg = 114 then 0 else if sg = 109 then 1 else if sg = 99 then 2 else 3
def xoL (t : Nat → Int32) (ln nb nl : Nat) : Nat → Nat → Bool → Nat → (Nat → Int32) → Int32 → (Nat → Int32) → (Nat → Int64) → Nat × (Nat → Int32) × (Nat → Int64)
  | 0, dn, _, _, _, _, r, b => (dn, r, b)
  | f + 1, dn, ok, q, td, sg, r, b => if ok = true then
      if (xcF r nb nl (jx sg) td).1 = 0 then
        if xP t ln q 59 then xoL t ln nb nl f (dn + 1) (xro t ln (sk t ln q + 1) td).1 (xro t ln (sk t ln q + 1) td).2.1 (xro t ln (sk t ln q + 1) td).2.2 (hv t ln (sk t ln (sk t ln q + 1))) (xcD r b nb (jx sg) td).1 (xcD r b nb (jx sg) td).2
        else (dn + 1, (xcD r b nb (jx sg) td).1, (xcD r b nb (jx sg) td).2)
      else (dn, (xcF r nb nl (jx sg) td).2, b)
    else (dn, r, b)
abbrev xoZ (t : Nat → Int32) (ln nb nl : Nat) (r : Nat → Int32) (b : Nat → Int64) : Nat × (Nat → Int32) × (Nat → Int64) := xoL t ln nb nl (ln + 3) 0 (xro t ln 0 (fun _ => 0)).1 (xro t ln 0 (fun _ => 0)).2.1 (xro t ln 0 (fun _ => 0)).2.2 (hv t ln (sk t ln 0)) r b
def y_orders (r : Nat → Int32) (b : Nat → Int64) (nb nl nc : Nat) (t : Nat → Int32) (ln : Nat) : Int32 × XO :=
  if xtf t ln = -1 then (nI (xoZ t ln nb nl r b).1, true, (nb, nl, nc), (xoZ t ln nb nl r b).2.1, (xoZ t ln nb nl r b).2.2) else (-4, false, (nb, nl, nc), r, b)
theorem bI_nb (b : Bool) : bI (¬ bB b = 0) = bB b := by cases b <;> rfl
theorem xro_ok {t : Nat → Int32} {ln k : Nat} {td : Nat → Int32} (h : (xro t ln k td).1 = true) : ¬ mny (hv t ln (sk t ln k)) = 0 := by
  intro q
  rw [xro, if_pos q] at h
  exact absurd (show false = true from h) (by decide)
theorem xrn_sp {r : Nat → Int32} {nb le bi : Nat} {kind amt mo : Int32} {i : Nat} (hb : bi < 8) (hn : nb ≤ 8) (hl : le < 3) (hi : i < 3) : xr3 r nb le bi kind amt mo (82 + 4 * i + 0) = r (82 + 4 * i + 0) := by
  have h2 : xr2 r nb le bi kind amt mo (82 + 4 * i + 0) = r (82 + 4 * i + 0) := (pb_out _ (by omega)).trans (s_passes_ne (fun _ _ => by omega) (by omega))
  unfold xr3 pg4
  split
  · rename_i q
    rw [show 82 + 4 * i + 0 - (82 + 4 * le) = 0 by omega]
    unfold l_lift
    rw [pk_un (by omega), pk_un (by omega), ← h2]
    show xr2 r nb le bi kind amt mo (82 + 4 * le + 0) = _
    rw [show le = i by omega]
  · exact h2
theorem xmn_sp {r : Nat → Int32} {nb le bi bj : Nat} {amt : Int32} {i : Nat} (hb : bi < 8) (hj : bj < 8) (hn : nb ≤ 8) (hl : le < 3) (hi : i < 3) : xm4 r nb le bi bj amt (82 + 4 * i + 0) = r (82 + 4 * i + 0) := by
  have h2 : xm3 r nb le bi bj amt (82 + 4 * i + 0) = r (82 + 4 * i + 0) := (pb_out _ (by omega)).trans ((pb_out _ (by omega)).trans (s_passes_ne (fun _ _ => by omega) (by omega)))
  unfold xm4 pg4
  split
  · rename_i q
    rw [show 82 + 4 * i + 0 - (82 + 4 * le) = 0 by omega]
    unfold l_lift
    rw [pk_un (by omega), pk_un (by omega), ← h2]
    show xm3 r nb le bi bj amt (82 + 4 * le + 0) = _
    rw [show le = i by omega]
  · exact h2
theorem xdr_sp {bi nb : Nat} (hb : bi < 8) (hn : nb ≤ 8) {j : Nat} (h0 : j = 1 ∨ 82 ≤ j) (f : Nat) : ∀ (n : Nat) (x : (Nat → Int32) × (Nat → Int64)), (x_dries bi nb f n x).2.1 j = x.1 j := by
  induction f with
  | zero => intro n x; rfl
  | succ f ih =>
    intro n x
    unfold x_dries
    split
    · rfl
    · rw [ih]
      exact (pb_out _ (by omega)).trans (s_passes_ne (fun _ _ => by omega) (by omega))
theorem xcD_sp {r : Nat → Int32} {b : Nat → Int64} {nb nl j : Nat} {td : Nat → Int32} (hnb : nb ≤ 8) (hnl : nl ≤ 3) (hF : (xcF r nb nl j td).1 = 0) {i : Nat} (hi : i < nl) : (xcD r b nb j td).1 (82 + 4 * i + 0) = r (82 + 4 * i + 0) := by
  unfold xcF at hF
  unfold xcD
  by_cases h0 : j = 0
  · rw [if_pos h0] at hF ⊢
    obtain ⟨⟨⟨hq1, hq2⟩, hq3⟩, -⟩ := x_rF_ok (show 0 ≤ (xlR r nb nl td).1 by rw [hF]; decide)
    have g1 := (isB_c (n := nl) rfl (by omega) hq1).2
    have g2 := (isB_c (n := nb) rfl (by omega) hq2).2
    exact xrn_sp (by omega) hnb (by omega) (by omega)
  · rw [if_neg h0] at hF ⊢
    by_cases h1 : j = 1
    · rw [if_pos h1] at hF ⊢
      obtain ⟨hmA, -, -⟩ := x_mF_ok (show 0 ≤ (xlM r nb nl td).1 by rw [hF]; decide)
      obtain ⟨⟨⟨hq1, hq2⟩, hq3⟩, -, -⟩ := x_mA0 hmA
      have g1 := (isB_c (n := nl) rfl (by omega) hq1).2
      have g2 := (isB_c (n := nb) rfl (by omega) hq2).2
      have g3 := (isB_c (n := nb) rfl (by omega) hq3).2
      exact xmn_sp (by omega) (by omega) hnb (by omega) (by omega)
    · rw [if_neg h1] at hF ⊢
      by_cases h2 : j = 2
      · rw [if_pos h2] at hF ⊢
        have g1 := (isB_c (n := nl) rfl (by omega) (x_cF_ok (show 0 ≤ x_cF r nl (td 0) (td 1) by rw [show x_cF r nl (td 0) (td 1) = 0 from hF]; decide))).2
        show upd _ _ _ _ = _
        rw [pk_un (by omega)]
        exact s_passes_ne (fun _ _ => by omega) (by omega)
      · rw [if_neg h2] at hF ⊢
        have g1 := (isB_c (n := nb) rfl (by omega) (x_dF_ok (show 0 ≤ x_dF r nb (td 0) (td 1) by rw [show x_dF r nb (td 0) (td 1) = 0 from hF]; decide)).1).2
        exact xdr_sp (by omega) hnb (Or.inr (by omega)) _ _ _
section OP
variable {g : GT} {a A : Nat → Nat} {nb nl nc : Nat} {r : Nat → Int32} {b : Nat → Int64} {od : Nat → Int32} {us : Int32} {tk : Nat → Int32} {bn : Int32} {t1 : Nat} {mb : Int32} {ln : Nat} {t : Nat → Int32} {ko fo dd : Nat → Nat} {q0 qn : Nat} {td : Nat → Int32} {o : Option Nat} {k : Nat} {Y D X suf suf' : va_W}
theorem cw_sufp (h : suf.Perm suf') : (cw g a A nb nl nc r b od us tk bn suf).Perm (cw g a A nb nl nc r b od us tk bn suf') := by
  unfold cw
  rw [sw_suf g A nb nl nc r b suf, sw_suf g A nb nl nc r b suf']
  exact (((h.append_left _).cons _).cons _).cons _
theorem tf_perm : (cw g a A nb nl nc r b od us tk bn (txW g a t1 mb ln t ko fo dd ++ Y)).Perm (tfW g a us bn (A 0) t1 mb ln t ko fo dd ++ ((a 1, .inl (g.2 0, 8, .inl od)) :: (a 2, .inl (g.2 0, 8, .inl tk)) :: sw g A nb nl nc r b Y)) := by
  unfold cw
  rw [sw_suf g A nb nl nc r b (txW g a t1 mb ln t ko fo dd ++ Y), sw_suf g A nb nl nc r b Y]
  refine List.Perm.cons _ ?_
  have h1 : (sw g A nb nl nc r b [] ++ (txW g a t1 mb ln t ko fo dd ++ Y)).Perm (txW g a t1 mb ln t ko fo dd ++ (sw g A nb nl nc r b [] ++ Y)) := perm_mid _ _ Y
  exact ((h1.cons _).cons _).trans (perm_mid [_, _] (txW g a t1 mb ln t ko fo dd) _)
theorem ow_perm : (rdW g a us bn (A 0) t1 mb ln t ko fo dd q0 qn td o k ++ ((a 1, .inl (g.2 0, 8, .inl od)) :: (a 2, .inl (g.2 0, 8, .inl tk)) :: sw g A nb nl nc r b Y)).Perm (((qn, .inl (g.2 0, 5, .inl td)) :: cw g a A nb nl nc r b od us tk bn (txW g a t1 mb ln t ko fo dd ++ Y)) ++ [(q0, .inr (7, [.ref qn, va_rf o, .int (nI k), .ref (a 0)]))]) := by
  have h1 : (rdW g a us bn (A 0) t1 mb ln t ko fo dd q0 qn td o k ++ ((a 1, .inl (g.2 0, 8, .inl od)) :: (a 2, .inl (g.2 0, 8, .inl tk)) :: sw g A nb nl nc r b Y)) = (q0, .inr (7, [.ref qn, va_rf o, .int (nI k), .ref (a 0)])) :: (qn, .inl (g.2 0, 5, .inl td)) :: (tfW g a us bn (A 0) t1 mb ln t ko fo dd ++ ((a 1, .inl (g.2 0, 8, .inl od)) :: (a 2, .inl (g.2 0, 8, .inl tk)) :: sw g A nb nl nc r b Y)) := rfl
  rw [h1]
  exact ((tf_perm.symm.cons _).cons _).trans (List.perm_append_comm (l₁ := [_]))
theorem mem_oY {x : Nat × va_E} (h : x ∈ Y) : x ∈ (rdW g a us bn (A 0) t1 mb ln t ko fo dd q0 qn td o k ++ ((a 1, .inl (g.2 0, 8, .inl od)) :: (a 2, .inl (g.2 0, 8, .inl tk)) :: sw g A nb nl nc r b Y)) := by
  refine List.mem_append_right _ (List.mem_cons_of_mem _ (List.mem_cons_of_mem _ ?_))
  rw [sw_suf]
  exact List.mem_append_right _ h
end OP
def M_X0_orders : Md := (yX0_orders, cX0_orders, 5, (some .int), 10, 260, 152, 920)
theorem ok_X0_orders : MOKv M_X0_orders 0 := ⟨q1111, q1112, q89, q1113, ⟨by decide +kernel, by decide +kernel, by decide +kernel⟩⟩
set_option maxHeartbeats 8000000 in
theorem x_orders (l : Launch) (g : GT) (a A : Nat → Nat) (nb nl nc : Nat) (r : Nat → Int32) (b : Nat → Int64) (od : Nat → Int32) (us : Int32) (tk : Nat → Int32) (bn : Int32) (hnb : nb ≤ 8) (hnl : nl ≤ 3) (hnc : nc ≤ 6) (d1 hd tl : Nat) (f : Nat → Option Nat) (X2 : va_W) (t1 : Nat) (mb : Int32) (ln : Nat) (t : Nat → Int32) (ko fo dd : Nat → Nat) (hh : hd < 6) (ht : tl < 6) (hf : (tl + 6 - hd) % 6 = 5 → ∃ x, f hd = some x) (h120 : ln ≤ 120) (hch : chOk ln t) (hsp : ∀ i, i < nl → ¬ r (82 + 4 * i + 0) = 0) (hX2 : ∀ x, x ∈ lamW g (a 0) fo dd → x ∈ X2) : Ct l g M_X0_orders [.ref (a 0)] (cw g a A nb nl nc r b od us tk bn (dqW g (a 3) d1 hd tl f ++ (txW g a t1 mb ln t ko fo dd ++ X2))) (fun rv w => rv = some (.int (y_orders r b nb nl nc t ln).1) ∧ Rec g a A nb nl nc r b d1 hd tl f (txW g a t1 mb ln t ko fo dd ++ X2) (y_orders r b nb nl nc t ln).2 w) := by
  refine Ct.start2 (M := M_X0_orders) rfl [(0, .ref (a 0))] rfl (by decide +kernel) (Nat.le_of_ble_eq_true rfl) ?_
  intro p e s m args below meth c A9 C
  refine v_aload_n C dX0_orders_0 0 rfl ?_
  refine v_callV (wr := ((a 1, .inl (g.2 0, 8, .inl od)) :: (a 2, .inl (g.2 0, 8, .inl tk)) :: sw g A nb nl nc r b (dqW g (a 3) d1 hd tl f ++ X2))) C (x_textFault l g a us bn (A 0) t1 mb ln t ko fo dd h120 hch) ok_X0_textFault rfl q1114 rfl (Nat.le_of_ble_eq_true rfl) 0 rfl rfl rfl dX0_orders_1 (roomL rfl rfl) ((cw_sufp (perm_mid _ (txW g a t1 mb ln t ko fo dd) X2)).trans tf_perm) ?_
  rintro _ _ ⟨rfl, rfl⟩
  refine v_perm (ws' := cw g a A nb nl nc r b od us tk bn (dqW g (a 3) d1 hd tl f ++ (txW g a t1 mb ln t ko fo dd ++ X2))) ((cw_sufp (perm_mid _ (txW g a t1 mb ln t ko fo dd) X2)).trans tf_perm).symm ?_
  refine v_st (st' := [_]) rfl ?_
  refine v_iconst (v := -1) C dX0_orders_4 (by decide) ?_
  refine v_icmp_eq C 11 dX0_orders_5 (by decide) (fun c5_1 => ?_) (fun c5_1 => ?_)
  · skip
    have htf := c5_1
    refine v_aload_n C dX0_orders_11 0 rfl ?_
    refine v_rec C hnb hnl hnc hh ht hf q517 (Nat.le_of_ble_eq_true rfl) dX0_orders_12 (roomL rfl rfl) ?_
    generalize hs1 : dqW g (a 3) d1 (dqH hd tl) ((tl + 1) % 6) (dqF hd tl f (A 0)) ++ (sw g A nb nl nc r b [] ++ X2) = Y
    have hY : ∀ x, x ∈ lamW g (a 0) fo dd → x ∈ Y := fun x hx => by rw [← hs1]; exact List.mem_append_right _ (List.mem_append_right _ (hX2 x hx))
    intro A
    refine v_perm (ws' := cw g a A nb nl nc r b od us tk bn (txW g a t1 mb ln t ko fo dd ++ Y)) (cw_sufp (by rw [← hs1]; exact ((perm_mid _ (txW g a t1 mb ln t ko fo dd) X2).append_left _).trans (perm_mid _ (txW g a t1 mb ln t ko fo dd) _))) ?_
    refine v_new (ci := 7) (fs := [.null, .null, .int 0, .null]) C in_X7 tyX7 tyX7_ok q1050 q1051 q111 rfl (by decide +kernel) (Nat.le_of_ble_eq_true rfl) (Nat.le_of_ble_eq_true rfl) dX0_orders_15 (fun q0 => ?_)
    refine v_dup C dX0_orders_18 rfl ?_
    refine v_aload_n C dX0_orders_19 0 rfl ?_
    refine v_callIN (wr := cw g a A nb nl nc r b od us tk bn (txW g a t1 mb ln t ko fo dd ++ Y)) C (x_rinit l g q0 (a 0)) ok_X7_init rfl q1052 rfl (Nat.le_of_ble_eq_true rfl) dX0_orders_20 (roomL rfl rfl) (List.perm_append_comm (l₂ := [_])) ?_
    rintro _ _ ⟨rfl, qn, rfl⟩
    refine v_perm (ws' := (rdW g a us bn (A 0) t1 mb ln t ko fo dd q0 qn (fun _ => 0) none 0 ++ ((a 1, .inl (g.2 0, 8, .inl od)) :: (a 2, .inl (g.2 0, 8, .inl tk)) :: sw g A nb nl nc r b Y))) ((tf_perm.cons _).cons _) ?_
    refine v_st (st' := [_]) rfl ?_
    refine v_astore_n (lv' := [(1, _), (0, _)]) C dX0_orders_23 rfl (by decide) rfl ?_
    refine v_iconst (v := 0) C dX0_orders_24 (by decide) ?_
    refine v_istore_n (lv' := [(2, _), (1, _), (0, _)]) C dX0_orders_25 rfl (by decide) rfl ?_
    refine v_aload_n C dX0_orders_26 1 rfl ?_
    refine v_callV (wr := ((a 1, .inl (g.2 0, 8, .inl od)) :: (a 2, .inl (g.2 0, 8, .inl tk)) :: sw g A nb nl nc r b Y)) C (x_readsOrd l g a us bn (A 0) t1 mb ln t ko fo dd q0 qn (fun _ => 0) none 0 h120 (Nat.zero_le _) hch) ok_X7_readsOrder rfl q1072 rfl (Nat.le_of_ble_eq_true rfl) 0 rfl rfl rfl dX0_orders_27 (roomL rfl rfl) (List.Perm.refl _) ?_
    rintro _ _ ⟨rfl, rfl⟩
    refine v_ws (ws' := (rdW g a us bn (A 0) t1 mb ln t ko fo dd q0 qn (xro t ln 0 (fun _ => 0)).2.2 (kf ko (hv t ln (sk t ln 0)) 4) (xro t ln 0 (fun _ => 0)).2.1 ++ ((a 1, .inl (g.2 0, 8, .inl od)) :: (a 2, .inl (g.2 0, 8, .inl tk)) :: sw g A nb nl nc r b Y))) rfl ?_
    refine v_st (st' := [_]) rfl ?_
    refine v_istore_n (lv' := [(3, _), (2, _), (1, _), (0, _)]) C dX0_orders_30 rfl (by decide) rfl ?_
    obtain ⟨hr1, hr2⟩ := xro_le t ln 0 (fun _ => 0) (Nat.zero_le _)
    refine v_whileA (α := Nat × Nat × Bool × Nat × (Nat → Int32) × Int32 × (Nat → Int32) × (Nat → Int64)) (fun x => x.1) (fun x => 29 + (ln + 3 - x.1)) (fun x => 182 + 6 * (ln + 3 - x.1)) (fun x => x.1 ≤ ln + 3 ∧ x.2.2.2.1 ≤ ln ∧ (ln + 1 ≤ x.1 + x.2.2.2.1 ∧ (x.2.2.1 = true → ln + 2 ≤ x.1 + x.2.2.2.1)) ∧ (x.2.2.1 = true → ¬ mny x.2.2.2.2.2.1 = 0) ∧ (∀ i, i < nl → ¬ x.2.2.2.2.2.2.1 (82 + 4 * i + 0) = 0) ∧ xoZ t ln nb nl r b = xoL t ln nb nl x.1 x.2.1 x.2.2.1 x.2.2.2.1 x.2.2.2.2.1 x.2.2.2.2.2.1 x.2.2.2.2.2.2.1 x.2.2.2.2.2.2.2) (fun x => [(3, .int (bB x.2.2.1)), (2, .int (nI x.2.1)), (1, .ref q0), (0, .ref (a 0))]) (fun x => rdW g a us bn (A 0) t1 mb ln t ko fo dd q0 qn x.2.2.2.2.1 (kf ko x.2.2.2.2.2.1 4) x.2.2.2.1 ++ ((a 1, .inl (g.2 0, 8, .inl od)) :: (a 2, .inl (g.2 0, 8, .inl tk)) :: sw g A nb nl nc x.2.2.2.2.2.2.1 x.2.2.2.2.2.2.2 Y)) (ln + 3, 0, (xro t ln 0 (fun _ => 0)).1, (xro t ln 0 (fun _ => 0)).2.1, (xro t ln 0 (fun _ => 0)).2.2, hv t ln (sk t ln 0), r, b) (show (29 : Nat) = 29 + (ln + 3 - (ln + 3)) by omega) (show (182 : Nat) = 182 + 6 * (ln + 3 - (ln + 3)) by omega) rfl rfl ⟨Nat.le_refl _, hr2, ⟨by dsimp only; omega, fun _ => by dsimp only; omega⟩, fun h => xro_ok h, hsp, rfl⟩ ?_
    rintro ⟨f2, dn, ok2, q2, td2, sg, r2, b2⟩ ⟨hfl, hq2, ⟨hf2, hf3⟩, hmn, hsp2, hx⟩ ih
    dsimp only at hfl hq2 hf2 hf3 hmn hsp2 hx ih ⊢
    obtain ⟨f2, rfl⟩ : ∃ z, f2 = z + 1 := ⟨f2 - 1, by omega⟩
    refine v_iload_n C dX0_orders_31 0 rfl ?_
    refine v_if_eq C 98 dX0_orders_32 (by decide) (fun c32_2 => ?_) (fun c32_2 => ?_)
    · skip
      have hof := bB_0 c32_2
      have hfin : xoZ t ln nb nl r b = (dn, r2, b2) := by rw [hx, xoL, hof, if_neg Bool.false_ne_true]
      refine v_drop (ws' := cw g a A nb nl nc r2 b2 od us tk bn (txW g a t1 mb ln t ko fo dd ++ Y)) (wd := [_, _]) (ow_perm.trans ((List.Perm.cons _ List.perm_append_comm).trans (List.Perm.swap _ _ _)).symm.symm |>.trans ((List.Perm.swap _ _ _).trans (List.perm_append_comm (l₁ := [_, _])))) ?_
      refine v_iload_n C dX0_orders_98 1 rfl ?_
      exact v_iret C dX0_orders_99 (show 29 + (ln + 3 - (f2 + 1)) ≤ 152 by omega) (show 182 + 6 * (ln + 3 - (f2 + 1)) ≤ 920 by omega) (by unfold y_orders; rw [if_pos htf, hfin]; exact ⟨rfl, A, od, us, tk, bn, cw_sufp (by rw [← hs1]; exact (perm_mid (txW g a t1 mb ln t ko fo dd) _ _).trans ((perm_mid (txW g a t1 mb ln t ko fo dd) _ X2).append_left _))⟩)
    · skip
      have hok := bB_1 c32_2
      have hm0 := hmn hok
      have hf4 := hf3 hok
      rcases kf_4 ko sg with ⟨hm, hkf⟩ | ⟨hm, hkf⟩ | ⟨hm, hkf⟩ | ⟨hm, hkf⟩ | ⟨hm, hkf⟩
      · exact absurd hm hm0
      · skip
        have hjx : jx sg = 0 := by rw [hm]; rfl
        rw [hkf]
        refine v_aload_n C dX0_orders_35 2 rfl ?_
        refine v_getN C in_X7 rfl 0 rfl 1 (by decide) q1059 (fun _ h => h) rfl dX0_orders_36 ?_
        refine v_getN C in_X2 rfl 6 rfl 2 (by decide) q388 (fun _ h => h) rfl dX0_orders_39 ?_
        refine v_aload_n C dX0_orders_42 2 rfl ?_
        refine v_getN C in_X7 rfl 0 rfl 0 (by decide) q1057 (fun _ h => h) rfl dX0_orders_43 ?_
        obtain ⟨iz, hiz⟩ := List.getElem?_of_mem (mem_oY (g := g) (a := a) (A := A) (nb := nb) (nl := nl) (nc := nc) (r := r2) (b := b2) (od := od) (us := us) (tk := tk) (bn := bn) (t1 := t1) (mb := mb) (ln := ln) (t := t) (ko := ko) (fo := fo) (dd := dd) (q0 := q0) (qn := qn) (td := td2) (o := (some (ko 0))) (k := q2) (hY (lamC g 0 (fo 0) (a 0)) (by simp)))
        refine v_lam C rfl (i := 0) (by decide) (x_lam0 l g qn td2 a A nb nl nc r2 b2 od us tk bn (txW g a t1 mb ln t ko fo dd ++ Y) hnb hnl hnc hsp2) (fun rv w h => ⟨_, h.1⟩) q264 q263 qs0 q89 q1116 (Nat.le_of_ble_eq_true rfl) iz hiz 1 rfl dX0_orders_46 (Nat.le_of_ble_eq_true rfl) (Nat.le_of_ble_eq_true rfl) (show 29 + (ln + 3 - (f2 + 1)) + 1 ≤ 152 by omega) (show 182 + 6 * (ln + 3 - (f2 + 1)) + 6 ≤ 920 by omega) ow_perm ?_
        rintro _ _ ⟨rfl, rfl⟩
        refine v_widen (cells' := 29 + (ln + 3 - (f2 + 1)) + 1) (slots' := 182 + 6 * (ln + 3 - (f2 + 1)) + 6) (Nat.le_refl _) (Nat.le_refl _) ?_
        refine v_perm (ws' := (rdW g a us bn (A 0) t1 mb ln t ko fo dd q0 qn td2 (some (ko 0)) q2 ++ ((a 1, .inl (g.2 0, 8, .inl od)) :: (a 2, .inl (g.2 0, 8, .inl tk)) :: sw g A nb nl nc (xlR r2 nb nl td2).2 b2 Y))) ow_perm.symm ?_
        refine v_st (st' := [_]) rfl ?_
        refine v_if_ne C 98 dX0_orders_51 (by decide) (fun c51_3 => ?_) (fun c51_3 => ?_)
        · skip
          have hF : ¬ (xlR r2 nb nl td2).1 = 0 := c51_3
          have hfin : xoZ t ln nb nl r b = (dn, (xlR r2 nb nl td2).2, b2) := by rw [hx, xoL, if_pos hok, hjx, if_neg (show ¬ (xcF r2 nb nl 0 td2).1 = 0 from hF)]; rfl
          refine v_drop (ws' := cw g a A nb nl nc (xlR r2 nb nl td2).2 b2 od us tk bn (txW g a t1 mb ln t ko fo dd ++ Y)) (wd := [_, _]) (ow_perm.trans ((List.Perm.cons _ List.perm_append_comm).trans (List.Perm.swap _ _ _)).symm.symm |>.trans ((List.Perm.swap _ _ _).trans (List.perm_append_comm (l₁ := [_, _])))) ?_
          refine v_iload_n C dX0_orders_98 1 rfl ?_
          exact v_iret C dX0_orders_99 (show 29 + (ln + 3 - (f2 + 1)) + 1 ≤ 152 by omega) (show 182 + 6 * (ln + 3 - (f2 + 1)) + 6 ≤ 920 by omega) (by unfold y_orders; rw [if_pos htf, hfin]; exact ⟨rfl, A, od, us, tk, bn, cw_sufp (by rw [← hs1]; exact (perm_mid (txW g a t1 mb ln t ko fo dd) _ _).trans ((perm_mid (txW g a t1 mb ln t ko fo dd) _ X2).append_left _))⟩)
        · skip
          have hF : (xlR r2 nb nl td2).1 = 0 := c51_3
          have hF0 : 0 ≤ (xlR r2 nb nl td2).1 := by rw [hF]; decide
          have hF2 := (x_rF_ok hF0).2
          rw [show (xlR r2 nb nl td2).2 = r2 from hF2]
          refine v_aload_n C dX0_orders_54 2 rfl ?_
          refine v_getN C in_X7 rfl 0 rfl 1 (by decide) q1059 (fun _ h => h) rfl dX0_orders_55 ?_
          refine v_getN C in_X2 rfl 6 rfl 3 (by decide) q390 (fun _ h => h) rfl dX0_orders_58 ?_
          refine v_aload_n C dX0_orders_61 2 rfl ?_
          refine v_getN C in_X7 rfl 0 rfl 0 (by decide) q1057 (fun _ h => h) rfl dX0_orders_62 ?_
          obtain ⟨iz, hiz⟩ := List.getElem?_of_mem (mem_oY (g := g) (a := a) (A := A) (nb := nb) (nl := nl) (nc := nc) (r := r2) (b := b2) (od := od) (us := us) (tk := tk) (bn := bn) (t1 := t1) (mb := mb) (ln := ln) (t := t) (ko := ko) (fo := fo) (dd := dd) (q0 := q0) (qn := qn) (td := td2) (o := (some (ko 0))) (k := q2) (hY (lamC g 1 (dd 0) (a 0)) (by simp)))
          refine v_lam C rfl (i := 1) (by decide) (x_lam1 l g qn td2 a A nb nl nc r2 b2 od us tk bn (txW g a t1 mb ln t ko fo dd ++ Y) hnb hnl hnc hsp2 hF0) (fun rv w h => ⟨_, h.1⟩) q332 q331 qs4 q89 q1116 (Nat.le_of_ble_eq_true rfl) iz hiz 1 rfl dX0_orders_65 (Nat.le_of_ble_eq_true rfl) (Nat.le_of_ble_eq_true rfl) (show 29 + (ln + 3 - (f2 + 1)) + 1 + 0 ≤ 152 by omega) (show 182 + 6 * (ln + 3 - (f2 + 1)) + 6 + 0 ≤ 920 by omega) ow_perm ?_
          rintro _ _ ⟨rfl, rfl⟩
          refine v_widen (cells' := 29 + (ln + 3 - (f2 + 1)) + 1) (slots' := 182 + 6 * (ln + 3 - (f2 + 1)) + 6) (Nat.le_refl _) (Nat.le_refl _) ?_
          refine v_perm (ws' := (rdW g a us bn (A 0) t1 mb ln t ko fo dd q0 qn td2 (some (ko 0)) q2 ++ ((a 1, .inl (g.2 0, 8, .inl od)) :: (a 2, .inl (g.2 0, 8, .inl tk)) :: sw g A nb nl nc (xlRr r2 nb td2) (xlRb r2 b2 nb td2) Y))) ow_perm.symm ?_
          refine v_st (st' := [_]) rfl ?_
          refine v_istore (lv' := [(4, _), (3, _), (2, _), (1, _), (0, _)]) C dX0_orders_70 (by decide) rfl ?_
          refine v_iinc (lv' := [(2, _), (4, _), (3, _), (1, _), (0, _)]) C dX0_orders_72 2 rfl (nI_1 dn) (by decide) rfl ?_
          refine v_aload_n C dX0_orders_75 3 rfl ?_
          refine v_callV (wr := ((a 1, .inl (g.2 0, 8, .inl od)) :: (a 2, .inl (g.2 0, 8, .inl tk)) :: sw g A nb nl nc (xlRr r2 nb td2) (xlRb r2 b2 nb td2) Y)) C (x_goesOn l g a us bn (A 0) t1 mb ln t ko fo dd q0 qn td2 (some (ko 0)) q2 h120 hq2 hch) ok_X7_goesOn rfl q1102 rfl (Nat.le_of_ble_eq_true rfl) 0 rfl rfl rfl dX0_orders_76 (roomN rfl (show 29 + (ln + 3 - (f2 + 1)) + 1 + 0 ≤ 152 by omega) (show 182 + 6 * (ln + 3 - (f2 + 1)) + 6 + 0 ≤ 920 by omega)) (List.Perm.refl _) ?_
          rintro _ _ ⟨rfl, rfl⟩
          refine v_widen (cells' := 29 + (ln + 3 - (f2 + 1)) + 1) (slots' := 182 + 6 * (ln + 3 - (f2 + 1)) + 6) (Nat.le_refl _) (Nat.le_refl _) ?_
          refine v_ws (ws' := (rdW g a us bn (A 0) t1 mb ln t ko fo dd q0 qn td2 (some (ko 0)) (xA t ln q2 59) ++ ((a 1, .inl (g.2 0, 8, .inl od)) :: (a 2, .inl (g.2 0, 8, .inl tk)) :: sw g A nb nl nc (xlRr r2 nb td2) (xlRb r2 b2 nb td2) Y))) rfl ?_
          refine v_st (st' := [_]) rfl ?_
          refine v_if_eqB C 93 dX0_orders_79 (by decide) (fun c79_4 => ?_) (fun c79_4 => ?_)
          · skip
            have hgo := c79_4
            rw [show xA t ln q2 59 = sk t ln q2 from if_neg c79_4]
            refine v_iconst (v := 0) C dX0_orders_93 (by decide) ?_
            refine v_istore_n (lv' := [(3, _), (2, _), (4, _), (1, _), (0, _)]) C dX0_orders_94 rfl (by decide) rfl ?_
            refine v_goto C 31 dX0_orders_95 (by decide) ?_
            refine v_lvp (lv' := [(3, _), (2, _), (1, _), (0, _)]) [0, 1, 3, 4] rfl ?_
            have hspD : ∀ i, i < nl → (xlRr r2 nb td2) (82 + 4 * i + 0) = r2 (82 + 4 * i + 0) := fun i hi => by
              have h9 := xcD_sp (b := b2) (j := 0) hnb hnl (show (xcF r2 nb nl 0 td2).1 = 0 from hF) hi
              exact h9
            refine v_widen (cells' := 29 + (ln + 3 - f2)) (slots' := 182 + 6 * (ln + 3 - f2)) (show 29 + (ln + 3 - (f2 + 1)) + 1 ≤ _ by omega) (show 182 + 6 * (ln + 3 - (f2 + 1)) + 6 ≤ _ by omega) ?_
            refine v_ws (ws' := rdW g a us bn (A 0) t1 mb ln t ko fo dd q0 qn td2 (kf ko sg 4) (sk t ln q2) ++ ((a 1, .inl (g.2 0, 8, .inl od)) :: (a 2, .inl (g.2 0, 8, .inl tk)) :: sw g A nb nl nc (xlRr r2 nb td2) (xlRb r2 b2 nb td2) Y)) (by rw [hkf]) ?_
            exact ih (f2, dn + 1, false, sk t ln q2, td2, sg, (xlRr r2 nb td2), (xlRb r2 b2 nb td2)) ⟨by dsimp only; omega, (sk_le (t := t) hq2).2, ⟨by dsimp only; have := sk_le (t := t) hq2; omega, fun h => absurd (show false = true from h) (by decide)⟩, fun h => absurd (show false = true from h) (by decide), (fun i hi => by dsimp only; rw [hspD i hi]; exact hsp2 i hi), by dsimp only; rw [hx, xoL, if_pos hok, hjx, if_pos (show (xcF r2 nb nl 0 td2).1 = 0 from hF), if_neg hgo]; cases f2 <;> rfl⟩ (by dsimp only; omega)
          · skip
            have hgo := c79_4
            have hl9 := hv_lt (show hv t ln (sk t ln q2) = 59 from c79_4) (by decide)
            have hk1 : sk t ln q2 + 1 ≤ ln := by omega
            obtain ⟨hr3, hr4⟩ := xro_le t ln (sk t ln q2 + 1) td2 hk1
            have hsk9 := sk_le (t := t) hq2
            rw [show xA t ln q2 59 = sk t ln q2 + 1 from if_pos c79_4]
            refine v_aload_n C dX0_orders_82 3 rfl ?_
            refine v_callV (wr := ((a 1, .inl (g.2 0, 8, .inl od)) :: (a 2, .inl (g.2 0, 8, .inl tk)) :: sw g A nb nl nc (xlRr r2 nb td2) (xlRb r2 b2 nb td2) Y)) C (x_readsOrd l g a us bn (A 0) t1 mb ln t ko fo dd q0 qn td2 (some (ko 0)) (sk t ln q2 + 1) h120 hk1 hch) ok_X7_readsOrder rfl q1072 rfl (Nat.le_of_ble_eq_true rfl) 0 rfl rfl rfl dX0_orders_83 (roomN rfl (show 29 + (ln + 3 - (f2 + 1)) + 1 + 0 ≤ 152 by omega) (show 182 + 6 * (ln + 3 - (f2 + 1)) + 6 + 0 ≤ 920 by omega)) (List.Perm.refl _) ?_
            rintro _ _ ⟨rfl, rfl⟩
            refine v_widen (cells' := 29 + (ln + 3 - (f2 + 1)) + 1) (slots' := 182 + 6 * (ln + 3 - (f2 + 1)) + 6) (Nat.le_refl _) (Nat.le_refl _) ?_
            refine v_ws (ws' := (rdW g a us bn (A 0) t1 mb ln t ko fo dd q0 qn (xro t ln (sk t ln q2 + 1) td2).2.2 (kf ko (hv t ln (sk t ln (sk t ln q2 + 1))) 4) (xro t ln (sk t ln q2 + 1) td2).2.1 ++ ((a 1, .inl (g.2 0, 8, .inl od)) :: (a 2, .inl (g.2 0, 8, .inl tk)) :: sw g A nb nl nc (xlRr r2 nb td2) (xlRb r2 b2 nb td2) Y))) rfl ?_
            refine v_st (st' := [_]) rfl ?_
            refine v_ternI C 93 94 dX0_orders_89 dX0_orders_90 dX0_orders_93 (by decide) rfl (fun ht hf => v_if_eq C 93 dX0_orders_86 (by decide) (fun q => ht (fun n => n q)) (fun q => hf q)) ?_
            refine v_eqi (bI_nb _) ?_
            refine v_istore_n (lv' := [(3, _), (2, _), (4, _), (1, _), (0, _)]) C dX0_orders_94 rfl (by decide) rfl ?_
            refine v_goto C 31 dX0_orders_95 (by decide) ?_
            refine v_lvp (lv' := [(3, _), (2, _), (1, _), (0, _)]) [0, 1, 3, 4] rfl ?_
            have hspD : ∀ i, i < nl → (xlRr r2 nb td2) (82 + 4 * i + 0) = r2 (82 + 4 * i + 0) := fun i hi => by
              have h9 := xcD_sp (b := b2) (j := 0) hnb hnl (show (xcF r2 nb nl 0 td2).1 = 0 from hF) hi
              exact h9
            refine v_widen (cells' := 29 + (ln + 3 - f2)) (slots' := 182 + 6 * (ln + 3 - f2)) (show 29 + (ln + 3 - (f2 + 1)) + 1 ≤ _ by omega) (show 182 + 6 * (ln + 3 - (f2 + 1)) + 6 ≤ _ by omega) ?_
            exact ih (f2, dn + 1, (xro t ln (sk t ln q2 + 1) td2).1, (xro t ln (sk t ln q2 + 1) td2).2.1, (xro t ln (sk t ln q2 + 1) td2).2.2, hv t ln (sk t ln (sk t ln q2 + 1)), (xlRr r2 nb td2), (xlRb r2 b2 nb td2)) ⟨by dsimp only; omega, hr4, ⟨by dsimp only; omega, fun _ => by dsimp only; omega⟩, fun h => xro_ok h, (fun i hi => by dsimp only; rw [hspD i hi]; exact hsp2 i hi), by dsimp only; rw [hx, xoL, if_pos hok, hjx, if_pos (show (xcF r2 nb nl 0 td2).1 = 0 from hF), if_pos hgo]; rfl⟩ (by dsimp only; omega)
      · skip
        have hjx : jx sg = 1 := by rw [hm]; rfl
        rw [hkf]
        refine v_aload_n C dX0_orders_35 2 rfl ?_
        refine v_getN C in_X7 rfl 0 rfl 1 (by decide) q1059 (fun _ h => h) rfl dX0_orders_36 ?_
        refine v_getN C in_X2 rfl 7 rfl 2 (by decide) q388 (fun _ h => h) rfl dX0_orders_39 ?_
        refine v_aload_n C dX0_orders_42 2 rfl ?_
        refine v_getN C in_X7 rfl 0 rfl 0 (by decide) q1057 (fun _ h => h) rfl dX0_orders_43 ?_
        obtain ⟨iz, hiz⟩ := List.getElem?_of_mem (mem_oY (g := g) (a := a) (A := A) (nb := nb) (nl := nl) (nc := nc) (r := r2) (b := b2) (od := od) (us := us) (tk := tk) (bn := bn) (t1 := t1) (mb := mb) (ln := ln) (t := t) (ko := ko) (fo := fo) (dd := dd) (q0 := q0) (qn := qn) (td := td2) (o := (some (ko 1))) (k := q2) (hY (lamC g 2 (fo 1) (a 0)) (by simp)))
        refine v_lam C rfl (i := 2) (by decide) (x_lam2 l g qn td2 a A nb nl nc r2 b2 od us tk bn (txW g a t1 mb ln t ko fo dd ++ Y) hnb hnl hnc hsp2) (fun rv w h => ⟨_, h.1⟩) q402 q401 qs6 q89 q1116 (Nat.le_of_ble_eq_true rfl) iz hiz 1 rfl dX0_orders_46 (Nat.le_of_ble_eq_true rfl) (Nat.le_of_ble_eq_true rfl) (show 29 + (ln + 3 - (f2 + 1)) + 1 ≤ 152 by omega) (show 182 + 6 * (ln + 3 - (f2 + 1)) + 6 ≤ 920 by omega) ow_perm ?_
        rintro _ _ ⟨rfl, rfl⟩
        refine v_widen (cells' := 29 + (ln + 3 - (f2 + 1)) + 1) (slots' := 182 + 6 * (ln + 3 - (f2 + 1)) + 6) (Nat.le_refl _) (Nat.le_refl _) ?_
        refine v_perm (ws' := (rdW g a us bn (A 0) t1 mb ln t ko fo dd q0 qn td2 (some (ko 1)) q2 ++ ((a 1, .inl (g.2 0, 8, .inl od)) :: (a 2, .inl (g.2 0, 8, .inl tk)) :: sw g A nb nl nc (xlM r2 nb nl td2).2 b2 Y))) ow_perm.symm ?_
        refine v_st (st' := [_]) rfl ?_
        refine v_if_ne C 98 dX0_orders_51 (by decide) (fun c51_5 => ?_) (fun c51_5 => ?_)
        · skip
          have hF : ¬ (xlM r2 nb nl td2).1 = 0 := c51_5
          have hfin : xoZ t ln nb nl r b = (dn, (xlM r2 nb nl td2).2, b2) := by rw [hx, xoL, if_pos hok, hjx, if_neg (show ¬ (xcF r2 nb nl 1 td2).1 = 0 from hF)]; rfl
          refine v_drop (ws' := cw g a A nb nl nc (xlM r2 nb nl td2).2 b2 od us tk bn (txW g a t1 mb ln t ko fo dd ++ Y)) (wd := [_, _]) (ow_perm.trans ((List.Perm.cons _ List.perm_append_comm).trans (List.Perm.swap _ _ _)).symm.symm |>.trans ((List.Perm.swap _ _ _).trans (List.perm_append_comm (l₁ := [_, _])))) ?_
          refine v_iload_n C dX0_orders_98 1 rfl ?_
          exact v_iret C dX0_orders_99 (show 29 + (ln + 3 - (f2 + 1)) + 1 ≤ 152 by omega) (show 182 + 6 * (ln + 3 - (f2 + 1)) + 6 ≤ 920 by omega) (by unfold y_orders; rw [if_pos htf, hfin]; exact ⟨rfl, A, od, us, tk, bn, cw_sufp (by rw [← hs1]; exact (perm_mid (txW g a t1 mb ln t ko fo dd) _ _).trans ((perm_mid (txW g a t1 mb ln t ko fo dd) _ X2).append_left _))⟩)
        · skip
          have hF : (xlM r2 nb nl td2).1 = 0 := c51_5
          have hF0 : 0 ≤ (xlM r2 nb nl td2).1 := by rw [hF]; decide
          have hF2 := (x_mF_ok hF0).2.2
          rw [show (xlM r2 nb nl td2).2 = r2 from hF2]
          refine v_aload_n C dX0_orders_54 2 rfl ?_
          refine v_getN C in_X7 rfl 0 rfl 1 (by decide) q1059 (fun _ h => h) rfl dX0_orders_55 ?_
          refine v_getN C in_X2 rfl 7 rfl 3 (by decide) q390 (fun _ h => h) rfl dX0_orders_58 ?_
          refine v_aload_n C dX0_orders_61 2 rfl ?_
          refine v_getN C in_X7 rfl 0 rfl 0 (by decide) q1057 (fun _ h => h) rfl dX0_orders_62 ?_
          obtain ⟨iz, hiz⟩ := List.getElem?_of_mem (mem_oY (g := g) (a := a) (A := A) (nb := nb) (nl := nl) (nc := nc) (r := r2) (b := b2) (od := od) (us := us) (tk := tk) (bn := bn) (t1 := t1) (mb := mb) (ln := ln) (t := t) (ko := ko) (fo := fo) (dd := dd) (q0 := q0) (qn := qn) (td := td2) (o := (some (ko 1))) (k := q2) (hY (lamC g 3 (dd 1) (a 0)) (by simp)))
          refine v_lam C rfl (i := 3) (by decide) (x_lam3 l g qn td2 a A nb nl nc r2 b2 od us tk bn (txW g a t1 mb ln t ko fo dd ++ Y) hnb hnl hnc hsp2 hF0) (fun rv w h => ⟨_, h.1⟩) q422 q421 qs9 q89 q1116 (Nat.le_of_ble_eq_true rfl) iz hiz 1 rfl dX0_orders_65 (Nat.le_of_ble_eq_true rfl) (Nat.le_of_ble_eq_true rfl) (show 29 + (ln + 3 - (f2 + 1)) + 1 + 0 ≤ 152 by omega) (show 182 + 6 * (ln + 3 - (f2 + 1)) + 6 + 0 ≤ 920 by omega) ow_perm ?_
          rintro _ _ ⟨rfl, rfl⟩
          refine v_widen (cells' := 29 + (ln + 3 - (f2 + 1)) + 1) (slots' := 182 + 6 * (ln + 3 - (f2 + 1)) + 6) (Nat.le_refl _) (Nat.le_refl _) ?_
          refine v_perm (ws' := (rdW g a us bn (A 0) t1 mb ln t ko fo dd q0 qn td2 (some (ko 1)) q2 ++ ((a 1, .inl (g.2 0, 8, .inl od)) :: (a 2, .inl (g.2 0, 8, .inl tk)) :: sw g A nb nl nc (xlMr r2 nb td2) b2 Y))) ow_perm.symm ?_
          refine v_st (st' := [_]) rfl ?_
          refine v_istore (lv' := [(4, _), (3, _), (2, _), (1, _), (0, _)]) C dX0_orders_70 (by decide) rfl ?_
          refine v_iinc (lv' := [(2, _), (4, _), (3, _), (1, _), (0, _)]) C dX0_orders_72 2 rfl (nI_1 dn) (by decide) rfl ?_
          refine v_aload_n C dX0_orders_75 3 rfl ?_
          refine v_callV (wr := ((a 1, .inl (g.2 0, 8, .inl od)) :: (a 2, .inl (g.2 0, 8, .inl tk)) :: sw g A nb nl nc (xlMr r2 nb td2) b2 Y)) C (x_goesOn l g a us bn (A 0) t1 mb ln t ko fo dd q0 qn td2 (some (ko 1)) q2 h120 hq2 hch) ok_X7_goesOn rfl q1102 rfl (Nat.le_of_ble_eq_true rfl) 0 rfl rfl rfl dX0_orders_76 (roomN rfl (show 29 + (ln + 3 - (f2 + 1)) + 1 + 0 ≤ 152 by omega) (show 182 + 6 * (ln + 3 - (f2 + 1)) + 6 + 0 ≤ 920 by omega)) (List.Perm.refl _) ?_
          rintro _ _ ⟨rfl, rfl⟩
          refine v_widen (cells' := 29 + (ln + 3 - (f2 + 1)) + 1) (slots' := 182 + 6 * (ln + 3 - (f2 + 1)) + 6) (Nat.le_refl _) (Nat.le_refl _) ?_
          refine v_ws (ws' := (rdW g a us bn (A 0) t1 mb ln t ko fo dd q0 qn td2 (some (ko 1)) (xA t ln q2 59) ++ ((a 1, .inl (g.2 0, 8, .inl od)) :: (a 2, .inl (g.2 0, 8, .inl tk)) :: sw g A nb nl nc (xlMr r2 nb td2) b2 Y))) rfl ?_
          refine v_st (st' := [_]) rfl ?_
          refine v_if_eqB C 93 dX0_orders_79 (by decide) (fun c79_6 => ?_) (fun c79_6 => ?_)
          · skip
            have hgo := c79_6
            rw [show xA t ln q2 59 = sk t ln q2 from if_neg c79_6]
            refine v_iconst (v := 0) C dX0_orders_93 (by decide) ?_
            refine v_istore_n (lv' := [(3, _), (2, _), (4, _), (1, _), (0, _)]) C dX0_orders_94 rfl (by decide) rfl ?_
            refine v_goto C 31 dX0_orders_95 (by decide) ?_
            refine v_lvp (lv' := [(3, _), (2, _), (1, _), (0, _)]) [0, 1, 3, 4] rfl ?_
            have hspD : ∀ i, i < nl → (xlMr r2 nb td2) (82 + 4 * i + 0) = r2 (82 + 4 * i + 0) := fun i hi => by
              have h9 := xcD_sp (b := b2) (j := 1) hnb hnl (show (xcF r2 nb nl 1 td2).1 = 0 from hF) hi
              exact h9
            refine v_widen (cells' := 29 + (ln + 3 - f2)) (slots' := 182 + 6 * (ln + 3 - f2)) (show 29 + (ln + 3 - (f2 + 1)) + 1 ≤ _ by omega) (show 182 + 6 * (ln + 3 - (f2 + 1)) + 6 ≤ _ by omega) ?_
            refine v_ws (ws' := rdW g a us bn (A 0) t1 mb ln t ko fo dd q0 qn td2 (kf ko sg 4) (sk t ln q2) ++ ((a 1, .inl (g.2 0, 8, .inl od)) :: (a 2, .inl (g.2 0, 8, .inl tk)) :: sw g A nb nl nc (xlMr r2 nb td2) b2 Y)) (by rw [hkf]) ?_
            exact ih (f2, dn + 1, false, sk t ln q2, td2, sg, (xlMr r2 nb td2), b2) ⟨by dsimp only; omega, (sk_le (t := t) hq2).2, ⟨by dsimp only; have := sk_le (t := t) hq2; omega, fun h => absurd (show false = true from h) (by decide)⟩, fun h => absurd (show false = true from h) (by decide), (fun i hi => by dsimp only; rw [hspD i hi]; exact hsp2 i hi), by dsimp only; rw [hx, xoL, if_pos hok, hjx, if_pos (show (xcF r2 nb nl 1 td2).1 = 0 from hF), if_neg hgo]; cases f2 <;> rfl⟩ (by dsimp only; omega)
          · skip
            have hgo := c79_6
            have hl9 := hv_lt (show hv t ln (sk t ln q2) = 59 from c79_6) (by decide)
            have hk1 : sk t ln q2 + 1 ≤ ln := by omega
            obtain ⟨hr3, hr4⟩ := xro_le t ln (sk t ln q2 + 1) td2 hk1
            have hsk9 := sk_le (t := t) hq2
            rw [show xA t ln q2 59 = sk t ln q2 + 1 from if_pos c79_6]
            refine v_aload_n C dX0_orders_82 3 rfl ?_
            refine v_callV (wr := ((a 1, .inl (g.2 0, 8, .inl od)) :: (a 2, .inl (g.2 0, 8, .inl tk)) :: sw g A nb nl nc (xlMr r2 nb td2) b2 Y)) C (x_readsOrd l g a us bn (A 0) t1 mb ln t ko fo dd q0 qn td2 (some (ko 1)) (sk t ln q2 + 1) h120 hk1 hch) ok_X7_readsOrder rfl q1072 rfl (Nat.le_of_ble_eq_true rfl) 0 rfl rfl rfl dX0_orders_83 (roomN rfl (show 29 + (ln + 3 - (f2 + 1)) + 1 + 0 ≤ 152 by omega) (show 182 + 6 * (ln + 3 - (f2 + 1)) + 6 + 0 ≤ 920 by omega)) (List.Perm.refl _) ?_
            rintro _ _ ⟨rfl, rfl⟩
            refine v_widen (cells' := 29 + (ln + 3 - (f2 + 1)) + 1) (slots' := 182 + 6 * (ln + 3 - (f2 + 1)) + 6) (Nat.le_refl _) (Nat.le_refl _) ?_
            refine v_ws (ws' := (rdW g a us bn (A 0) t1 mb ln t ko fo dd q0 qn (xro t ln (sk t ln q2 + 1) td2).2.2 (kf ko (hv t ln (sk t ln (sk t ln q2 + 1))) 4) (xro t ln (sk t ln q2 + 1) td2).2.1 ++ ((a 1, .inl (g.2 0, 8, .inl od)) :: (a 2, .inl (g.2 0, 8, .inl tk)) :: sw g A nb nl nc (xlMr r2 nb td2) b2 Y))) rfl ?_
            refine v_st (st' := [_]) rfl ?_
            refine v_ternI C 93 94 dX0_orders_89 dX0_orders_90 dX0_orders_93 (by decide) rfl (fun ht hf => v_if_eq C 93 dX0_orders_86 (by decide) (fun q => ht (fun n => n q)) (fun q => hf q)) ?_
            refine v_eqi (bI_nb _) ?_
            refine v_istore_n (lv' := [(3, _), (2, _), (4, _), (1, _), (0, _)]) C dX0_orders_94 rfl (by decide) rfl ?_
            refine v_goto C 31 dX0_orders_95 (by decide) ?_
            refine v_lvp (lv' := [(3, _), (2, _), (1, _), (0, _)]) [0, 1, 3, 4] rfl ?_
            have hspD : ∀ i, i < nl → (xlMr r2 nb td2) (82 + 4 * i + 0) = r2 (82 + 4 * i + 0) := fun i hi => by
              have h9 := xcD_sp (b := b2) (j := 1) hnb hnl (show (xcF r2 nb nl 1 td2).1 = 0 from hF) hi
              exact h9
            refine v_widen (cells' := 29 + (ln + 3 - f2)) (slots' := 182 + 6 * (ln + 3 - f2)) (show 29 + (ln + 3 - (f2 + 1)) + 1 ≤ _ by omega) (show 182 + 6 * (ln + 3 - (f2 + 1)) + 6 ≤ _ by omega) ?_
            exact ih (f2, dn + 1, (xro t ln (sk t ln q2 + 1) td2).1, (xro t ln (sk t ln q2 + 1) td2).2.1, (xro t ln (sk t ln q2 + 1) td2).2.2, hv t ln (sk t ln (sk t ln q2 + 1)), (xlMr r2 nb td2), b2) ⟨by dsimp only; omega, hr4, ⟨by dsimp only; omega, fun _ => by dsimp only; omega⟩, fun h => xro_ok h, (fun i hi => by dsimp only; rw [hspD i hi]; exact hsp2 i hi), by dsimp only; rw [hx, xoL, if_pos hok, hjx, if_pos (show (xcF r2 nb nl 1 td2).1 = 0 from hF), if_pos hgo]; rfl⟩ (by dsimp only; omega)
      · skip
        have hjx : jx sg = 2 := by rw [hm]; rfl
        rw [hkf]
        refine v_aload_n C dX0_orders_35 2 rfl ?_
        refine v_getN C in_X7 rfl 0 rfl 1 (by decide) q1059 (fun _ h => h) rfl dX0_orders_36 ?_
        refine v_getN C in_X2 rfl 8 rfl 2 (by decide) q388 (fun _ h => h) rfl dX0_orders_39 ?_
        refine v_aload_n C dX0_orders_42 2 rfl ?_
        refine v_getN C in_X7 rfl 0 rfl 0 (by decide) q1057 (fun _ h => h) rfl dX0_orders_43 ?_
        obtain ⟨iz, hiz⟩ := List.getElem?_of_mem (mem_oY (g := g) (a := a) (A := A) (nb := nb) (nl := nl) (nc := nc) (r := r2) (b := b2) (od := od) (us := us) (tk := tk) (bn := bn) (t1 := t1) (mb := mb) (ln := ln) (t := t) (ko := ko) (fo := fo) (dd := dd) (q0 := q0) (qn := qn) (td := td2) (o := (some (ko 2))) (k := q2) (hY (lamC g 4 (fo 2) (a 0)) (by simp)))
        refine v_lam C rfl (i := 4) (by decide) (x_lam4 l g qn td2 a A nb nl nc r2 b2 od us tk bn (txW g a t1 mb ln t ko fo dd ++ Y) hnb hnl hnc ) (fun rv w h => ⟨_, h.1⟩) q439 q438 qs12 q89 q1116 (Nat.le_of_ble_eq_true rfl) iz hiz 1 rfl dX0_orders_46 (Nat.le_of_ble_eq_true rfl) (Nat.le_of_ble_eq_true rfl) (show 29 + (ln + 3 - (f2 + 1)) + 0 ≤ 152 by omega) (show 182 + 6 * (ln + 3 - (f2 + 1)) + 0 ≤ 920 by omega) ow_perm ?_
        rintro _ _ ⟨rfl, rfl⟩
        refine v_widen (cells' := 29 + (ln + 3 - (f2 + 1))) (slots' := 182 + 6 * (ln + 3 - (f2 + 1))) (Nat.le_refl _) (Nat.le_refl _) ?_
        refine v_perm (ws' := (rdW g a us bn (A 0) t1 mb ln t ko fo dd q0 qn td2 (some (ko 2)) q2 ++ ((a 1, .inl (g.2 0, 8, .inl od)) :: (a 2, .inl (g.2 0, 8, .inl tk)) :: sw g A nb nl nc r2 b2 Y))) ow_perm.symm ?_
        refine v_st (st' := [_]) rfl ?_
        refine v_if_ne C 98 dX0_orders_51 (by decide) (fun c51_7 => ?_) (fun c51_7 => ?_)
        · skip
          have hF : ¬ (x_cF r2 nl (td2 0) (td2 1)) = 0 := c51_7
          have hfin : xoZ t ln nb nl r b = (dn, r2, b2) := by rw [hx, xoL, if_pos hok, hjx, if_neg (show ¬ (xcF r2 nb nl 2 td2).1 = 0 from hF)]; rfl
          refine v_drop (ws' := cw g a A nb nl nc r2 b2 od us tk bn (txW g a t1 mb ln t ko fo dd ++ Y)) (wd := [_, _]) (ow_perm.trans ((List.Perm.cons _ List.perm_append_comm).trans (List.Perm.swap _ _ _)).symm.symm |>.trans ((List.Perm.swap _ _ _).trans (List.perm_append_comm (l₁ := [_, _])))) ?_
          refine v_iload_n C dX0_orders_98 1 rfl ?_
          exact v_iret C dX0_orders_99 (show 29 + (ln + 3 - (f2 + 1)) ≤ 152 by omega) (show 182 + 6 * (ln + 3 - (f2 + 1)) ≤ 920 by omega) (by unfold y_orders; rw [if_pos htf, hfin]; exact ⟨rfl, A, od, us, tk, bn, cw_sufp (by rw [← hs1]; exact (perm_mid (txW g a t1 mb ln t ko fo dd) _ _).trans ((perm_mid (txW g a t1 mb ln t ko fo dd) _ X2).append_left _))⟩)
        · skip
          have hF : (x_cF r2 nl (td2 0) (td2 1)) = 0 := c51_7
          have hF0 : 0 ≤ (x_cF r2 nl (td2 0) (td2 1)) := by rw [hF]; decide
          skip
          refine v_aload_n C dX0_orders_54 2 rfl ?_
          refine v_getN C in_X7 rfl 0 rfl 1 (by decide) q1059 (fun _ h => h) rfl dX0_orders_55 ?_
          refine v_getN C in_X2 rfl 8 rfl 3 (by decide) q390 (fun _ h => h) rfl dX0_orders_58 ?_
          refine v_aload_n C dX0_orders_61 2 rfl ?_
          refine v_getN C in_X7 rfl 0 rfl 0 (by decide) q1057 (fun _ h => h) rfl dX0_orders_62 ?_
          obtain ⟨iz, hiz⟩ := List.getElem?_of_mem (mem_oY (g := g) (a := a) (A := A) (nb := nb) (nl := nl) (nc := nc) (r := r2) (b := b2) (od := od) (us := us) (tk := tk) (bn := bn) (t1 := t1) (mb := mb) (ln := ln) (t := t) (ko := ko) (fo := fo) (dd := dd) (q0 := q0) (qn := qn) (td := td2) (o := (some (ko 2))) (k := q2) (hY (lamC g 5 (dd 2) (a 0)) (by simp)))
          refine v_lam C rfl (i := 5) (by decide) (x_lam5 l g qn td2 a A nb nl nc r2 b2 od us tk bn (txW g a t1 mb ln t ko fo dd ++ Y) hnb hnl hnc hF0) (fun rv w h => ⟨_, h.1⟩) q450 q449 qs15 q89 q1116 (Nat.le_of_ble_eq_true rfl) iz hiz 1 rfl dX0_orders_65 (Nat.le_of_ble_eq_true rfl) (Nat.le_of_ble_eq_true rfl) (show 29 + (ln + 3 - (f2 + 1)) + 0 ≤ 152 by omega) (show 182 + 6 * (ln + 3 - (f2 + 1)) + 0 ≤ 920 by omega) ow_perm ?_
          rintro _ _ ⟨rfl, rfl⟩
          refine v_widen (cells' := 29 + (ln + 3 - (f2 + 1))) (slots' := 182 + 6 * (ln + 3 - (f2 + 1))) (Nat.le_refl _) (Nat.le_refl _) ?_
          refine v_perm (ws' := (rdW g a us bn (A 0) t1 mb ln t ko fo dd q0 qn td2 (some (ko 2)) q2 ++ ((a 1, .inl (g.2 0, 8, .inl od)) :: (a 2, .inl (g.2 0, 8, .inl tk)) :: sw g A nb nl nc (x_cl r2 nb (td2 0).toNatClampNeg (td2 1)) b2 Y))) ow_perm.symm ?_
          refine v_st (st' := [_]) rfl ?_
          refine v_istore (lv' := [(4, _), (3, _), (2, _), (1, _), (0, _)]) C dX0_orders_70 (by decide) rfl ?_
          refine v_iinc (lv' := [(2, _), (4, _), (3, _), (1, _), (0, _)]) C dX0_orders_72 2 rfl (nI_1 dn) (by decide) rfl ?_
          refine v_aload_n C dX0_orders_75 3 rfl ?_
          refine v_callV (wr := ((a 1, .inl (g.2 0, 8, .inl od)) :: (a 2, .inl (g.2 0, 8, .inl tk)) :: sw g A nb nl nc (x_cl r2 nb (td2 0).toNatClampNeg (td2 1)) b2 Y)) C (x_goesOn l g a us bn (A 0) t1 mb ln t ko fo dd q0 qn td2 (some (ko 2)) q2 h120 hq2 hch) ok_X7_goesOn rfl q1102 rfl (Nat.le_of_ble_eq_true rfl) 0 rfl rfl rfl dX0_orders_76 (roomN rfl (show 29 + (ln + 3 - (f2 + 1)) + 0 ≤ 152 by omega) (show 182 + 6 * (ln + 3 - (f2 + 1)) + 0 ≤ 920 by omega)) (List.Perm.refl _) ?_
          rintro _ _ ⟨rfl, rfl⟩
          refine v_widen (cells' := 29 + (ln + 3 - (f2 + 1))) (slots' := 182 + 6 * (ln + 3 - (f2 + 1))) (Nat.le_refl _) (Nat.le_refl _) ?_
          refine v_ws (ws' := (rdW g a us bn (A 0) t1 mb ln t ko fo dd q0 qn td2 (some (ko 2)) (xA t ln q2 59) ++ ((a 1, .inl (g.2 0, 8, .inl od)) :: (a 2, .inl (g.2 0, 8, .inl tk)) :: sw g A nb nl nc (x_cl r2 nb (td2 0).toNatClampNeg (td2 1)) b2 Y))) rfl ?_
          refine v_st (st' := [_]) rfl ?_
          refine v_if_eqB C 93 dX0_orders_79 (by decide) (fun c79_8 => ?_) (fun c79_8 => ?_)
          · skip
            have hgo := c79_8
            rw [show xA t ln q2 59 = sk t ln q2 from if_neg c79_8]
            refine v_iconst (v := 0) C dX0_orders_93 (by decide) ?_
            refine v_istore_n (lv' := [(3, _), (2, _), (4, _), (1, _), (0, _)]) C dX0_orders_94 rfl (by decide) rfl ?_
            refine v_goto C 31 dX0_orders_95 (by decide) ?_
            refine v_lvp (lv' := [(3, _), (2, _), (1, _), (0, _)]) [0, 1, 3, 4] rfl ?_
            have hspD : ∀ i, i < nl → (x_cl r2 nb (td2 0).toNatClampNeg (td2 1)) (82 + 4 * i + 0) = r2 (82 + 4 * i + 0) := fun i hi => by
              have h9 := xcD_sp (b := b2) (j := 2) hnb hnl (show (xcF r2 nb nl 2 td2).1 = 0 from hF) hi
              exact h9
            refine v_widen (cells' := 29 + (ln + 3 - f2)) (slots' := 182 + 6 * (ln + 3 - f2)) (show 29 + (ln + 3 - (f2 + 1)) ≤ _ by omega) (show 182 + 6 * (ln + 3 - (f2 + 1)) ≤ _ by omega) ?_
            refine v_ws (ws' := rdW g a us bn (A 0) t1 mb ln t ko fo dd q0 qn td2 (kf ko sg 4) (sk t ln q2) ++ ((a 1, .inl (g.2 0, 8, .inl od)) :: (a 2, .inl (g.2 0, 8, .inl tk)) :: sw g A nb nl nc (x_cl r2 nb (td2 0).toNatClampNeg (td2 1)) b2 Y)) (by rw [hkf]) ?_
            exact ih (f2, dn + 1, false, sk t ln q2, td2, sg, (x_cl r2 nb (td2 0).toNatClampNeg (td2 1)), b2) ⟨by dsimp only; omega, (sk_le (t := t) hq2).2, ⟨by dsimp only; have := sk_le (t := t) hq2; omega, fun h => absurd (show false = true from h) (by decide)⟩, fun h => absurd (show false = true from h) (by decide), (fun i hi => by dsimp only; rw [hspD i hi]; exact hsp2 i hi), by dsimp only; rw [hx, xoL, if_pos hok, hjx, if_pos (show (xcF r2 nb nl 2 td2).1 = 0 from hF), if_neg hgo]; cases f2 <;> rfl⟩ (by dsimp only; omega)
          · skip
            have hgo := c79_8
            have hl9 := hv_lt (show hv t ln (sk t ln q2) = 59 from c79_8) (by decide)
            have hk1 : sk t ln q2 + 1 ≤ ln := by omega
            obtain ⟨hr3, hr4⟩ := xro_le t ln (sk t ln q2 + 1) td2 hk1
            have hsk9 := sk_le (t := t) hq2
            rw [show xA t ln q2 59 = sk t ln q2 + 1 from if_pos c79_8]
            refine v_aload_n C dX0_orders_82 3 rfl ?_
            refine v_callV (wr := ((a 1, .inl (g.2 0, 8, .inl od)) :: (a 2, .inl (g.2 0, 8, .inl tk)) :: sw g A nb nl nc (x_cl r2 nb (td2 0).toNatClampNeg (td2 1)) b2 Y)) C (x_readsOrd l g a us bn (A 0) t1 mb ln t ko fo dd q0 qn td2 (some (ko 2)) (sk t ln q2 + 1) h120 hk1 hch) ok_X7_readsOrder rfl q1072 rfl (Nat.le_of_ble_eq_true rfl) 0 rfl rfl rfl dX0_orders_83 (roomN rfl (show 29 + (ln + 3 - (f2 + 1)) + 0 ≤ 152 by omega) (show 182 + 6 * (ln + 3 - (f2 + 1)) + 0 ≤ 920 by omega)) (List.Perm.refl _) ?_
            rintro _ _ ⟨rfl, rfl⟩
            refine v_widen (cells' := 29 + (ln + 3 - (f2 + 1))) (slots' := 182 + 6 * (ln + 3 - (f2 + 1))) (Nat.le_refl _) (Nat.le_refl _) ?_
            refine v_ws (ws' := (rdW g a us bn (A 0) t1 mb ln t ko fo dd q0 qn (xro t ln (sk t ln q2 + 1) td2).2.2 (kf ko (hv t ln (sk t ln (sk t ln q2 + 1))) 4) (xro t ln (sk t ln q2 + 1) td2).2.1 ++ ((a 1, .inl (g.2 0, 8, .inl od)) :: (a 2, .inl (g.2 0, 8, .inl tk)) :: sw g A nb nl nc (x_cl r2 nb (td2 0).toNatClampNeg (td2 1)) b2 Y))) rfl ?_
            refine v_st (st' := [_]) rfl ?_
            refine v_ternI C 93 94 dX0_orders_89 dX0_orders_90 dX0_orders_93 (by decide) rfl (fun ht hf => v_if_eq C 93 dX0_orders_86 (by decide) (fun q => ht (fun n => n q)) (fun q => hf q)) ?_
            refine v_eqi (bI_nb _) ?_
            refine v_istore_n (lv' := [(3, _), (2, _), (4, _), (1, _), (0, _)]) C dX0_orders_94 rfl (by decide) rfl ?_
            refine v_goto C 31 dX0_orders_95 (by decide) ?_
            refine v_lvp (lv' := [(3, _), (2, _), (1, _), (0, _)]) [0, 1, 3, 4] rfl ?_
            have hspD : ∀ i, i < nl → (x_cl r2 nb (td2 0).toNatClampNeg (td2 1)) (82 + 4 * i + 0) = r2 (82 + 4 * i + 0) := fun i hi => by
              have h9 := xcD_sp (b := b2) (j := 2) hnb hnl (show (xcF r2 nb nl 2 td2).1 = 0 from hF) hi
              exact h9
            refine v_widen (cells' := 29 + (ln + 3 - f2)) (slots' := 182 + 6 * (ln + 3 - f2)) (show 29 + (ln + 3 - (f2 + 1)) ≤ _ by omega) (show 182 + 6 * (ln + 3 - (f2 + 1)) ≤ _ by omega) ?_
            exact ih (f2, dn + 1, (xro t ln (sk t ln q2 + 1) td2).1, (xro t ln (sk t ln q2 + 1) td2).2.1, (xro t ln (sk t ln q2 + 1) td2).2.2, hv t ln (sk t ln (sk t ln q2 + 1)), (x_cl r2 nb (td2 0).toNatClampNeg (td2 1)), b2) ⟨by dsimp only; omega, hr4, ⟨by dsimp only; omega, fun _ => by dsimp only; omega⟩, fun h => xro_ok h, (fun i hi => by dsimp only; rw [hspD i hi]; exact hsp2 i hi), by dsimp only; rw [hx, xoL, if_pos hok, hjx, if_pos (show (xcF r2 nb nl 2 td2).1 = 0 from hF), if_pos hgo]; rfl⟩ (by dsimp only; omega)
      · skip
        have hjx : jx sg = 3 := by rw [hm]; rfl
        rw [hkf]
        refine v_aload_n C dX0_orders_35 2 rfl ?_
        refine v_getN C in_X7 rfl 0 rfl 1 (by decide) q1059 (fun _ h => h) rfl dX0_orders_36 ?_
        refine v_getN C in_X2 rfl 9 rfl 2 (by decide) q388 (fun _ h => h) rfl dX0_orders_39 ?_
        refine v_aload_n C dX0_orders_42 2 rfl ?_
        refine v_getN C in_X7 rfl 0 rfl 0 (by decide) q1057 (fun _ h => h) rfl dX0_orders_43 ?_
        obtain ⟨iz, hiz⟩ := List.getElem?_of_mem (mem_oY (g := g) (a := a) (A := A) (nb := nb) (nl := nl) (nc := nc) (r := r2) (b := b2) (od := od) (us := us) (tk := tk) (bn := bn) (t1 := t1) (mb := mb) (ln := ln) (t := t) (ko := ko) (fo := fo) (dd := dd) (q0 := q0) (qn := qn) (td := td2) (o := (some (ko 3))) (k := q2) (hY (lamC g 6 (fo 3) (a 0)) (by simp)))
        refine v_lam C rfl (i := 6) (by decide) (x_lam6 l g qn td2 a A nb nl nc r2 b2 od us tk bn (txW g a t1 mb ln t ko fo dd ++ Y) hnb hnl hnc ) (fun rv w h => ⟨_, h.1⟩) q458 q457 qs17 q89 q1116 (Nat.le_of_ble_eq_true rfl) iz hiz 1 rfl dX0_orders_46 (Nat.le_of_ble_eq_true rfl) (Nat.le_of_ble_eq_true rfl) (show 29 + (ln + 3 - (f2 + 1)) + 0 ≤ 152 by omega) (show 182 + 6 * (ln + 3 - (f2 + 1)) + 0 ≤ 920 by omega) ow_perm ?_
        rintro _ _ ⟨rfl, rfl⟩
        refine v_widen (cells' := 29 + (ln + 3 - (f2 + 1))) (slots' := 182 + 6 * (ln + 3 - (f2 + 1))) (Nat.le_refl _) (Nat.le_refl _) ?_
        refine v_perm (ws' := (rdW g a us bn (A 0) t1 mb ln t ko fo dd q0 qn td2 (some (ko 3)) q2 ++ ((a 1, .inl (g.2 0, 8, .inl od)) :: (a 2, .inl (g.2 0, 8, .inl tk)) :: sw g A nb nl nc r2 b2 Y))) ow_perm.symm ?_
        refine v_st (st' := [_]) rfl ?_
        refine v_if_ne C 98 dX0_orders_51 (by decide) (fun c51_9 => ?_) (fun c51_9 => ?_)
        · skip
          have hF : ¬ (x_dF r2 nb (td2 0) (td2 1)) = 0 := c51_9
          have hfin : xoZ t ln nb nl r b = (dn, r2, b2) := by rw [hx, xoL, if_pos hok, hjx, if_neg (show ¬ (xcF r2 nb nl 3 td2).1 = 0 from hF)]; rfl
          refine v_drop (ws' := cw g a A nb nl nc r2 b2 od us tk bn (txW g a t1 mb ln t ko fo dd ++ Y)) (wd := [_, _]) (ow_perm.trans ((List.Perm.cons _ List.perm_append_comm).trans (List.Perm.swap _ _ _)).symm.symm |>.trans ((List.Perm.swap _ _ _).trans (List.perm_append_comm (l₁ := [_, _])))) ?_
          refine v_iload_n C dX0_orders_98 1 rfl ?_
          exact v_iret C dX0_orders_99 (show 29 + (ln + 3 - (f2 + 1)) ≤ 152 by omega) (show 182 + 6 * (ln + 3 - (f2 + 1)) ≤ 920 by omega) (by unfold y_orders; rw [if_pos htf, hfin]; exact ⟨rfl, A, od, us, tk, bn, cw_sufp (by rw [← hs1]; exact (perm_mid (txW g a t1 mb ln t ko fo dd) _ _).trans ((perm_mid (txW g a t1 mb ln t ko fo dd) _ X2).append_left _))⟩)
        · skip
          have hF : (x_dF r2 nb (td2 0) (td2 1)) = 0 := c51_9
          have hF0 : 0 ≤ (x_dF r2 nb (td2 0) (td2 1)) := by rw [hF]; decide
          skip
          refine v_aload_n C dX0_orders_54 2 rfl ?_
          refine v_getN C in_X7 rfl 0 rfl 1 (by decide) q1059 (fun _ h => h) rfl dX0_orders_55 ?_
          refine v_getN C in_X2 rfl 9 rfl 3 (by decide) q390 (fun _ h => h) rfl dX0_orders_58 ?_
          refine v_aload_n C dX0_orders_61 2 rfl ?_
          refine v_getN C in_X7 rfl 0 rfl 0 (by decide) q1057 (fun _ h => h) rfl dX0_orders_62 ?_
          obtain ⟨iz, hiz⟩ := List.getElem?_of_mem (mem_oY (g := g) (a := a) (A := A) (nb := nb) (nl := nl) (nc := nc) (r := r2) (b := b2) (od := od) (us := us) (tk := tk) (bn := bn) (t1 := t1) (mb := mb) (ln := ln) (t := t) (ko := ko) (fo := fo) (dd := dd) (q0 := q0) (qn := qn) (td := td2) (o := (some (ko 3))) (k := q2) (hY (lamC g 7 (dd 3) (a 0)) (by simp)))
          refine v_lam C rfl (i := 7) (by decide) (x_lam7 l g qn td2 a A nb nl nc r2 b2 od us tk bn (txW g a t1 mb ln t ko fo dd ++ Y) hnb hnl hnc hF0) (fun rv w h => ⟨_, h.1⟩) q469 q468 qs20 q89 q1116 (Nat.le_of_ble_eq_true rfl) iz hiz 1 rfl dX0_orders_65 (Nat.le_of_ble_eq_true rfl) (Nat.le_of_ble_eq_true rfl) (show 29 + (ln + 3 - (f2 + 1)) + 0 ≤ 152 by omega) (show 182 + 6 * (ln + 3 - (f2 + 1)) + 0 ≤ 920 by omega) ow_perm ?_
          rintro _ _ ⟨rfl, rfl⟩
          refine v_widen (cells' := 29 + (ln + 3 - (f2 + 1))) (slots' := 182 + 6 * (ln + 3 - (f2 + 1))) (Nat.le_refl _) (Nat.le_refl _) ?_
          refine v_perm (ws' := (rdW g a us bn (A 0) t1 mb ln t ko fo dd q0 qn td2 (some (ko 3)) q2 ++ ((a 1, .inl (g.2 0, 8, .inl od)) :: (a 2, .inl (g.2 0, 8, .inl tk)) :: sw g A nb nl nc (xlDd r2 b2 nb td2).2.1 (xlDd r2 b2 nb td2).2.2 Y))) ow_perm.symm ?_
          refine v_st (st' := [_]) rfl ?_
          refine v_istore (lv' := [(4, _), (3, _), (2, _), (1, _), (0, _)]) C dX0_orders_70 (by decide) rfl ?_
          refine v_iinc (lv' := [(2, _), (4, _), (3, _), (1, _), (0, _)]) C dX0_orders_72 2 rfl (nI_1 dn) (by decide) rfl ?_
          refine v_aload_n C dX0_orders_75 3 rfl ?_
          refine v_callV (wr := ((a 1, .inl (g.2 0, 8, .inl od)) :: (a 2, .inl (g.2 0, 8, .inl tk)) :: sw g A nb nl nc (xlDd r2 b2 nb td2).2.1 (xlDd r2 b2 nb td2).2.2 Y)) C (x_goesOn l g a us bn (A 0) t1 mb ln t ko fo dd q0 qn td2 (some (ko 3)) q2 h120 hq2 hch) ok_X7_goesOn rfl q1102 rfl (Nat.le_of_ble_eq_true rfl) 0 rfl rfl rfl dX0_orders_76 (roomN rfl (show 29 + (ln + 3 - (f2 + 1)) + 0 ≤ 152 by omega) (show 182 + 6 * (ln + 3 - (f2 + 1)) + 0 ≤ 920 by omega)) (List.Perm.refl _) ?_
          rintro _ _ ⟨rfl, rfl⟩
          refine v_widen (cells' := 29 + (ln + 3 - (f2 + 1))) (slots' := 182 + 6 * (ln + 3 - (f2 + 1))) (Nat.le_refl _) (Nat.le_refl _) ?_
          refine v_ws (ws' := (rdW g a us bn (A 0) t1 mb ln t ko fo dd q0 qn td2 (some (ko 3)) (xA t ln q2 59) ++ ((a 1, .inl (g.2 0, 8, .inl od)) :: (a 2, .inl (g.2 0, 8, .inl tk)) :: sw g A nb nl nc (xlDd r2 b2 nb td2).2.1 (xlDd r2 b2 nb td2).2.2 Y))) rfl ?_
          refine v_st (st' := [_]) rfl ?_
          refine v_if_eqB C 93 dX0_orders_79 (by decide) (fun c79_10 => ?_) (fun c79_10 => ?_)
          · skip
            have hgo := c79_10
            rw [show xA t ln q2 59 = sk t ln q2 from if_neg c79_10]
            refine v_iconst (v := 0) C dX0_orders_93 (by decide) ?_
            refine v_istore_n (lv' := [(3, _), (2, _), (4, _), (1, _), (0, _)]) C dX0_orders_94 rfl (by decide) rfl ?_
            refine v_goto C 31 dX0_orders_95 (by decide) ?_
            refine v_lvp (lv' := [(3, _), (2, _), (1, _), (0, _)]) [0, 1, 3, 4] rfl ?_
            have hspD : ∀ i, i < nl → (xlDd r2 b2 nb td2).2.1 (82 + 4 * i + 0) = r2 (82 + 4 * i + 0) := fun i hi => by
              have h9 := xcD_sp (b := b2) (j := 3) hnb hnl (show (xcF r2 nb nl 3 td2).1 = 0 from hF) hi
              exact h9
            refine v_widen (cells' := 29 + (ln + 3 - f2)) (slots' := 182 + 6 * (ln + 3 - f2)) (show 29 + (ln + 3 - (f2 + 1)) ≤ _ by omega) (show 182 + 6 * (ln + 3 - (f2 + 1)) ≤ _ by omega) ?_
            refine v_ws (ws' := rdW g a us bn (A 0) t1 mb ln t ko fo dd q0 qn td2 (kf ko sg 4) (sk t ln q2) ++ ((a 1, .inl (g.2 0, 8, .inl od)) :: (a 2, .inl (g.2 0, 8, .inl tk)) :: sw g A nb nl nc (xlDd r2 b2 nb td2).2.1 (xlDd r2 b2 nb td2).2.2 Y)) (by rw [hkf]) ?_
            exact ih (f2, dn + 1, false, sk t ln q2, td2, sg, (xlDd r2 b2 nb td2).2.1, (xlDd r2 b2 nb td2).2.2) ⟨by dsimp only; omega, (sk_le (t := t) hq2).2, ⟨by dsimp only; have := sk_le (t := t) hq2; omega, fun h => absurd (show false = true from h) (by decide)⟩, fun h => absurd (show false = true from h) (by decide), (fun i hi => by dsimp only; rw [hspD i hi]; exact hsp2 i hi), by dsimp only; rw [hx, xoL, if_pos hok, hjx, if_pos (show (xcF r2 nb nl 3 td2).1 = 0 from hF), if_neg hgo]; cases f2 <;> rfl⟩ (by dsimp only; omega)
          · skip
            have hgo := c79_10
            have hl9 := hv_lt (show hv t ln (sk t ln q2) = 59 from c79_10) (by decide)
            have hk1 : sk t ln q2 + 1 ≤ ln := by omega
            obtain ⟨hr3, hr4⟩ := xro_le t ln (sk t ln q2 + 1) td2 hk1
            have hsk9 := sk_le (t := t) hq2
            rw [show xA t ln q2 59 = sk t ln q2 + 1 from if_pos c79_10]
            refine v_aload_n C dX0_orders_82 3 rfl ?_
            refine v_callV (wr := ((a 1, .inl (g.2 0, 8, .inl od)) :: (a 2, .inl (g.2 0, 8, .inl tk)) :: sw g A nb nl nc (xlDd r2 b2 nb td2).2.1 (xlDd r2 b2 nb td2).2.2 Y)) C (x_readsOrd l g a us bn (A 0) t1 mb ln t ko fo dd q0 qn td2 (some (ko 3)) (sk t ln q2 + 1) h120 hk1 hch) ok_X7_readsOrder rfl q1072 rfl (Nat.le_of_ble_eq_true rfl) 0 rfl rfl rfl dX0_orders_83 (roomN rfl (show 29 + (ln + 3 - (f2 + 1)) + 0 ≤ 152 by omega) (show 182 + 6 * (ln + 3 - (f2 + 1)) + 0 ≤ 920 by omega)) (List.Perm.refl _) ?_
            rintro _ _ ⟨rfl, rfl⟩
            refine v_widen (cells' := 29 + (ln + 3 - (f2 + 1))) (slots' := 182 + 6 * (ln + 3 - (f2 + 1))) (Nat.le_refl _) (Nat.le_refl _) ?_
            refine v_ws (ws' := (rdW g a us bn (A 0) t1 mb ln t ko fo dd q0 qn (xro t ln (sk t ln q2 + 1) td2).2.2 (kf ko (hv t ln (sk t ln (sk t ln q2 + 1))) 4) (xro t ln (sk t ln q2 + 1) td2).2.1 ++ ((a 1, .inl (g.2 0, 8, .inl od)) :: (a 2, .inl (g.2 0, 8, .inl tk)) :: sw g A nb nl nc (xlDd r2 b2 nb td2).2.1 (xlDd r2 b2 nb td2).2.2 Y))) rfl ?_
            refine v_st (st' := [_]) rfl ?_
            refine v_ternI C 93 94 dX0_orders_89 dX0_orders_90 dX0_orders_93 (by decide) rfl (fun ht hf => v_if_eq C 93 dX0_orders_86 (by decide) (fun q => ht (fun n => n q)) (fun q => hf q)) ?_
            refine v_eqi (bI_nb _) ?_
            refine v_istore_n (lv' := [(3, _), (2, _), (4, _), (1, _), (0, _)]) C dX0_orders_94 rfl (by decide) rfl ?_
            refine v_goto C 31 dX0_orders_95 (by decide) ?_
            refine v_lvp (lv' := [(3, _), (2, _), (1, _), (0, _)]) [0, 1, 3, 4] rfl ?_
            have hspD : ∀ i, i < nl → (xlDd r2 b2 nb td2).2.1 (82 + 4 * i + 0) = r2 (82 + 4 * i + 0) := fun i hi => by
              have h9 := xcD_sp (b := b2) (j := 3) hnb hnl (show (xcF r2 nb nl 3 td2).1 = 0 from hF) hi
              exact h9
            refine v_widen (cells' := 29 + (ln + 3 - f2)) (slots' := 182 + 6 * (ln + 3 - f2)) (show 29 + (ln + 3 - (f2 + 1)) ≤ _ by omega) (show 182 + 6 * (ln + 3 - (f2 + 1)) ≤ _ by omega) ?_
            exact ih (f2, dn + 1, (xro t ln (sk t ln q2 + 1) td2).1, (xro t ln (sk t ln q2 + 1) td2).2.1, (xro t ln (sk t ln q2 + 1) td2).2.2, hv t ln (sk t ln (sk t ln q2 + 1)), (xlDd r2 b2 nb td2).2.1, (xlDd r2 b2 nb td2).2.2) ⟨by dsimp only; omega, hr4, ⟨by dsimp only; omega, fun _ => by dsimp only; omega⟩, fun h => xro_ok h, (fun i hi => by dsimp only; rw [hspD i hi]; exact hsp2 i hi), by dsimp only; rw [hx, xoL, if_pos hok, hjx, if_pos (show (xcF r2 nb nl 3 td2).1 = 0 from hF), if_pos hgo]; rfl⟩ (by dsimp only; omega)
  · skip
    refine v_bipush (v := -4) C dX0_orders_8 (by decide) ?_
    exact v_iret C dX0_orders_10 (Nat.le_of_ble_eq_true rfl) (Nat.le_of_ble_eq_true rfl) (by unfold y_orders; rw [if_neg c5_1]; exact ⟨rfl, _, _, _, _, _, List.Perm.refl _⟩)
