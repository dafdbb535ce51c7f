/-! the lambdas' methods -/
set_option maxRecDepth 100000
abbrev xlR (r : Nat → Int32) (nb nl : Nat) (td : Nat → Int32) : Int32 × (Nat → Int32) := x_rF r nb nl (td 0) (td 1) (td 2) (td 3) (td 4)
abbrev xlM (r : Nat → Int32) (nb nl : Nat) (td : Nat → Int32) : Int32 × (Nat → Int32) := x_mF r nb nl (td 0) (td 1) (td 2) (td 3)
abbrev xlPay (r : Nat → Int32) (nb : Nat) (td : Nat → Int32) : Int64 := s_pay (xr3 r nb (td 0).toNatClampNeg (td 1).toNatClampNeg (nI (td 2).toNatClampNeg) (td 3) (td 4)) (td 2).toNatClampNeg (td 3) (td 4)
abbrev xlRr (r : Nat → Int32) (nb : Nat) (td : Nat → Int32) : Nat → Int32 := xr3 r nb (td 0).toNatClampNeg (td 1).toNatClampNeg (nI (td 2).toNatClampNeg) (td 3) (td 4)
abbrev xlRb (r : Nat → Int32) (b : Nat → Int64) (nb : Nat) (td : Nat → Int32) : Nat → Int64 := vp_updL (vp_updL b 0 (b 0 + (td 3).toInt64)) 3 (b 3 + xlPay r nb td)
abbrev xlMr (r : Nat → Int32) (nb : Nat) (td : Nat → Int32) : Nat → Int32 := xm4 r nb (td 0).toNatClampNeg (td 1).toNatClampNeg (td 2).toNatClampNeg (td 3)
abbrev xlDd (r : Nat → Int32) (b : Nat → Int64) (nb : Nat) (td : Nat → Int32) : Nat × (Nat → Int32) × (Nat → Int64) := x_dries (td 0).toNatClampNeg nb (td 1).toNatClampNeg 0 (r, b)
def xcF (r : Nat → Int32) (nb nl : Nat) (j : Nat) (td : Nat → Int32) : Int32 × (Nat → Int32) :=
  if j = 0 then xlR r nb nl td else if j = 1 then xlM r nb nl td else if j = 2 then (x_cF r nl (td 0) (td 1), r) else (x_dF r nb (td 0) (td 1), r)
def xcD (r : Nat → Int32) (b : Nat → Int64) (nb : Nat) (j : Nat) (td : Nat → Int32) : (Nat → Int32) × (Nat → Int64) :=
  if j = 0 then (xlRr r nb td, xlRb r b nb td) else if j = 1 then (xlMr r nb td, b) else if j = 2 then (x_cl r nb (td 0).toNatClampNeg (td 1), b) else ((xlDd r b nb td).2.1, (xlDd r b nb td).2.2)
def M_X0_lambda_new_0 : Md := (yX0_lambda_new_0, cX0_lambda_new_0, 2, (some .int), 7, 177, 1, 6)
theorem ok_X0_lambda_new_0 : MOKv M_X0_lambda_new_0 1 := ⟨q263, qs0, q89, q264, ⟨by decide +kernel, by decide +kernel, by decide +kernel⟩⟩
set_option maxHeartbeats 4000000 in
theorem x_lam0 (l : Launch) (g : GT) (qn : Nat) (td : Nat → Int32) (a A : Nat → Nat) (nb nl nc : Nat) (r : Nat → Int32) (b : Nat → Int64) (od : Nat → Int32) (us : Int32) (tk : Nat → Int32) (bn : Int32) (suf : va_W) (hnb : nb ≤ 8) (hnl : nl ≤ 3) (hnc : nc ≤ 6) (hsp : ∀ i, i < nl → ¬ r (82 + 4 * i + 0) = 0) : CtE l g M_X0_lambda_new_0 [.ref (a 0), .ref qn] ((qn, .inl (g.2 0, 5, .inl td)) :: (cw g a A nb nl nc r b od us tk bn suf)) (some (.int (xlR r nb nl td).1)) ((qn, .inl (g.2 0, 5, .inl td)) :: (cw g a A nb nl nc (xlR r nb nl td).2 b od us tk bn suf)) := by
  refine Ct.start2 (M := M_X0_lambda_new_0) rfl [(0, .ref (a 0)), (1, .ref qn)] rfl (by decide +kernel) (Nat.le_of_ble_eq_true rfl) ?_
  intro p e s m args below meth c A9 C
  refine v_aload_n C dX0_lambda_new_0_0 0 rfl ?_
  refine v_aload_n C dX0_lambda_new_0_1 1 rfl ?_
  refine v_iconst (v := 0) C dX0_lambda_new_0_2 (by decide) ?_
  refine v_iald C dX0_lambda_new_0_3 0 rfl (j := 0) (ixl rfl) ?_
  refine v_aload_n C dX0_lambda_new_0_4 1 rfl ?_
  refine v_iconst (v := 1) C dX0_lambda_new_0_5 (by decide) ?_
  refine v_iald C dX0_lambda_new_0_6 0 rfl (j := 1) (ixl rfl) ?_
  refine v_aload_n C dX0_lambda_new_0_7 1 rfl ?_
  refine v_iconst (v := 2) C dX0_lambda_new_0_8 (by decide) ?_
  refine v_iald C dX0_lambda_new_0_9 0 rfl (j := 2) (ixl rfl) ?_
  refine v_aload_n C dX0_lambda_new_0_10 1 rfl ?_
  refine v_iconst (v := 3) C dX0_lambda_new_0_11 (by decide) ?_
  refine v_iald C dX0_lambda_new_0_12 0 rfl (j := 3) (ixl rfl) ?_
  refine v_aload_n C dX0_lambda_new_0_13 1 rfl ?_
  refine v_iconst (v := 4) C dX0_lambda_new_0_14 (by decide) ?_
  refine v_iald C dX0_lambda_new_0_15 0 rfl (j := 4) (ixl rfl) ?_
  refine v_callV (wr := [(qn, .inl (g.2 0, 5, .inl td))]) C (x_receiveFault l g a A nb nl nc r b od us tk bn suf hnb hnl hnc (td 0) (td 1) (td 2) (td 3) (td 4) hsp) ok_X0_receiveFault rfl q265 rfl (Nat.le_of_ble_eq_true rfl) 0 rfl rfl rfl dX0_lambda_new_0_16 (roomL rfl rfl) (List.perm_append_comm (l₁ := [_])) ?_
  rintro _ _ ⟨rfl, rfl⟩
  refine v_perm (ws' := ((qn, .inl (g.2 0, 5, .inl td)) :: (cw g a A nb nl nc (xlR r nb nl td).2 b od us tk bn suf))) (List.perm_append_comm (l₂ := [_])) ?_
  refine v_st (st' := [_]) rfl ?_
  exact v_iret C dX0_lambda_new_0_19 (Nat.le_of_ble_eq_true rfl) (Nat.le_of_ble_eq_true rfl) ⟨rfl, rfl⟩
def M_X0_lambda_new_1 : Md := (yX0_lambda_new_1, cX0_lambda_new_1, 2, (some .int), 6, 153, 0, 0)
theorem ok_X0_lambda_new_1 : MOKv M_X0_lambda_new_1 1 := ⟨q331, qs4, q89, q332, ⟨by decide +kernel, by decide +kernel, by decide +kernel⟩⟩
set_option maxHeartbeats 4000000 in
theorem x_lam1 (l : Launch) (g : GT) (qn : Nat) (td : Nat → Int32) (a A : Nat → Nat) (nb nl nc : Nat) (r : Nat → Int32) (b : Nat → Int64) (od : Nat → Int32) (us : Int32) (tk : Nat → Int32) (bn : Int32) (suf : va_W) (hnb : nb ≤ 8) (hnl : nl ≤ 3) (hnc : nc ≤ 6) (hsp : ∀ i, i < nl → ¬ r (82 + 4 * i + 0) = 0) (hF : 0 ≤ (xlR r nb nl td).1) : CtE l g M_X0_lambda_new_1 [.ref (a 0), .ref qn] ((qn, .inl (g.2 0, 5, .inl td)) :: (cw g a A nb nl nc r b od us tk bn suf)) (some (.int (xlPay r nb td).toInt32)) ((qn, .inl (g.2 0, 5, .inl td)) :: (cw g a A nb nl nc (xlRr r nb td) (xlRb r b nb td) od us tk bn suf)) := by
  refine Ct.start2 (M := M_X0_lambda_new_1) rfl [(0, .ref (a 0)), (1, .ref qn)] rfl (by decide +kernel) (Nat.le_of_ble_eq_true rfl) ?_
  intro p e s m args below meth c A9 C
  obtain ⟨⟨⟨hq1, hq2⟩, hq3⟩, hrF⟩ := x_rF_ok hF
  obtain ⟨e0, h0⟩ := isB_c (n := nl) rfl (by omega) hq1
  obtain ⟨e1, h1⟩ := isB_c (n := nb) rfl (by omega) hq2
  obtain ⟨e2, h2⟩ := in_c (n := 3) rfl (by decide) hq3
  refine v_aload_n C dX0_lambda_new_1_0 0 rfl ?_
  refine v_aload_n C dX0_lambda_new_1_1 1 rfl ?_
  refine v_iconst (v := 0) C dX0_lambda_new_1_2 (by decide) ?_
  refine v_iald C dX0_lambda_new_1_3 0 rfl (j := 0) (ixl rfl) ?_
  refine v_eqi e0 ?_
  refine v_aload_n C dX0_lambda_new_1_4 1 rfl ?_
  refine v_iconst (v := 1) C dX0_lambda_new_1_5 (by decide) ?_
  refine v_iald C dX0_lambda_new_1_6 0 rfl (j := 1) (ixl rfl) ?_
  refine v_eqi e1 ?_
  refine v_aload_n C dX0_lambda_new_1_7 1 rfl ?_
  refine v_iconst (v := 2) C dX0_lambda_new_1_8 (by decide) ?_
  refine v_iald C dX0_lambda_new_1_9 0 rfl (j := 2) (ixl rfl) ?_
  refine v_eqi e2 ?_
  refine v_aload_n C dX0_lambda_new_1_10 1 rfl ?_
  refine v_iconst (v := 3) C dX0_lambda_new_1_11 (by decide) ?_
  refine v_iald C dX0_lambda_new_1_12 0 rfl (j := 3) (ixl rfl) ?_
  refine v_aload_n C dX0_lambda_new_1_13 1 rfl ?_
  refine v_iconst (v := 4) C dX0_lambda_new_1_14 (by decide) ?_
  refine v_iald C dX0_lambda_new_1_15 0 rfl (j := 4) (ixl rfl) ?_
  refine v_callV (wr := [(qn, .inl (g.2 0, 5, .inl td))]) C (x_doReceive l g a A nb nl nc r b od us tk bn suf hnb hnl hnc (td 0).toNatClampNeg h0 (td 1).toNatClampNeg h1 (td 2).toNatClampNeg (by omega) (td 3) (td 4) hsp) ok_X0_doReceive rfl q333 rfl (Nat.le_of_ble_eq_true rfl) 0 rfl rfl rfl dX0_lambda_new_1_16 (roomL rfl rfl) (List.perm_append_comm (l₁ := [_])) ?_
  rintro _ _ ⟨rfl, rfl⟩
  refine v_perm (ws' := ((qn, .inl (g.2 0, 5, .inl td)) :: (cw g a A nb nl nc (xlRr r nb td) (xlRb r b nb td) od us tk bn suf))) (List.perm_append_comm (l₂ := [_])) ?_
  refine v_st (st' := [_]) rfl ?_
  exact v_iret C dX0_lambda_new_1_19 (Nat.le_of_ble_eq_true rfl) (Nat.le_of_ble_eq_true rfl) ⟨rfl, rfl⟩
def M_X0_lambda_new_2 : Md := (yX0_lambda_new_2, cX0_lambda_new_2, 2, (some .int), 8, 202, 1, 6)
theorem ok_X0_lambda_new_2 : MOKv M_X0_lambda_new_2 1 := ⟨q401, qs6, q89, q402, ⟨by decide +kernel, by decide +kernel, by decide +kernel⟩⟩
set_option maxHeartbeats 4000000 in
theorem x_lam2 (l : Launch) (g : GT) (qn : Nat) (td : Nat → Int32) (a A : Nat → Nat) (nb nl nc : Nat) (r : Nat → Int32) (b : Nat → Int64) (od : Nat → Int32) (us : Int32) (tk : Nat → Int32) (bn : Int32) (suf : va_W) (hnb : nb ≤ 8) (hnl : nl ≤ 3) (hnc : nc ≤ 6) (hsp : ∀ i, i < nl → ¬ r (82 + 4 * i + 0) = 0) : CtE l g M_X0_lambda_new_2 [.ref (a 0), .ref qn] ((qn, .inl (g.2 0, 5, .inl td)) :: (cw g a A nb nl nc r b od us tk bn suf)) (some (.int (xlM r nb nl td).1)) ((qn, .inl (g.2 0, 5, .inl td)) :: (cw g a A nb nl nc (xlM r nb nl td).2 b od us tk bn suf)) := by
  refine Ct.start2 (M := M_X0_lambda_new_2) rfl [(0, .ref (a 0)), (1, .ref qn)] rfl (by decide +kernel) (Nat.le_of_ble_eq_true rfl) ?_
  intro p e s m args below meth c A9 C
  refine v_aload_n C dX0_lambda_new_2_0 0 rfl ?_
  refine v_aload_n C dX0_lambda_new_2_1 1 rfl ?_
  refine v_iconst (v := 0) C dX0_lambda_new_2_2 (by decide) ?_
  refine v_iald C dX0_lambda_new_2_3 0 rfl (j := 0) (ixl rfl) ?_
  refine v_aload_n C dX0_lambda_new_2_4 1 rfl ?_
  refine v_iconst (v := 1) C dX0_lambda_new_2_5 (by decide) ?_
  refine v_iald C dX0_lambda_new_2_6 0 rfl (j := 1) (ixl rfl) ?_
  refine v_aload_n C dX0_lambda_new_2_7 1 rfl ?_
  refine v_iconst (v := 2) C dX0_lambda_new_2_8 (by decide) ?_
  refine v_iald C dX0_lambda_new_2_9 0 rfl (j := 2) (ixl rfl) ?_
  refine v_aload_n C dX0_lambda_new_2_10 1 rfl ?_
  refine v_iconst (v := 3) C dX0_lambda_new_2_11 (by decide) ?_
  refine v_iald C dX0_lambda_new_2_12 0 rfl (j := 3) (ixl rfl) ?_
  refine v_callV (wr := [(qn, .inl (g.2 0, 5, .inl td))]) C (x_moveFault l g a A nb nl nc r b od us tk bn suf hnb hnl hnc (td 0) (td 1) (td 2) (td 3) hsp (fun i hi h1 h2 _ => ge1_ne0 h1 h2)) ok_X0_moveFault rfl q403 rfl (Nat.le_of_ble_eq_true rfl) 0 rfl rfl rfl dX0_lambda_new_2_13 (roomL rfl rfl) (List.perm_append_comm (l₁ := [_])) ?_
  rintro _ _ ⟨rfl, rfl⟩
  refine v_perm (ws' := ((qn, .inl (g.2 0, 5, .inl td)) :: (cw g a A nb nl nc (xlM r nb nl td).2 b od us tk bn suf))) (List.perm_append_comm (l₂ := [_])) ?_
  refine v_st (st' := [_]) rfl ?_
  exact v_iret C dX0_lambda_new_2_16 (Nat.le_of_ble_eq_true rfl) (Nat.le_of_ble_eq_true rfl) ⟨rfl, rfl⟩
def M_X0_lambda_new_3 : Md := (yX0_lambda_new_3, cX0_lambda_new_3, 2, (some .int), 6, 152, 0, 0)
theorem ok_X0_lambda_new_3 : MOKv M_X0_lambda_new_3 1 := ⟨q421, qs9, q89, q422, ⟨by decide +kernel, by decide +kernel, by decide +kernel⟩⟩
set_option maxHeartbeats 4000000 in
theorem x_lam3 (l : Launch) (g : GT) (qn : Nat) (td : Nat → Int32) (a A : Nat → Nat) (nb nl nc : Nat) (r : Nat → Int32) (b : Nat → Int64) (od : Nat → Int32) (us : Int32) (tk : Nat → Int32) (bn : Int32) (suf : va_W) (hnb : nb ≤ 8) (hnl : nl ≤ 3) (hnc : nc ≤ 6) (hsp : ∀ i, i < nl → ¬ r (82 + 4 * i + 0) = 0) (hF : 0 ≤ (xlM r nb nl td).1) : CtE l g M_X0_lambda_new_3 [.ref (a 0), .ref qn] ((qn, .inl (g.2 0, 5, .inl td)) :: (cw g a A nb nl nc r b od us tk bn suf)) (some (.int (xmP r nb (td 0).toNatClampNeg (td 1).toNatClampNeg (td 3)))) ((qn, .inl (g.2 0, 5, .inl td)) :: (cw g a A nb nl nc (xlMr r nb td) b od us tk bn suf)) := by
  refine Ct.start2 (M := M_X0_lambda_new_3) rfl [(0, .ref (a 0)), (1, .ref qn)] rfl (by decide +kernel) (Nat.le_of_ble_eq_true rfl) ?_
  intro p e s m args below meth c A9 C
  obtain ⟨hmA, ham, hmF⟩ := x_mF_ok hF
  obtain ⟨⟨⟨hq1, hq2⟩, hq3⟩, hqn, hqa⟩ := x_mA0 hmA
  obtain ⟨e0, h0⟩ := isB_c (n := nl) rfl (by omega) hq1
  obtain ⟨e1, h1⟩ := isB_c (n := nb) rfl (by omega) hq2
  obtain ⟨e2, h2⟩ := isB_c (n := nb) rfl (by omega) hq3
  refine v_aload_n C dX0_lambda_new_3_0 0 rfl ?_
  refine v_aload_n C dX0_lambda_new_3_1 1 rfl ?_
  refine v_iconst (v := 0) C dX0_lambda_new_3_2 (by decide) ?_
  refine v_iald C dX0_lambda_new_3_3 0 rfl (j := 0) (ixl rfl) ?_
  refine v_eqi e0 ?_
  refine v_aload_n C dX0_lambda_new_3_4 1 rfl ?_
  refine v_iconst (v := 1) C dX0_lambda_new_3_5 (by decide) ?_
  refine v_iald C dX0_lambda_new_3_6 0 rfl (j := 1) (ixl rfl) ?_
  refine v_eqi e1 ?_
  refine v_aload_n C dX0_lambda_new_3_7 1 rfl ?_
  refine v_iconst (v := 2) C dX0_lambda_new_3_8 (by decide) ?_
  refine v_iald C dX0_lambda_new_3_9 0 rfl (j := 2) (ixl rfl) ?_
  refine v_eqi e2 ?_
  refine v_aload_n C dX0_lambda_new_3_10 1 rfl ?_
  refine v_iconst (v := 3) C dX0_lambda_new_3_11 (by decide) ?_
  refine v_iald C dX0_lambda_new_3_12 0 rfl (j := 3) (ixl rfl) ?_
  refine v_callV (wr := [(qn, .inl (g.2 0, 5, .inl td))]) C (x_doMove l g a A nb nl nc r b od us tk bn suf hnb hnl hnc (td 0).toNatClampNeg h0 (td 1).toNatClampNeg h1 (td 2).toNatClampNeg h2 (td 3) (in1_ne hqa) hsp (fun _ => by rw [xr1, s_passes_ne (fun i hi => by omega) (by omega)]; exact ge1_ne0 hqa.1 ham)) ok_X0_doMove rfl q423 rfl (Nat.le_of_ble_eq_true rfl) 0 rfl rfl rfl dX0_lambda_new_3_13 (roomL rfl rfl) (List.perm_append_comm (l₁ := [_])) ?_
  rintro _ _ ⟨rfl, rfl⟩
  refine v_perm (ws' := ((qn, .inl (g.2 0, 5, .inl td)) :: (cw g a A nb nl nc (xlMr r nb td) b od us tk bn suf))) (List.perm_append_comm (l₂ := [_])) ?_
  refine v_st (st' := [_]) rfl ?_
  exact v_iret C dX0_lambda_new_3_16 (Nat.le_of_ble_eq_true rfl) (Nat.le_of_ble_eq_true rfl) ⟨rfl, rfl⟩
def M_X0_lambda_new_4 : Md := (yX0_lambda_new_4, cX0_lambda_new_4, 2, (some .int), 4, 105, 0, 0)
theorem ok_X0_lambda_new_4 : MOKv M_X0_lambda_new_4 1 := ⟨q438, qs12, q89, q439, ⟨by decide +kernel, by decide +kernel, by decide +kernel⟩⟩
set_option maxHeartbeats 4000000 in
theorem x_lam4 (l : Launch) (g : GT) (qn : Nat) (td : Nat → Int32) (a A : Nat → Nat) (nb nl nc : Nat) (r : Nat → Int32) (b : Nat → Int64) (od : Nat → Int32) (us : Int32) (tk : Nat → Int32) (bn : Int32) (suf : va_W) (hnb : nb ≤ 8) (hnl : nl ≤ 3) (hnc : nc ≤ 6)  : CtE l g M_X0_lambda_new_4 [.ref (a 0), .ref qn] ((qn, .inl (g.2 0, 5, .inl td)) :: (cw g a A nb nl nc r b od us tk bn suf)) (some (.int (x_cF r nl (td 0) (td 1)))) ((qn, .inl (g.2 0, 5, .inl td)) :: (cw g a A nb nl nc r b od us tk bn suf)) := by
  refine Ct.start2 (M := M_X0_lambda_new_4) rfl [(0, .ref (a 0)), (1, .ref qn)] rfl (by decide +kernel) (Nat.le_of_ble_eq_true rfl) ?_
  intro p e s m args below meth c A9 C
  refine v_aload_n C dX0_lambda_new_4_0 0 rfl ?_
  refine v_aload_n C dX0_lambda_new_4_1 1 rfl ?_
  refine v_iconst (v := 0) C dX0_lambda_new_4_2 (by decide) ?_
  refine v_iald C dX0_lambda_new_4_3 0 rfl (j := 0) (ixl rfl) ?_
  refine v_aload_n C dX0_lambda_new_4_4 1 rfl ?_
  refine v_iconst (v := 1) C dX0_lambda_new_4_5 (by decide) ?_
  refine v_iald C dX0_lambda_new_4_6 0 rfl (j := 1) (ixl rfl) ?_
  refine v_callV (wr := [(qn, .inl (g.2 0, 5, .inl td))]) C (x_cleanFault l g a A nb nl nc r b od us tk bn suf hnb hnl hnc (td 0) (td 1)) ok_X0_cleanFault rfl q440 rfl (Nat.le_of_ble_eq_true rfl) 0 rfl rfl rfl dX0_lambda_new_4_7 (roomL rfl rfl) (List.perm_append_comm (l₁ := [_])) ?_
  rintro _ _ ⟨rfl, rfl⟩
  refine v_perm (ws' := ((qn, .inl (g.2 0, 5, .inl td)) :: (cw g a A nb nl nc r b od us tk bn suf))) (List.perm_append_comm (l₂ := [_])) ?_
  refine v_st (st' := [_]) rfl ?_
  exact v_iret C dX0_lambda_new_4_10 (Nat.le_of_ble_eq_true rfl) (Nat.le_of_ble_eq_true rfl) ⟨rfl, rfl⟩
def M_X0_lambda_new_5 : Md := (yX0_lambda_new_5, cX0_lambda_new_5, 2, (some .int), 6, 149, 0, 0)
theorem ok_X0_lambda_new_5 : MOKv M_X0_lambda_new_5 1 := ⟨q449, qs15, q89, q450, ⟨by decide +kernel, by decide +kernel, by decide +kernel⟩⟩
set_option maxHeartbeats 4000000 in
theorem x_lam5 (l : Launch) (g : GT) (qn : Nat) (td : Nat → Int32) (a A : Nat → Nat) (nb nl nc : Nat) (r : Nat → Int32) (b : Nat → Int64) (od : Nat → Int32) (us : Int32) (tk : Nat → Int32) (bn : Int32) (suf : va_W) (hnb : nb ≤ 8) (hnl : nl ≤ 3) (hnc : nc ≤ 6) (hF : 0 ≤ x_cF r nl (td 0) (td 1)) : CtE l g M_X0_lambda_new_5 [.ref (a 0), .ref qn] ((qn, .inl (g.2 0, 5, .inl td)) :: (cw g a A nb nl nc r b od us tk bn suf)) (some (.int (x_cl r nb (td 0).toNatClampNeg (td 1) (82 + 4 * (td 0).toNatClampNeg + 2)))) ((qn, .inl (g.2 0, 5, .inl td)) :: (cw g a A nb nl nc (x_cl r nb (td 0).toNatClampNeg (td 1)) b od us tk bn suf)) := by
  refine Ct.start2 (M := M_X0_lambda_new_5) rfl [(0, .ref (a 0)), (1, .ref qn)] rfl (by decide +kernel) (Nat.le_of_ble_eq_true rfl) ?_
  intro p e s m args below meth c A9 C
  obtain ⟨e0, h0⟩ := isB_c (n := nl) rfl (by omega) (x_cF_ok hF)
  refine v_aload_n C dX0_lambda_new_5_0 0 rfl ?_
  refine v_aload_n C dX0_lambda_new_5_1 1 rfl ?_
  refine v_iconst (v := 0) C dX0_lambda_new_5_2 (by decide) ?_
  refine v_iald C dX0_lambda_new_5_3 0 rfl (j := 0) (ixl rfl) ?_
  refine v_eqi e0 ?_
  refine v_aload_n C dX0_lambda_new_5_4 1 rfl ?_
  refine v_iconst (v := 1) C dX0_lambda_new_5_5 (by decide) ?_
  refine v_iald C dX0_lambda_new_5_6 0 rfl (j := 1) (ixl rfl) ?_
  refine v_callV (wr := [(qn, .inl (g.2 0, 5, .inl td))]) C (x_doClean l g a A nb nl nc r b od us tk bn suf hnb hnl hnc (td 0).toNatClampNeg h0 (td 1)) ok_X0_doClean rfl q451 rfl (Nat.le_of_ble_eq_true rfl) 0 rfl rfl rfl dX0_lambda_new_5_7 (roomL rfl rfl) (List.perm_append_comm (l₁ := [_])) ?_
  rintro _ _ ⟨rfl, rfl⟩
  refine v_perm (ws' := ((qn, .inl (g.2 0, 5, .inl td)) :: (cw g a A nb nl nc (x_cl r nb (td 0).toNatClampNeg (td 1)) b od us tk bn suf))) (List.perm_append_comm (l₂ := [_])) ?_
  refine v_st (st' := [_]) rfl ?_
  exact v_iret C dX0_lambda_new_5_10 (Nat.le_of_ble_eq_true rfl) (Nat.le_of_ble_eq_true rfl) ⟨rfl, rfl⟩
def M_X0_lambda_new_6 : Md := (yX0_lambda_new_6, cX0_lambda_new_6, 2, (some .int), 5, 126, 0, 0)
theorem ok_X0_lambda_new_6 : MOKv M_X0_lambda_new_6 1 := ⟨q457, qs17, q89, q458, ⟨by decide +kernel, by decide +kernel, by decide +kernel⟩⟩
set_option maxHeartbeats 4000000 in
theorem x_lam6 (l : Launch) (g : GT) (qn : Nat) (td : Nat → Int32) (a A : Nat → Nat) (nb nl nc : Nat) (r : Nat → Int32) (b : Nat → Int64) (od : Nat → Int32) (us : Int32) (tk : Nat → Int32) (bn : Int32) (suf : va_W) (hnb : nb ≤ 8) (hnl : nl ≤ 3) (hnc : nc ≤ 6)  : CtE l g M_X0_lambda_new_6 [.ref (a 0), .ref qn] ((qn, .inl (g.2 0, 5, .inl td)) :: (cw g a A nb nl nc r b od us tk bn suf)) (some (.int (x_dF r nb (td 0) (td 1)))) ((qn, .inl (g.2 0, 5, .inl td)) :: (cw g a A nb nl nc r b od us tk bn suf)) := by
  refine Ct.start2 (M := M_X0_lambda_new_6) rfl [(0, .ref (a 0)), (1, .ref qn)] rfl (by decide +kernel) (Nat.le_of_ble_eq_true rfl) ?_
  intro p e s m args below meth c A9 C
  refine v_aload_n C dX0_lambda_new_6_0 0 rfl ?_
  refine v_aload_n C dX0_lambda_new_6_1 1 rfl ?_
  refine v_iconst (v := 0) C dX0_lambda_new_6_2 (by decide) ?_
  refine v_iald C dX0_lambda_new_6_3 0 rfl (j := 0) (ixl rfl) ?_
  refine v_aload_n C dX0_lambda_new_6_4 1 rfl ?_
  refine v_iconst (v := 1) C dX0_lambda_new_6_5 (by decide) ?_
  refine v_iald C dX0_lambda_new_6_6 0 rfl (j := 1) (ixl rfl) ?_
  refine v_callV (wr := [(qn, .inl (g.2 0, 5, .inl td))]) C (x_dryFault l g a A nb nl nc r b od us tk bn suf hnb hnl hnc (td 0) (td 1)) ok_X0_dryFault rfl q459 rfl (Nat.le_of_ble_eq_true rfl) 0 rfl rfl rfl dX0_lambda_new_6_7 (roomL rfl rfl) (List.perm_append_comm (l₁ := [_])) ?_
  rintro _ _ ⟨rfl, rfl⟩
  refine v_perm (ws' := ((qn, .inl (g.2 0, 5, .inl td)) :: (cw g a A nb nl nc r b od us tk bn suf))) (List.perm_append_comm (l₂ := [_])) ?_
  refine v_st (st' := [_]) rfl ?_
  exact v_iret C dX0_lambda_new_6_10 (Nat.le_of_ble_eq_true rfl) (Nat.le_of_ble_eq_true rfl) ⟨rfl, rfl⟩
def M_X0_lambda_new_7 : Md := (yX0_lambda_new_7, cX0_lambda_new_7, 2, (some .int), 6, 150, 0, 0)
theorem ok_X0_lambda_new_7 : MOKv M_X0_lambda_new_7 1 := ⟨q468, qs20, q89, q469, ⟨by decide +kernel, by decide +kernel, by decide +kernel⟩⟩
set_option maxHeartbeats 4000000 in
theorem x_lam7 (l : Launch) (g : GT) (qn : Nat) (td : Nat → Int32) (a A : Nat → Nat) (nb nl nc : Nat) (r : Nat → Int32) (b : Nat → Int64) (od : Nat → Int32) (us : Int32) (tk : Nat → Int32) (bn : Int32) (suf : va_W) (hnb : nb ≤ 8) (hnl : nl ≤ 3) (hnc : nc ≤ 6) (hF : 0 ≤ x_dF r nb (td 0) (td 1)) : CtE l g M_X0_lambda_new_7 [.ref (a 0), .ref qn] ((qn, .inl (g.2 0, 5, .inl td)) :: (cw g a A nb nl nc r b od us tk bn suf)) (some (.int (nI (xlDd r b nb td).1))) ((qn, .inl (g.2 0, 5, .inl td)) :: (cw g a A nb nl nc (xlDd r b nb td).2.1 (xlDd r b nb td).2.2 od us tk bn suf)) := by
  refine Ct.start2 (M := M_X0_lambda_new_7) rfl [(0, .ref (a 0)), (1, .ref qn)] rfl (by decide +kernel) (Nat.le_of_ble_eq_true rfl) ?_
  intro p e s m args below meth c A9 C
  obtain ⟨hq1, hq2⟩ := x_dF_ok hF
  obtain ⟨e0, h0⟩ := isB_c (n := nb) rfl (by omega) hq1
  obtain ⟨e1, h1⟩ := in_c (n := 200) rfl (by decide) ⟨Int32.le_trans (by decide) hq2.1, hq2.2⟩
  refine v_aload_n C dX0_lambda_new_7_0 0 rfl ?_
  refine v_aload_n C dX0_lambda_new_7_1 1 rfl ?_
  refine v_iconst (v := 0) C dX0_lambda_new_7_2 (by decide) ?_
  refine v_iald C dX0_lambda_new_7_3 0 rfl (j := 0) (ixl rfl) ?_
  refine v_eqi e0 ?_
  refine v_aload_n C dX0_lambda_new_7_4 1 rfl ?_
  refine v_iconst (v := 1) C dX0_lambda_new_7_5 (by decide) ?_
  refine v_iald C dX0_lambda_new_7_6 0 rfl (j := 1) (ixl rfl) ?_
  refine v_eqi e1 ?_
  refine v_callV (wr := [(qn, .inl (g.2 0, 5, .inl td))]) C (x_doDry l g a A nb nl nc r b od us tk bn suf hnb hnl hnc (td 0).toNatClampNeg h0 (td 1).toNatClampNeg h1) ok_X0_doDry rfl q470 rfl (Nat.le_of_ble_eq_true rfl) 0 rfl rfl rfl dX0_lambda_new_7_7 (roomL rfl rfl) (List.perm_append_comm (l₁ := [_])) ?_
  rintro _ _ ⟨rfl, rfl⟩
  refine v_perm (ws' := ((qn, .inl (g.2 0, 5, .inl td)) :: (cw g a A nb nl nc (xlDd r b nb td).2.1 (xlDd r b nb td).2.2 od us tk bn suf))) (List.perm_append_comm (l₂ := [_])) ?_
  refine v_st (st' := [_]) rfl ?_
  exact v_iret C dX0_lambda_new_7_10 (Nat.le_of_ble_eq_true rfl) (Nat.le_of_ble_eq_true rfl) ⟨rfl, rfl⟩
