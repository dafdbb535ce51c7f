/-! textFault -/
set_option maxRecDepth 100000
abbrev tfW (g : GT) (a : Nat → Nat) (us bn : Int32) (s0 t1 : Nat) (mb : Int32) (ln : Nat) (t : Nat → Int32) (ko fo dd : Nat → Nat) : va_W :=
  [elC a us bn s0, (a 5, .inr (10, [.ref t1, .int 0, .int mb, .int (nI ln)])), (t1, .inl (g.2 3, 120, .inl (fun j => bt (t j)))),
   (a 6, .inl (g.2 6, 4, .inr (.inr (.inr (.inr (rfs ko 0 4)))))), (ko 0, .inr (2, [.int 114, .int 5, .ref (fo 0), .ref (dd 0)])), (ko 1, .inr (2, [.int 109, .int 4, .ref (fo 1), .ref (dd 1)])), (ko 2, .inr (2, [.int 99, .int 2, .ref (fo 2), .ref (dd 2)])), (ko 3, .inr (2, [.int 100, .int 2, .ref (fo 3), .ref (dd 3)]))]
def xtL (t : Nat → Int32) (ln : Nat) : Nat → Bool → Nat → (Nat → Int32) → Bool × Nat × (Nat → Int32)
  | 0, ok, q, td => (ok, q, td)
  | f + 1, ok, q, td => if ok = true then
      if xP t ln q 59 then xtL t ln f (xro t ln (sk t ln q + 1) td).1 (xro t ln (sk t ln q + 1) td).2.1 (xro t ln (sk t ln q + 1) td).2.2 else (true, sk t ln q, td)
    else (false, q, td)
abbrev xtZ (t : Nat → Int32) (ln : Nat) : Bool × Nat × (Nat → Int32) := xtL t ln (ln + 2) (xro t ln 0 (fun _ => 0)).1 (xro t ln 0 (fun _ => 0)).2.1 (xro t ln 0 (fun _ => 0)).2.2
def xtf (t : Nat → Int32) (ln : Nat) : Int32 := if (xtZ t ln).1 = true then if xP t ln (xtZ t ln).2.1 (-1) then -1 else nI (sk t ln (xtZ t ln).2.1) else nI (xtZ t ln).2.1
def M_X7_init : Md := (yX7_init, cX7_init, 2, none, 1, 40, 1, 5)
theorem ok_X7_init : MOKi M_X7_init 1 := ⟨q1053, q111, q1054, ⟨rfl, rfl⟩, ⟨by decide +kernel, by decide +kernel, by decide +kernel⟩⟩
set_option maxHeartbeats 4000000 in
theorem x_rinit (l : Launch) (g : GT) (q e0 : Nat) : Ct l g M_X7_init [.ref q, .ref e0] [(q, .inr (7, [.null, .null, .int 0, .null]))] (fun rv w => rv = none ∧ ∃ qn, w = [(q, .inr (7, [.ref qn, .null, .int 0, .ref e0])), (qn, .inl (g.2 0, 5, .inl (fun _ => 0)))]) := by
  refine Ct.start2 (M := M_X7_init) rfl [(0, .ref q), (1, .ref e0)] rfl (by decide +kernel) (Nat.le_of_ble_eq_true rfl) ?_
  intro p e s m args below meth c A9 C
  refine v_aload_n C dX7_init_0 0 rfl ?_
  refine v_aload_n C dX7_init_1 1 rfl ?_
  refine v_putF (ws' := [(_, .inr (7, [_, _, _, _]))]) C in_X7 tyX7 tyX7_ok nmX7 rfl 0 rfl 3 (by decide) q1062 (fun _ h => h) rfl rfl rfl rfl rfl (Nat.le_of_ble_eq_true rfl) dX7_init_2 rfl ?_
  refine v_aload_n C dX7_init_5 0 rfl ?_
  refine v_objInit C q1055 q118 q119 dX7_init_6 (Nat.le_of_ble_eq_true rfl) (Nat.le_of_ble_eq_true rfl) ?_
  refine v_aload_n C dX7_init_9 0 rfl ?_
  refine v_iconst (v := 5) C dX7_init_10 (by decide) ?_
  refine v_newI (N := 5) C q207 (by decide) rfl (Nat.le_of_ble_eq_true rfl) (Nat.le_of_ble_eq_true rfl) (Nat.le_of_ble_eq_true rfl) dX7_init_11 (fun q11 => ?_)
  refine v_ws (ws' := [(_, .inr (7, [_, _, _, _])), (_, .inl (_, _, .inl _))]) rfl ?_
  refine v_putF (ws' := [(_, .inr (7, [_, _, _, _])), (_, .inl (_, _, .inl _))]) C in_X7 tyX7 tyX7_ok nmX7 rfl 0 rfl 0 (by decide) q1056 (fun _ h => h) rfl rfl rfl rfl rfl (Nat.le_of_ble_eq_true rfl) dX7_init_13 rfl ?_
  exact v_vret C dX7_init_16 (Nat.le_of_ble_eq_true rfl) (Nat.le_of_ble_eq_true rfl) ⟨rfl, q11, rfl⟩
def M_X2_init : Md := (yX2_init, cX2_init, 5, none, 1, 40, 0, 0)
theorem ok_X2_init : MOKi M_X2_init 4 := ⟨q380, q99, q381, ⟨rfl, rfl⟩, ⟨by decide +kernel, by decide +kernel, by decide +kernel⟩⟩
set_option maxHeartbeats 4000000 in
theorem x_oinit (l : Launch) (g : GT) (q : Nat) (lt mn : Int32) (f0 d0 : Nat) (hl1 : narrow .char (.int lt) = .int lt) (hl2 : fits .char (.int lt) = true) : CtE l g M_X2_init [.ref q, .int lt, .int mn, .ref f0, .ref d0] [(q, .inr (2, [.int 0, .int 0, .null, .null]))] none [(q, .inr (2, [.int lt, .int mn, .ref f0, .ref d0]))] := by
  refine Ct.start2 (M := M_X2_init) rfl [(0, .ref q), (1, .int lt), (2, .int mn), (3, .ref f0), (4, .ref d0)] rfl (by decide +kernel) (Nat.le_of_ble_eq_true rfl) ?_
  intro p e s m args below meth c A9 C
  refine v_aload_n C dX2_init_0 0 rfl ?_
  refine v_objInit C q382 q118 q119 dX2_init_1 (Nat.le_of_ble_eq_true rfl) (Nat.le_of_ble_eq_true rfl) ?_
  refine v_aload_n C dX2_init_4 0 rfl ?_
  refine v_iload_n C dX2_init_5 1 rfl ?_
  refine v_putF (ws' := [(_, .inr (2, [_, _, _, _]))]) C in_X2 tyX2 tyX2_ok nmX2 rfl 0 rfl 0 (by decide) q383 (fun _ h => h) rfl rfl rfl hl1 hl2 (Nat.le_of_ble_eq_true rfl) dX2_init_6 rfl ?_
  refine v_aload_n C dX2_init_9 0 rfl ?_
  refine v_iload_n C dX2_init_10 2 rfl ?_
  refine v_putF (ws' := [(_, .inr (2, [_, _, _, _]))]) C in_X2 tyX2 tyX2_ok nmX2 rfl 0 rfl 1 (by decide) q385 (fun _ h => h) rfl rfl rfl rfl rfl (Nat.le_of_ble_eq_true rfl) dX2_init_11 rfl ?_
  refine v_aload_n C dX2_init_14 0 rfl ?_
  refine v_aload_n C dX2_init_15 3 rfl ?_
  refine v_putF (ws' := [(_, .inr (2, [_, _, _, _]))]) C in_X2 tyX2 tyX2_ok nmX2 rfl 0 rfl 2 (by decide) q387 (fun _ h => h) rfl rfl rfl rfl rfl (Nat.le_of_ble_eq_true rfl) dX2_init_16 rfl ?_
  refine v_aload_n C dX2_init_19 0 rfl ?_
  refine v_aload C dX2_init_20 4 rfl ?_
  refine v_putF (ws' := [(_, .inr (2, [_, _, _, _]))]) C in_X2 tyX2 tyX2_ok nmX2 rfl 0 rfl 3 (by decide) q389 (fun _ h => h) rfl rfl rfl rfl rfl (Nat.le_of_ble_eq_true rfl) dX2_init_22 rfl ?_
  exact v_vret C dX2_init_25 (Nat.le_of_ble_eq_true rfl) (Nat.le_of_ble_eq_true rfl) ⟨rfl, rfl⟩
def M_X0_textFault : Md := (yX0_textFault, cX0_textFault, 3, (some .int), 8, 194, 2, 9)
theorem ok_X0_textFault : MOKv M_X0_textFault 0 := ⟨q1047, q1048, q89, q1049, ⟨by decide +kernel, by decide +kernel, by decide +kernel⟩⟩
set_option maxHeartbeats 4000000 in
theorem x_textFault (l : Launch) (g : GT) (a : Nat → Nat) (us bn : Int32) (s0 t1 : Nat) (mb : Int32) (ln : Nat) (t : Nat → Int32) (ko fo dd : Nat → Nat) (h120 : ln ≤ 120) (hch : chOk ln t)  : CtE l g M_X0_textFault [.ref (a 0)] (tfW g a us bn s0 t1 mb ln t ko fo dd) (some (.int (xtf t ln))) (tfW g a us bn s0 t1 mb ln t ko fo dd) := by
  refine Ct.start2 (M := M_X0_textFault) rfl [(0, .ref (a 0))] rfl (by decide +kernel) (Nat.le_of_ble_eq_true rfl) ?_
  intro p e s m args below meth c A9 C
  refine v_new (ci := 7) (fs := [.null, .null, .int 0, .null]) C in_X7 tyX7 tyX7_ok q1050 q1051 q111 rfl (by decide +kernel) (Nat.le_of_ble_eq_true rfl) (Nat.le_of_ble_eq_true rfl) dX0_textFault_0 (fun q0 => ?_)
  refine v_dup C dX0_textFault_3 rfl ?_
  refine v_aload_n C dX0_textFault_4 0 rfl ?_
  refine v_callIN (wr := tfW g a us bn s0 t1 mb ln t ko fo dd) C (x_rinit l g q0 (a 0)) ok_X7_init rfl q1052 rfl (Nat.le_of_ble_eq_true rfl) dX0_textFault_5 (roomL rfl rfl) (List.perm_append_comm (l₁ := tfW g a us bn s0 t1 mb ln t ko fo dd) (l₂ := [_])) ?_
  rintro _ _ ⟨rfl, qn, rfl⟩
  refine v_ws (ws' := (rdW g a us bn s0 t1 mb ln t ko fo dd q0 qn (fun _ => 0) none 0)) rfl ?_
  refine v_st (st' := [_]) rfl ?_
  refine v_astore_n (lv' := [(1, _), (0, _)]) C dX0_textFault_8 rfl (by decide) rfl ?_
  refine v_aload_n C dX0_textFault_9 0 rfl ?_
  refine v_callVw C (x_readsOrd l g a us bn s0 t1 mb ln t ko fo dd q0 qn (fun _ => 0) none 0 h120 (Nat.zero_le _) hch) ok_X7_readsOrder rfl q1072 rfl (Nat.le_of_ble_eq_true rfl) 0 rfl rfl rfl dX0_textFault_10 (roomL rfl rfl) ⟨rfl, rfl⟩ ?_
  refine v_istore_n (lv' := [(2, _), (1, _), (0, _)]) C dX0_textFault_13 rfl (by decide) rfl ?_
  obtain ⟨hr1, hr2⟩ := xro_le t ln 0 (fun _ => 0) (Nat.zero_le _)
  refine v_while (α := Nat × Bool × Nat × (Nat → Int32) × Option Nat) (fun x => x.1) (fun x => x.2.2.1 ≤ ln ∧ ln + 1 ≤ x.1 + x.2.2.1 ∧ xtZ t ln = xtL t ln x.1 x.2.1 x.2.2.1 x.2.2.2.1) (fun x => [(2, .int (bB x.2.1)), (1, .ref q0), (0, .ref (a 0))]) (fun x => (rdW g a us bn s0 t1 mb ln t ko fo dd q0 qn x.2.2.2.1 x.2.2.2.2 x.2.2.1)) (ln + 2, (xro t ln 0 (fun _ => 0)).1, (xro t ln 0 (fun _ => 0)).2.1, (xro t ln 0 (fun _ => 0)).2.2, kf ko (hv t ln (sk t ln 0)) 4) rfl rfl ⟨hr2, by dsimp only; omega, rfl⟩ ?_
  rintro ⟨f2, ok2, q2, td2, od2⟩ ⟨hq2, hf2, hx⟩ ih
  dsimp only at hq2 hf2 hx ih ⊢
  obtain ⟨f2, rfl⟩ : ∃ z, f2 = z + 1 := ⟨f2 - 1, by omega⟩
  refine v_iload_n C dX0_textFault_14 0 rfl ?_
  refine v_if_eq C 33 dX0_textFault_15 (by decide) (fun c15_1 => ?_) (fun c15_1 => ?_)
  · skip
    have hof := bB_0 c15_1
    have hfin : xtZ t ln = (false, q2, td2) := by rw [hx, xtL, hof, if_neg Bool.false_ne_true]
    refine v_iload_n C dX0_textFault_33 0 rfl ?_
    refine v_if_eq C 48 dX0_textFault_34 (by decide) (fun c34_2 => ?_) (fun c34_2 => ?_)
    · skip
      refine v_aload_n C dX0_textFault_48 1 rfl ?_
      refine v_getN C in_X7 rfl 0 rfl 2 (by decide) q1061 (fun _ h => h) rfl dX0_textFault_49 ?_
      refine v_drop (ws' := tfW g a us bn s0 t1 mb ln t ko fo dd) (wd := [_, _]) (List.perm_append_comm (l₁ := [_, _])) ?_
      exact v_iret C dX0_textFault_52 (Nat.le_of_ble_eq_true rfl) (Nat.le_of_ble_eq_true rfl) (by unfold xtf; rw [hfin]; dsimp only; rw [if_neg Bool.false_ne_true]; exact ⟨rfl, rfl⟩)
    · exact absurd (by rw [hof]; rfl) c34_2
  · skip
    have hok := bB_1 c15_1
    refine v_aload_n C dX0_textFault_18 1 rfl ?_
    refine v_callVw C (x_goesOn l g a us bn s0 t1 mb ln t ko fo dd q0 qn td2 od2 q2 h120 hq2 hch) ok_X7_goesOn rfl q1102 rfl (Nat.le_of_ble_eq_true rfl) 0 rfl rfl rfl dX0_textFault_19 (roomL rfl rfl) ⟨rfl, rfl⟩ ?_
    refine v_if_eqB C 33 dX0_textFault_22 (by decide) (fun c22_3 => ?_) (fun c22_3 => ?_)
    · skip
      have hgo := c22_3
      have hfin : xtZ t ln = (true, sk t ln q2, td2) := by rw [hx, xtL, if_pos hok, if_neg hgo]
      rw [show xA t ln q2 59 = sk t ln q2 from if_neg c22_3]
      refine v_iload_n C dX0_textFault_33 0 rfl ?_
      refine v_if_eq C 48 dX0_textFault_34 (by decide) (fun c34_4 => ?_) (fun c34_4 => ?_)
      · exact absurd c34_4 (by rw [hok]; decide)
      · skip
        refine v_aload_n C dX0_textFault_37 1 rfl ?_
        refine v_callVw C (x_hasEnded l g a us bn s0 t1 mb ln t ko fo dd q0 qn td2 od2 (sk t ln q2) h120 (sk_le (t := t) hq2).2 hch) ok_X7_hasEnded rfl q1106 rfl (Nat.le_of_ble_eq_true rfl) 0 rfl rfl rfl dX0_textFault_38 (roomL rfl rfl) ⟨rfl, rfl⟩ ?_
        refine v_if_eqB C 48 dX0_textFault_41 (by decide) (fun c41_5 => ?_) (fun c41_5 => ?_)
        · skip
          refine v_aload_n C dX0_textFault_48 1 rfl ?_
          refine v_getN C in_X7 rfl 0 rfl 2 (by decide) q1061 (fun _ h => h) rfl dX0_textFault_49 ?_
          refine v_drop (ws' := tfW g a us bn s0 t1 mb ln t ko fo dd) (wd := [_, _]) (List.perm_append_comm (l₁ := [_, _])) ?_
          exact v_iret C dX0_textFault_52 (Nat.le_of_ble_eq_true rfl) (Nat.le_of_ble_eq_true rfl) (by unfold xtf; rw [hfin]; dsimp only; rw [if_pos rfl, if_neg c41_5]; exact ⟨rfl, rfl⟩)
        · skip
          refine v_iconst (v := -1) C dX0_textFault_44 (by decide) ?_
          refine v_goto C 52 dX0_textFault_45 (by decide) ?_
          refine v_drop (ws' := tfW g a us bn s0 t1 mb ln t ko fo dd) (wd := [_, _]) (List.perm_append_comm (l₁ := [_, _])) ?_
          exact v_iret C dX0_textFault_52 (Nat.le_of_ble_eq_true rfl) (Nat.le_of_ble_eq_true rfl) (by unfold xtf; rw [hfin]; dsimp only; rw [if_pos rfl, if_pos c41_5]; exact ⟨rfl, rfl⟩)
    · skip
      have hgo := c22_3
      have hl9 := hv_lt (show hv t ln (sk t ln q2) = 59 from c22_3) (by decide)
      have hk1 : sk t ln q2 + 1 ≤ ln := by omega
      obtain ⟨hr3, hr4⟩ := xro_le t ln (sk t ln q2 + 1) td2 hk1
      have hsk9 := sk_le (t := t) hq2
      rw [show xA t ln q2 59 = sk t ln q2 + 1 from if_pos c22_3]
      refine v_aload_n C dX0_textFault_25 1 rfl ?_
      refine v_callVw C (x_readsOrd l g a us bn s0 t1 mb ln t ko fo dd q0 qn td2 od2 (sk t ln q2 + 1) h120 hk1 hch) ok_X7_readsOrder rfl q1072 rfl (Nat.le_of_ble_eq_true rfl) 0 rfl rfl rfl dX0_textFault_26 (roomL rfl rfl) ⟨rfl, rfl⟩ ?_
      refine v_istore_n (lv' := [(2, _), (1, _), (0, _)]) C dX0_textFault_29 rfl (by decide) rfl ?_
      refine v_goto C 14 dX0_textFault_30 (by decide) ?_
      exact ih (f2, (xro t ln (sk t ln q2 + 1) td2).1, (xro t ln (sk t ln q2 + 1) td2).2.1, (xro t ln (sk t ln q2 + 1) td2).2.2, _) ⟨hr4, by dsimp only; omega, by dsimp only; rw [hx, xtL, if_pos hok, if_pos hgo]⟩ (by dsimp only; omega)
