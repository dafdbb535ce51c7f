/-! the elevator's history and images -/
set_option maxRecDepth 100000
abbrev elF (a : Nat → Nat) (us bn : Int32) (s : Nat) : List Value := [.ref s, .ref (a 3), .ref (a 4), .ref (a 1), .int us, .ref (a 2), .int bn, .ref (a 5), .ref (a 6)]
def dqH (hd tl : Nat) : Nat := if (tl + 6 - hd) % 6 = 5 then (hd + 1) % 6 else hd
def dqF (hd tl : Nat) (f : Nat → Option Nat) (x : Nat) : Nat → Option Nat := va_up (if (tl + 6 - hd) % 6 = 5 then va_up f hd none else f) tl (some x)
theorem dq_5 {n : Nat} (hn : n < 6) : nI n = 5 ↔ n = 5 := ⟨fun h => nI_inj (by omega) (by decide) (show nI n = nI 5 from h), fun h => by rw [h]; rfl⟩
theorem perm_news {α : Type} (x : α) (L S : List α) : (x :: (L ++ S)).Perm ((x :: S) ++ L) := (List.perm_append_comm (l₁ := L) (l₂ := S)).cons x
def M_X0_record : Md := (yX0_record, cX0_record, 1, none, 6, 143, 25, 164)
theorem ok_X0_record : MOKv M_X0_record 0 := ⟨q519, qs22, q89, q520, ⟨by decide +kernel, by decide +kernel, by decide +kernel⟩⟩
set_option maxHeartbeats 4000000 in
theorem x_record (l : Launch) (g : GT) (a A : Nat → Nat) (nb nl nc : Nat) (r : Nat → Int32) (b : Nat → Int64) (us bn : Int32) (d1 hd tl : Nat) (f : Nat → Option Nat) (X : va_W) (hnb : nb ≤ 8) (hnl : nl ≤ 3) (hnc : nc ≤ 6) (hh : hd < 6) (ht : tl < 6) (hf : (tl + 6 - hd) % 6 = 5 → ∃ x, f hd = some x) : Ct l g M_X0_record [.ref (a 0)] ((a 0, .inr (0, elF a us bn (A 0))) :: (dqW g (a 3) d1 hd tl f ++ sw g A nb nl nc r b X)) (fun rv w => rv = none ∧ ∃ B : Nat → Nat, w.Perm ((a 0, .inr (0, elF a us bn (B 0))) :: (dqW g (a 3) d1 (dqH hd tl) ((tl + 1) % 6) (dqF hd tl f (A 0)) ++ sw g B nb nl nc r b (sw g A nb nl nc r b X)))) := by
  refine Ct.start2 (M := M_X0_record) rfl [(0, .ref (a 0))] rfl (by decide +kernel) (Nat.le_of_ble_eq_true rfl) ?_
  intro p e s m args below meth c A9 C
  refine v_aload_n C dX0_record_0 0 rfl ?_
  refine v_get C in_X0 rfl 0 rfl 1 (by decide) q484 (fun _ h => h) rfl dX0_record_1 ?_
  refine v_zMV (ws' := ((_, .inr (0, [_, _, _, _, _, _, _, _, _])) :: (_, .inr (9, [_, _, _])) :: (_, .inl (_, _, .inr (.inr (.inr (.inr _))))) :: sw g A nb nl nc r b X)) C (j_dsize l g (a 3) d1 hd tl f hh ht) [_] rfl ok_J3_size rfl q521 rfl (Nat.le_of_ble_eq_true rfl) 0 rfl rfl rfl dX0_record_4 (roomL rfl rfl) ⟨rfl, rfl⟩ rfl ?_
  refine v_iconst (v := 5) C dX0_record_7 (by decide) ?_
  refine v_icmp_ne C 19 dX0_record_8 (by decide) (fun c8_1 => ?_) (fun c8_1 => ?_)
  · skip
    have h5 : ¬ (tl + 6 - hd) % 6 = 5 := fun q => c8_1 ((dq_5 (Nat.mod_lt _ (by decide))).mpr q)
    refine v_aload_n C dX0_record_19 0 rfl ?_
    refine v_get C in_X0 rfl 0 rfl 1 (by decide) q484 (fun _ h => h) rfl dX0_record_20 ?_
    refine v_aload_n C dX0_record_23 0 rfl ?_
    refine v_get C in_X0 rfl 0 rfl 0 (by decide) q483 (fun _ h => h) rfl dX0_record_24 ?_
    refine v_zMVv (ws' := ((_, .inr (0, [_, _, _, _, _, _, _, _, _])) :: (_, .inr (9, [_, _, _])) :: (_, .inl (_, _, .inr (.inr (.inr (.inr _))))) :: sw g A nb nl nc r b X)) C (j_addLast l g (a 3) d1 hd tl f hh ht (A 0) 1 (RX1, TX1, 13) (stF A r b) rfl q1574 (by omega)) [_] rfl ok_J3_addLast rfl q542 rfl (Nat.le_of_ble_eq_true rfl) 0 rfl rfl rfl dX0_record_27 (roomL rfl rfl) ⟨rfl, rfl⟩ rfl ?_
    refine v_aload_n C dX0_record_30 0 rfl ?_
    refine v_new (ci := 1) (fs := [.null, .null, .null, .null, .int 0, .int 0, .int 0, .int 0, .int 0, .int 0, .long 0, .long 0, .long 0]) C in_X1 tyX1 tyX1_ok q120 q121 q90 rfl (by decide +kernel) (Nat.le_of_ble_eq_true rfl) (Nat.le_of_ble_eq_true rfl) dX0_record_31 (fun q31 => ?_)
    refine v_perm (ws' := (q31, .inr (1, [.null, .null, .null, .null, .int 0, .int 0, .int 0, .int 0, .int 0, .int 0, .long 0, .long 0, .long 0])) :: ((_, .inr (0, [_, _, _, _, _, _, _, _, _])) :: (_, .inr (9, [_, _, _])) :: (_, .inl (_, _, .inr (.inr (.inr (.inr _))))) :: sw g A nb nl nc r b X)) (List.perm_append_comm (l₂ := [_])) ?_
    refine v_dup C dX0_record_34 rfl ?_
    refine v_aload_n C dX0_record_35 0 rfl ?_
    refine v_get C in_X0 rfl 1 rfl 0 (by decide) q483 (fun _ h => h) rfl dX0_record_36 ?_
    refine v_callI (wr := [_, _, _]) C (x_scopy l g q31 A nb nl nc r b X hnb hnl hnc) ok_X1_init_2 rfl q583 rfl (Nat.le_of_ble_eq_true rfl) dX0_record_39 (roomL rfl rfl) (perm_news _ [_, _, _] _) ?_
    rintro _ _ ⟨rfl, B, hB, hpB⟩
    refine v_perm (ws' := ((_, .inr (0, [_, _, _, _, _, _, _, _, _])) :: (_, .inr (9, [_, _, _])) :: (_, .inl (_, _, .inr (.inr (.inr (.inr _))))) :: sw g B nb nl nc r b (sw g A nb nl nc r b X))) ((hpB.append_right _).trans List.perm_append_comm) ?_
    subst hB
    refine v_st (st' := [_, _]) rfl ?_
    refine v_put (ws' := ((_, .inr (0, [_, _, _, _, _, _, _, _, _])) :: (_, .inr (9, [_, _, _])) :: (_, .inl (_, _, .inr (.inr (.inr (.inr _))))) :: sw g B nb nl nc r b (sw g A nb nl nc r b X))) C in_X0 tyX0 tyX0_ok nmX0 rfl 0 rfl 0 (by decide) q483 (fun _ h => h) rfl rfl rfl (Nat.le_of_ble_eq_true rfl) dX0_record_42 rfl ?_
    exact v_vret C dX0_record_45 (Nat.le_of_ble_eq_true rfl) (Nat.le_of_ble_eq_true rfl) ⟨rfl, B, by unfold dqH dqF; rw [if_neg h5, if_neg h5]; exact List.Perm.refl _⟩
  · skip
    have h5 : (tl + 6 - hd) % 6 = 5 := (dq_5 (Nat.mod_lt _ (by decide))).mp c8_1
    obtain ⟨x0, hx0⟩ := hf h5
    refine v_aload_n C dX0_record_11 0 rfl ?_
    refine v_get C in_X0 rfl 0 rfl 1 (by decide) q484 (fun _ h => h) rfl dX0_record_12 ?_
    refine v_zMV (ws' := ((_, .inr (0, [_, _, _, _, _, _, _, _, _])) :: (_, .inr (9, [_, _, _])) :: (_, .inl (_, _, .inr (.inr (.inr (.inr _))))) :: sw g A nb nl nc r b X)) C (j_remF l g (a 3) d1 hd tl f hh ht x0 hx0) [_] rfl ok_J3_removeFirst rfl q528 rfl (Nat.le_of_ble_eq_true rfl) 0 rfl rfl rfl dX0_record_15 (roomL rfl rfl) ⟨rfl, rfl⟩ rfl ?_
    refine v_pop C dX0_record_18 rfl ?_
    refine v_aload_n C dX0_record_19 0 rfl ?_
    refine v_get C in_X0 rfl 0 rfl 1 (by decide) q484 (fun _ h => h) rfl dX0_record_20 ?_
    refine v_aload_n C dX0_record_23 0 rfl ?_
    refine v_get C in_X0 rfl 0 rfl 0 (by decide) q483 (fun _ h => h) rfl dX0_record_24 ?_
    refine v_zMVv (ws' := ((_, .inr (0, [_, _, _, _, _, _, _, _, _])) :: (_, .inr (9, [_, _, _])) :: (_, .inl (_, _, .inr (.inr (.inr (.inr _))))) :: sw g A nb nl nc r b X)) C (j_addLast l g (a 3) d1 ((hd + 1) % 6) tl (va_up f hd none) (Nat.mod_lt _ (by decide)) ht (A 0) 1 (RX1, TX1, 13) (stF A r b) rfl q1574 (by omega)) [_] rfl ok_J3_addLast rfl q542 rfl (Nat.le_of_ble_eq_true rfl) 0 rfl rfl rfl dX0_record_27 (roomL rfl rfl) ⟨rfl, rfl⟩ rfl ?_
    refine v_aload_n C dX0_record_30 0 rfl ?_
    refine v_new (ci := 1) (fs := [.null, .null, .null, .null, .int 0, .int 0, .int 0, .int 0, .int 0, .int 0, .long 0, .long 0, .long 0]) C in_X1 tyX1 tyX1_ok q120 q121 q90 rfl (by decide +kernel) (Nat.le_of_ble_eq_true rfl) (Nat.le_of_ble_eq_true rfl) dX0_record_31 (fun q31 => ?_)
    refine v_perm (ws' := (q31, .inr (1, [.null, .null, .null, .null, .int 0, .int 0, .int 0, .int 0, .int 0, .int 0, .long 0, .long 0, .long 0])) :: ((_, .inr (0, [_, _, _, _, _, _, _, _, _])) :: (_, .inr (9, [_, _, _])) :: (_, .inl (_, _, .inr (.inr (.inr (.inr _))))) :: sw g A nb nl nc r b X)) (List.perm_append_comm (l₂ := [_])) ?_
    refine v_dup C dX0_record_34 rfl ?_
    refine v_aload_n C dX0_record_35 0 rfl ?_
    refine v_get C in_X0 rfl 1 rfl 0 (by decide) q483 (fun _ h => h) rfl dX0_record_36 ?_
    refine v_callI (wr := [_, _, _]) C (x_scopy l g q31 A nb nl nc r b X hnb hnl hnc) ok_X1_init_2 rfl q583 rfl (Nat.le_of_ble_eq_true rfl) dX0_record_39 (roomL rfl rfl) (perm_news _ [_, _, _] _) ?_
    rintro _ _ ⟨rfl, B, hB, hpB⟩
    refine v_perm (ws' := ((_, .inr (0, [_, _, _, _, _, _, _, _, _])) :: (_, .inr (9, [_, _, _])) :: (_, .inl (_, _, .inr (.inr (.inr (.inr _))))) :: sw g B nb nl nc r b (sw g A nb nl nc r b X))) ((hpB.append_right _).trans List.perm_append_comm) ?_
    subst hB
    refine v_st (st' := [_, _]) rfl ?_
    refine v_put (ws' := ((_, .inr (0, [_, _, _, _, _, _, _, _, _])) :: (_, .inr (9, [_, _, _])) :: (_, .inl (_, _, .inr (.inr (.inr (.inr _))))) :: sw g B nb nl nc r b (sw g A nb nl nc r b X))) C in_X0 tyX0 tyX0_ok nmX0 rfl 0 rfl 0 (by decide) q483 (fun _ h => h) rfl rfl rfl (Nat.le_of_ble_eq_true rfl) dX0_record_42 rfl ?_
    exact v_vret C dX0_record_45 (Nat.le_of_ble_eq_true rfl) (Nat.le_of_ble_eq_true rfl) ⟨rfl, B, by unfold dqH dqF; rw [if_pos h5, if_pos h5]; exact List.Perm.refl _⟩
def M_X0_undo : Md := (yX0_undo, cX0_undo, 1, (some .int), 4, 105, 0, 0)
theorem ok_X0_undo : MOKv M_X0_undo 0 := ⟨q1120, q1121, q89, q1122, ⟨by decide +kernel, by decide +kernel, by decide +kernel⟩⟩
set_option maxHeartbeats 4000000 in
theorem x_undo0 (l : Launch) (g : GT) (a : Nat → Nat) (s0 : Nat) (us bn : Int32) (d1 hd tl : Nat) (f : Nat → Option Nat) (hh : hd < 6) (ht : tl < 6) (X : va_W) (he : hd = tl) : Ct l g M_X0_undo [.ref (a 0)] ((a 0, .inr (0, elF a us bn s0)) :: (dqW g (a 3) d1 hd tl f ++ X)) (fun rv w => rv = some (.int (-4)) ∧ w = ((a 0, .inr (0, elF a us bn s0)) :: (dqW g (a 3) d1 hd tl f ++ X))) := by
  refine Ct.start2 (M := M_X0_undo) rfl [(0, .ref (a 0))] rfl (by decide +kernel) (Nat.le_of_ble_eq_true rfl) ?_
  intro p e s m args below meth c A9 C
  refine v_aload_n C dX0_undo_0 0 rfl ?_
  refine v_get C in_X0 rfl 0 rfl 1 (by decide) q484 (fun _ h => h) rfl dX0_undo_1 ?_
  refine v_zMV (ws' := ((_, .inr (0, [_, _, _, _, _, _, _, _, _])) :: (_, .inr (9, [_, _, _])) :: (_, .inl (_, _, .inr (.inr (.inr (.inr _))))) :: X)) C (j_empty l g (a 3) d1 hd tl f hh ht) [_] rfl ok_J3_isEmpty rfl q1123 rfl (Nat.le_of_ble_eq_true rfl) 0 rfl rfl rfl dX0_undo_4 (roomL rfl rfl) ⟨rfl, rfl⟩ rfl ?_
  refine v_if_eqB C 13 dX0_undo_7 (by decide) (fun c7_1 => ?_) (fun c7_1 => ?_)
  · exact absurd (by rw [he]) c7_1
  · skip
    refine v_bipush (v := -4) C dX0_undo_10 (by decide) ?_
    exact v_iret C dX0_undo_12 (Nat.le_of_ble_eq_true rfl) (Nat.le_of_ble_eq_true rfl) ⟨rfl, rfl⟩
set_option maxHeartbeats 4000000 in
theorem x_undo1 (l : Launch) (g : GT) (a : Nat → Nat) (s0 : Nat) (us bn : Int32) (d1 hd tl : Nat) (f : Nat → Option Nat) (hh : hd < 6) (ht : tl < 6) (x : Nat) (fs : List Value) (X : va_W) (he : hd ≠ tl) (hx : f ((tl + 5) % 6) = some x) : Ct l g M_X0_undo [.ref (a 0)] ((a 0, .inr (0, elF a us bn s0)) :: (dqW g (a 3) d1 hd tl f ++ ((x, .inr (1, fs)) :: X))) (fun rv w => rv = some (.int (nI (((tl + 5) % 6 + 6 - hd) % 6))) ∧ w = ((a 0, .inr (0, elF a us bn x)) :: (dqW g (a 3) d1 hd ((tl + 5) % 6) (va_up f ((tl + 5) % 6) none) ++ ((x, .inr (1, fs)) :: X)))) := by
  refine Ct.start2 (M := M_X0_undo) rfl [(0, .ref (a 0))] rfl (by decide +kernel) (Nat.le_of_ble_eq_true rfl) ?_
  intro p e s m args below meth c A9 C
  refine v_aload_n C dX0_undo_0 0 rfl ?_
  refine v_get C in_X0 rfl 0 rfl 1 (by decide) q484 (fun _ h => h) rfl dX0_undo_1 ?_
  refine v_zMV (ws' := ((_, .inr (0, [_, _, _, _, _, _, _, _, _])) :: (_, .inr (9, [_, _, _])) :: (_, .inl (_, _, .inr (.inr (.inr (.inr _))))) :: ((x, .inr (1, fs)) :: X))) C (j_empty l g (a 3) d1 hd tl f hh ht) [_] rfl ok_J3_isEmpty rfl q1123 rfl (Nat.le_of_ble_eq_true rfl) 0 rfl rfl rfl dX0_undo_4 (roomL rfl rfl) ⟨rfl, rfl⟩ rfl ?_
  refine v_if_eqB C 13 dX0_undo_7 (by decide) (fun c7_1 => ?_) (fun c7_1 => ?_)
  · skip
    refine v_aload_n C dX0_undo_13 0 rfl ?_
    refine v_aload_n C dX0_undo_14 0 rfl ?_
    refine v_get C in_X0 rfl 0 rfl 1 (by decide) q484 (fun _ h => h) rfl dX0_undo_15 ?_
    refine v_zMV (ws' := ((_, .inr (0, [_, _, _, _, _, _, _, _, _])) :: (_, .inr (9, [_, _, _])) :: (_, .inl (_, _, .inr (.inr (.inr (.inr _))))) :: ((x, .inr (1, fs)) :: X))) C (j_remL l g (a 3) d1 hd tl f hh ht x hx) [_] rfl ok_J3_removeLast rfl q1127 rfl (Nat.le_of_ble_eq_true rfl) 0 rfl rfl rfl dX0_undo_18 (roomL rfl rfl) ⟨rfl, rfl⟩ rfl ?_
    refine v_castS (r := (RX1, TX1, 13)) C q120 3 rfl rfl dX0_undo_21 ?_
    refine v_put (ws' := ((_, .inr (0, [_, _, _, _, _, _, _, _, _])) :: (_, .inr (9, [_, _, _])) :: (_, .inl (_, _, .inr (.inr (.inr (.inr _))))) :: ((x, .inr (1, fs)) :: X))) C in_X0 tyX0 tyX0_ok nmX0 rfl 0 rfl 0 (by decide) q483 (fun _ h => h) rfl rfl rfl (Nat.le_of_ble_eq_true rfl) dX0_undo_24 rfl ?_
    refine v_aload_n C dX0_undo_27 0 rfl ?_
    refine v_get C in_X0 rfl 0 rfl 1 (by decide) q484 (fun _ h => h) rfl dX0_undo_28 ?_
    refine v_zMV (ws' := ((_, .inr (0, [_, _, _, _, _, _, _, _, _])) :: (_, .inr (9, [_, _, _])) :: (_, .inl (_, _, .inr (.inr (.inr (.inr _))))) :: ((x, .inr (1, fs)) :: X))) C (j_dsize l g (a 3) d1 hd ((tl + 5) % 6) (va_up f ((tl + 5) % 6) none) hh (Nat.mod_lt _ (by decide))) [_] rfl ok_J3_size rfl q521 rfl (Nat.le_of_ble_eq_true rfl) 0 rfl rfl rfl dX0_undo_31 (roomL rfl rfl) ⟨rfl, rfl⟩ rfl ?_
    exact v_iret C dX0_undo_34 (Nat.le_of_ble_eq_true rfl) (Nat.le_of_ble_eq_true rfl) ⟨rfl, rfl⟩
  · exact absurd (nI_inj (by omega) (by omega) c7_1) he
def M_X0_keep : Md := (yX0_keep, cX0_keep, 2, (some .int), 6, 143, 25, 164)
theorem ok_X0_keep : MOKv M_X0_keep 1 := ⟨q1139, q1140, q89, q1141, ⟨by decide +kernel, by decide +kernel, by decide +kernel⟩⟩
theorem sw_mid (g : GT) (B : Nat → Nat) (nb nl nc : Nat) (r : Nat → Int32) (b : Nat → Int64) (c : Nat × va_E) (X : va_W) : (sw g B nb nl nc r b (c :: X))[nb + (nl + nc) + 8]? = some c := by
  show (tlW B nb nl nc r (c :: X))[nb + (nl + nc)]? = some c
  unfold tlW
  rw [List.getElem?_append_right (by rw [mpL_len]; omega), mpL_len, List.getElem?_append_right (by rw [mpL_len]; omega), mpL_len, List.getElem?_append_right (by rw [mpL_len]; omega), mpL_len, show nb + (nl + nc) - nb - nl - nc = 0 by omega]
  rfl
set_option maxHeartbeats 4000000 in
theorem x_keep (l : Launch) (g : GT) (a A : Nat → Nat) (nb nl nc : Nat) (r : Nat → Int32) (b : Nat → Int64) (us bn : Int32) (im : Nat → Option Nat) (X : va_W) (hnb : nb ≤ 8) (hnl : nl ≤ 3) (hnc : nc ≤ 6) (x : Int32) : Ct l g M_X0_keep [.ref (a 0), .int x] ((a 0, .inr (0, elF a us bn (A 0))) :: (a 4, .inl (g.2 5, 2, .inr (.inr (.inr (.inr im))))) :: sw g A nb nl nc r b X) (fun rv w => if 0 ≤ x ∧ x ≤ 1 then rv = some (.int (r 0)) ∧ ∃ B : Nat → Nat, w.Perm ((a 0, .inr (0, elF a us bn (A 0))) :: (a 4, .inl (g.2 5, 2, .inr (.inr (.inr (.inr (va_up im x.toNatClampNeg (some (B 0)))))))) :: sw g B nb nl nc r b (sw g A nb nl nc r b X)) else rv = some (.int (-2)) ∧ w = ((a 0, .inr (0, elF a us bn (A 0))) :: (a 4, .inl (g.2 5, 2, .inr (.inr (.inr (.inr im))))) :: sw g A nb nl nc r b X)) := by
  refine Ct.start2 (M := M_X0_keep) rfl [(0, .ref (a 0)), (1, .int x)] rfl (by decide +kernel) (Nat.le_of_ble_eq_true rfl) ?_
  intro p e s m args below meth c A9 C
  refine v_iload_n C dX0_keep_0 1 rfl ?_
  refine v_callSp C (x_isImage l g _) ok_X0_isImage rfl q1142 rfl (Nat.le_of_ble_eq_true rfl) dX0_keep_1 (roomL rfl rfl) ⟨rfl, rfl⟩ ?_
  refine v_if_neB C 10 dX0_keep_4 (by decide) (fun c4_1 => ?_) (fun c4_1 => ?_)
  · skip
    obtain ⟨ex, hx⟩ := in_c (n := 1) rfl (by decide) c4_1
    refine v_aload_n C dX0_keep_10 0 rfl ?_
    refine v_get C in_X0 rfl 0 rfl 2 (by decide) q485 (fun _ h => h) rfl dX0_keep_11 ?_
    refine v_iload_n C dX0_keep_14 1 rfl ?_
    refine v_eqi ex ?_
    refine v_new (ci := 1) (fs := [.null, .null, .null, .null, .int 0, .int 0, .int 0, .int 0, .int 0, .int 0, .long 0, .long 0, .long 0]) C in_X1 tyX1 tyX1_ok q120 q121 q90 rfl (by decide +kernel) (Nat.le_of_ble_eq_true rfl) (Nat.le_of_ble_eq_true rfl) dX0_keep_15 (fun q15 => ?_)
    refine v_perm (ws' := (q15, .inr (1, [.null, .null, .null, .null, .int 0, .int 0, .int 0, .int 0, .int 0, .int 0, .long 0, .long 0, .long 0])) :: ((_, .inr (0, [_, _, _, _, _, _, _, _, _])) :: (_, .inl (_, _, .inr (.inr (.inr (.inr _))))) :: sw g A nb nl nc r b X)) (List.perm_append_comm (l₂ := [_])) ?_
    refine v_dup C dX0_keep_18 rfl ?_
    refine v_aload_n C dX0_keep_19 0 rfl ?_
    refine v_get C in_X0 rfl 1 rfl 0 (by decide) q483 (fun _ h => h) rfl dX0_keep_20 ?_
    refine v_callI (wr := [_, _]) C (x_scopy l g q15 A nb nl nc r b X hnb hnl hnc) ok_X1_init_2 rfl q583 rfl (Nat.le_of_ble_eq_true rfl) dX0_keep_23 (roomL rfl rfl) (perm_news _ [_, _] _) ?_
    rintro _ _ ⟨rfl, B, hB, hpB⟩
    refine v_perm (ws' := ((_, .inr (0, [_, _, _, _, _, _, _, _, _])) :: (_, .inl (_, _, .inr (.inr (.inr (.inr _))))) :: sw g B nb nl nc r b (sw g A nb nl nc r b X))) ((hpB.append_right _).trans List.perm_append_comm) ?_
    subst hB
    refine v_st (st' := [_, _, _]) rfl ?_
    refine v_aast (r := (RX1, TX1, 13)) (ws' := ((_, .inr (0, [_, _, _, _, _, _, _, _, _])) :: (_, .inl (_, _, .inr (.inr (.inr (.inr _))))) :: sw g B nb nl nc r b (sw g A nb nl nc r b X))) C 5 dX0_keep_26 1 rfl rfl 2 rfl rfl (ixn (by omega) (by decide)) rfl ?_
    refine v_aload_n C dX0_keep_27 0 rfl ?_
    refine v_get C in_X0 rfl 0 rfl 0 (by decide) q483 (fun _ h => h) rfl dX0_keep_28 ?_
    refine v_getN C in_X1 rfl (nb + (nl + nc) + 8 + 2) (sw_mid g B nb nl nc r b (A 0, .inr (1, stF A r b)) _) 4 (by decide) q163 (fun _ h => h) rfl dX0_keep_31 ?_
    exact v_iret C dX0_keep_34 (Nat.le_of_ble_eq_true rfl) (Nat.le_of_ble_eq_true rfl) (by rw [if_pos c4_1]; exact ⟨rfl, B, List.Perm.refl _⟩)
  · skip
    refine v_bipush (v := -2) C dX0_keep_7 (by decide) ?_
    exact v_iret C dX0_keep_9 (Nat.le_of_ble_eq_true rfl) (Nat.le_of_ble_eq_true rfl) (by rw [if_neg c4_1]; exact ⟨rfl, rfl⟩)
