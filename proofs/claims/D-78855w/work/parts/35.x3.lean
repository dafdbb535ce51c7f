/-! ArrayDeque -/
set_option maxRecDepth 100000
theorem dq_sub : ∀ a, a < 6 → ∀ b, b < 6 → (¬ nI a - nI b < 0 → nI a - nI b = nI ((a + 6 - b) % 6)) ∧ (nI a - nI b < 0 → nI a - nI b + 6 = nI ((a + 6 - b) % 6)) := by decide
theorem dq_inc : ∀ a, a < 6 → (nI (a + 1) < nI 6 → nI (a + 1) = nI ((a + 1) % 6)) ∧ (¬ nI (a + 1) < nI 6 → (0 : Int32) = nI ((a + 1) % 6)) := by decide
theorem dq_dec : ∀ a, a < 6 → (¬ nI a + -1 < 0 → nI a + -1 = nI ((a + 5) % 6)) ∧ (nI a + -1 < 0 → (6 : Int32) - 1 = nI ((a + 5) % 6)) := by decide
def M_J3_sub : Md := (yJ3_sub, cJ3_sub, 3, (some .int), 1, 40, 0, 0)
theorem ok_J3_sub : MOKs M_J3_sub 3 := ⟨q526, q94, q527, ⟨by decide +kernel, by decide +kernel, by decide +kernel⟩⟩
set_option maxHeartbeats 4000000 in
theorem j_sub (l : Launch) (g : GT) (tl hd : Nat) (ht : tl < 6) (hh : hd < 6) : CtE l g M_J3_sub [.int (nI tl), .int (nI hd), .int 6] [] (some (.int (nI ((tl + 6 - hd) % 6)))) [] := by
  refine Ct.start2 (M := M_J3_sub) rfl [(0, .int (nI tl)), (1, .int (nI hd)), (2, .int 6)] rfl (by decide +kernel) (Nat.le_of_ble_eq_true rfl) ?_
  intro p e s m args below meth c A C
  refine v_iload_n C dJ3_sub_0 0 rfl ?_
  refine v_iload_n C dJ3_sub_1 1 rfl ?_
  refine v_isub C dJ3_sub_2 ?_
  refine v_dup C dJ3_sub_3 rfl ?_
  refine v_istore_n (lv' := [(0, _), (1, _), (2, _)]) C dJ3_sub_4 rfl (by decide) rfl ?_
  refine v_if_ge C 12 dJ3_sub_5 (by decide) (fun c5_1 => ?_) (fun c5_1 => ?_)
  · skip
    refine v_iload_n C dJ3_sub_12 0 rfl ?_
    exact v_iret C dJ3_sub_13 (Nat.le_of_ble_eq_true rfl) (Nat.le_of_ble_eq_true rfl) ⟨si ((dq_sub tl ht hd hh).1 (Int32.not_lt.mpr c5_1)), rfl⟩
  · skip
    refine v_iload_n C dJ3_sub_8 0 rfl ?_
    refine v_iload_n C dJ3_sub_9 2 rfl ?_
    refine v_iadd C dJ3_sub_10 ?_
    refine v_istore_n (lv' := [(0, _), (1, _), (2, _)]) C dJ3_sub_11 rfl (by decide) rfl ?_
    refine v_iload_n C dJ3_sub_12 0 rfl ?_
    exact v_iret C dJ3_sub_13 (Nat.le_of_ble_eq_true rfl) (Nat.le_of_ble_eq_true rfl) ⟨si ((dq_sub tl ht hd hh).2 (Int32.not_le.mp c5_1)), rfl⟩
def M_J3_inc : Md := (yJ3_inc, cJ3_inc, 2, (some .int), 1, 40, 0, 0)
theorem ok_J3_inc : MOKs M_J3_inc 2 := ⟨q540, q94, q541, ⟨by decide +kernel, by decide +kernel, by decide +kernel⟩⟩
set_option maxHeartbeats 4000000 in
theorem j_inc (l : Launch) (g : GT) (i : Nat) (hi : i < 6) : CtE l g M_J3_inc [.int (nI i), .int 6] [] (some (.int (nI ((i + 1) % 6)))) [] := by
  refine Ct.start2 (M := M_J3_inc) rfl [(0, .int (nI i)), (1, .int 6)] rfl (by decide +kernel) (Nat.le_of_ble_eq_true rfl) ?_
  intro p e s m args below meth c A C
  refine v_iinc (lv' := [(0, _), (1, _)]) C dJ3_inc_0 0 rfl (nI_1 i) (by decide) rfl ?_
  refine v_iload_n C dJ3_inc_3 0 rfl ?_
  refine v_iload_n C dJ3_inc_4 1 rfl ?_
  refine v_icmp_lt C 10 dJ3_inc_5 (by decide) (fun c5_1 => ?_) (fun c5_1 => ?_)
  · skip
    refine v_iload_n C dJ3_inc_10 0 rfl ?_
    exact v_iret C dJ3_inc_11 (Nat.le_of_ble_eq_true rfl) (Nat.le_of_ble_eq_true rfl) ⟨si ((dq_inc i hi).1 c5_1), rfl⟩
  · skip
    refine v_iconst (v := 0) C dJ3_inc_8 (by decide) ?_
    refine v_istore_n (lv' := [(0, _), (1, _)]) C dJ3_inc_9 rfl (by decide) rfl ?_
    refine v_iload_n C dJ3_inc_10 0 rfl ?_
    exact v_iret C dJ3_inc_11 (Nat.le_of_ble_eq_true rfl) (Nat.le_of_ble_eq_true rfl) ⟨si ((dq_inc i hi).2 c5_1), rfl⟩
def M_J3_dec : Md := (yJ3_dec, cJ3_dec, 2, (some .int), 1, 40, 0, 0)
theorem ok_J3_dec : MOKs M_J3_dec 2 := ⟨q1136, q94, q1137, ⟨by decide +kernel, by decide +kernel, by decide +kernel⟩⟩
set_option maxHeartbeats 4000000 in
theorem j_dec (l : Launch) (g : GT) (i : Nat) (hi : i < 6) : CtE l g M_J3_dec [.int (nI i), .int 6] [] (some (.int (nI ((i + 5) % 6)))) [] := by
  refine Ct.start2 (M := M_J3_dec) rfl [(0, .int (nI i)), (1, .int 6)] rfl (by decide +kernel) (Nat.le_of_ble_eq_true rfl) ?_
  intro p e s m args below meth c A C
  refine v_iinc (lv' := [(0, _), (1, _)]) C dJ3_dec_0 0 rfl (show _ = nI i + -1 from rfl) (by decide) rfl ?_
  refine v_iload_n C dJ3_dec_3 0 rfl ?_
  refine v_if_ge C 11 dJ3_dec_4 (by decide) (fun c4_1 => ?_) (fun c4_1 => ?_)
  · skip
    refine v_iload_n C dJ3_dec_11 0 rfl ?_
    exact v_iret C dJ3_dec_12 (Nat.le_of_ble_eq_true rfl) (Nat.le_of_ble_eq_true rfl) ⟨si ((dq_dec i hi).1 (Int32.not_lt.mpr c4_1)), rfl⟩
  · skip
    refine v_iload_n C dJ3_dec_7 1 rfl ?_
    refine v_iconst (v := 1) C dJ3_dec_8 (by decide) ?_
    refine v_isub C dJ3_dec_9 ?_
    refine v_istore_n (lv' := [(0, _), (1, _)]) C dJ3_dec_10 rfl (by decide) rfl ?_
    refine v_iload_n C dJ3_dec_11 0 rfl ?_
    exact v_iret C dJ3_dec_12 (Nat.le_of_ble_eq_true rfl) (Nat.le_of_ble_eq_true rfl) ⟨si ((dq_dec i hi).2 (Int32.not_le.mp c4_1)), rfl⟩
def M_J3_elementAt : Md := (yJ3_elementAt, cJ3_elementAt, 2, (some (.object "java/lang/Object")), 1, 40, 0, 0)
theorem ok_J3_elementAt : MOKs M_J3_elementAt 2 := ⟨q537, q94, q538, ⟨by decide +kernel, by decide +kernel, by decide +kernel⟩⟩
set_option maxHeartbeats 4000000 in
theorem j_at (l : Launch) (g : GT) (a1 : Nat) (f : Nat → Option Nat) (i x : Nat) (hi : i < 6) (hf : f i = some x) : CtE l g M_J3_elementAt [.ref a1, .int (nI i)] [(a1, .inl (g.2 4, 6, .inr (.inr (.inr (.inr f)))))] (some (.ref x)) [(a1, .inl (g.2 4, 6, .inr (.inr (.inr (.inr f)))))] := by
  refine Ct.start2 (M := M_J3_elementAt) rfl [(0, .ref a1), (1, .int (nI i))] rfl (by decide +kernel) (Nat.le_of_ble_eq_true rfl) ?_
  intro p e s m args below meth c A C
  refine v_aload_n C dJ3_elementAt_0 0 rfl ?_
  refine v_iload_n C dJ3_elementAt_1 1 rfl ?_
  refine v_aald C 4 dJ3_elementAt_2 0 rfl rfl (ixn hi (by decide)) ?_
  refine v_eqr hf ?_
  exact v_aret C (Or.inl ⟨_, rfl⟩) (Or.inr ⟨_, rfl⟩) dJ3_elementAt_3 (Nat.le_of_ble_eq_true rfl) (Nat.le_of_ble_eq_true rfl) ⟨rfl, rfl⟩
def M_J3_size : Md := (yJ3_size, cJ3_size, 1, (some .int), 2, 62, 0, 0)
theorem ok_J3_size : MOKv M_J3_size 0 := ⟨q522, q523, q94, q524, ⟨by decide +kernel, by decide +kernel, by decide +kernel⟩⟩
set_option maxHeartbeats 4000000 in
theorem j_dsize (l : Launch) (g : GT) (a0 a1 : Nat) (hd tl : Nat) (f : Nat → Option Nat) (hh : hd < 6) (ht : tl < 6)  : CtE l g M_J3_size [.ref a0] (dqW g a0 a1 hd tl f) (some (.int (nI ((tl + 6 - hd) % 6)))) (dqW g a0 a1 hd tl f) := by
  refine Ct.start2 (M := M_J3_size) rfl [(0, .ref a0)] rfl (by decide +kernel) (Nat.le_of_ble_eq_true rfl) ?_
  intro p e s m args below meth c A C
  refine v_aload_n C dJ3_size_0 0 rfl ?_
  refine v_get C in_J3 rfl 0 rfl 2 (by decide) q218 (fun _ h => h) rfl dJ3_size_1 ?_
  refine v_aload_n C dJ3_size_4 0 rfl ?_
  refine v_get C in_J3 rfl 0 rfl 1 (by decide) q217 (fun _ h => h) rfl dJ3_size_5 ?_
  refine v_aload_n C dJ3_size_8 0 rfl ?_
  refine v_get C in_J3 rfl 0 rfl 0 (by decide) q216 (fun _ h => h) rfl dJ3_size_9 ?_
  refine v_alen C 4 dJ3_size_12 1 rfl rfl (v := 6) rfl ?_
  refine v_callSp C (j_sub l g tl hd ht hh) ok_J3_sub rfl q525 rfl (Nat.le_of_ble_eq_true rfl) dJ3_size_13 (roomL rfl rfl) ⟨rfl, rfl⟩ ?_
  exact v_iret C dJ3_size_16 (Nat.le_of_ble_eq_true rfl) (Nat.le_of_ble_eq_true rfl) ⟨rfl, rfl⟩
def M_J3_isEmpty : Md := (yJ3_isEmpty, cJ3_isEmpty, 1, (some .boolean), 1, 40, 0, 0)
theorem ok_J3_isEmpty : MOKv M_J3_isEmpty 0 := ⟨q1124, q1125, q94, q1126, ⟨by decide +kernel, by decide +kernel, by decide +kernel⟩⟩
set_option maxHeartbeats 4000000 in
theorem j_empty (l : Launch) (g : GT) (a0 a1 : Nat) (hd tl : Nat) (f : Nat → Option Nat) (hh : hd < 6) (ht : tl < 6)  : CtE l g M_J3_isEmpty [.ref a0] (dqW g a0 a1 hd tl f) (some (.int (bI (nI hd = nI tl)))) (dqW g a0 a1 hd tl f) := by
  refine Ct.start2 (M := M_J3_isEmpty) rfl [(0, .ref a0)] rfl (by decide +kernel) (Nat.le_of_ble_eq_true rfl) ?_
  intro p e s m args below meth c A C
  refine v_aload_n C dJ3_isEmpty_0 0 rfl ?_
  refine v_get C in_J3 rfl 0 rfl 1 (by decide) q217 (fun _ h => h) rfl dJ3_isEmpty_1 ?_
  refine v_aload_n C dJ3_isEmpty_4 0 rfl ?_
  refine v_get C in_J3 rfl 0 rfl 2 (by decide) q218 (fun _ h => h) rfl dJ3_isEmpty_5 ?_
  refine v_ternI C 15 16 dJ3_isEmpty_11 dJ3_isEmpty_12 dJ3_isEmpty_15 (by decide) rfl (fun ht hf => v_icmp_ne C 15 dJ3_isEmpty_8 (by decide) (fun q => ht q) (fun q => hf q)) ?_
  exact v_zret C (bI_nar _) dJ3_isEmpty_16 (Nat.le_of_ble_eq_true rfl) (Nat.le_of_ble_eq_true rfl) ⟨rfl, rfl⟩
def M_J3_addLast : Md := (yJ3_addLast, cJ3_addLast, 3, none, 2, 61, 0, 0)
theorem ok_J3_addLast : MOKv M_J3_addLast 1 := ⟨q543, q544, q94, q545, ⟨by decide +kernel, by decide +kernel, by decide +kernel⟩⟩
set_option maxHeartbeats 4000000 in
theorem j_addLast (l : Launch) (g : GT) (a0 a1 : Nat) (hd tl : Nat) (f : Nat → Option Nat) (hh : hd < 6) (ht : tl < 6) (x ci : Nat) (r0 : vw_C) (fs : List Value) (hr : vwCl[ci]? = some r0) (hcast : Cond.castable r0.1 "java/lang/Object" ∈ lw_tbl) (hne : hd ≠ (tl + 1) % 6) : CtE l g M_J3_addLast [.ref a0, .ref x] ((dqW g a0 a1 hd tl f) ++ [(x, .inr (ci, fs))]) none ((dqW g a0 a1 hd ((tl + 1) % 6) (va_up f tl (some x))) ++ [(x, .inr (ci, fs))]) := by
  refine Ct.start2 (M := M_J3_addLast) rfl [(0, .ref a0), (1, .ref x)] rfl (by decide +kernel) (Nat.le_of_ble_eq_true rfl) ?_
  intro p e s m args below meth c A C
  refine v_aload_n C dJ3_addLast_0 1 rfl ?_
  refine v_ifnonnull C 12 dJ3_addLast_1 (by decide) ?_
  refine v_aload_n C dJ3_addLast_12 0 rfl ?_
  refine v_get C in_J3 rfl 0 rfl 0 (by decide) q216 (fun _ h => h) rfl dJ3_addLast_13 ?_
  refine v_astore_n (lv' := [(2, _), (0, _), (1, _)]) C dJ3_addLast_16 rfl (by decide) rfl ?_
  refine v_aload_n C dJ3_addLast_17 0 rfl ?_
  refine v_aload_n C dJ3_addLast_18 1 rfl ?_
  refine v_get C in_J3 rfl 0 rfl 2 (by decide) q218 (fun _ h => h) rfl dJ3_addLast_19 ?_
  refine v_aload_n C dJ3_addLast_22 2 rfl ?_
  refine v_aastO (ws' := [(_, .inr (9, [_, _, _])), (_, .inl (_, _, .inr (.inr (.inr (.inr _))))), (_, .inr (_, _))]) C 4 dJ3_addLast_23 1 rfl rfl hcast 2 rfl hr (ixn ht (by decide)) rfl ?_
  refine v_aload_n C dJ3_addLast_24 1 rfl ?_
  refine v_get C in_J3 rfl 0 rfl 1 (by decide) q217 (fun _ h => h) rfl dJ3_addLast_25 ?_
  refine v_aload_n C dJ3_addLast_28 1 rfl ?_
  refine v_aload_n C dJ3_addLast_29 1 rfl ?_
  refine v_get C in_J3 rfl 0 rfl 2 (by decide) q218 (fun _ h => h) rfl dJ3_addLast_30 ?_
  refine v_aload_n C dJ3_addLast_33 0 rfl ?_
  refine v_alen C 4 dJ3_addLast_34 1 rfl rfl (v := 6) rfl ?_
  refine v_callSp C (j_inc l g tl ht) ok_J3_inc rfl q539 rfl (Nat.le_of_ble_eq_true rfl) dJ3_addLast_35 (roomL rfl rfl) ⟨rfl, rfl⟩ ?_
  refine v_dup_x1 C dJ3_addLast_38 rfl rfl ?_
  refine v_put (ws' := [(_, .inr (9, [_, _, _])), (_, .inl (_, _, .inr (.inr (.inr (.inr _))))), (_, .inr (_, _))]) C in_J3 tyJ3 tyJ3_ok nmJ3 rfl 0 rfl 2 (by decide) q218 (fun _ h => h) rfl rfl rfl (Nat.le_of_ble_eq_true rfl) dJ3_addLast_39 rfl ?_
  refine v_icmp_ne C 50 dJ3_addLast_42 (by decide) (fun c42_1 => ?_) (fun c42_1 => ?_)
  · skip
    exact v_vret C dJ3_addLast_50 (Nat.le_of_ble_eq_true rfl) (Nat.le_of_ble_eq_true rfl) ⟨rfl, rfl⟩
  · exact absurd (nI_inj (by omega) (by omega) c42_1) hne
def M_J3_pollFirst : Md := (yJ3_pollFirst, cJ3_pollFirst, 4, (some (.object "java/lang/Object")), 2, 61, 0, 0)
theorem ok_J3_pollFirst : MOKv M_J3_pollFirst 0 := ⟨q533, q534, q94, q535, ⟨by decide +kernel, by decide +kernel, by decide +kernel⟩⟩
set_option maxHeartbeats 4000000 in
theorem j_pollF (l : Launch) (g : GT) (a0 a1 : Nat) (hd tl : Nat) (f : Nat → Option Nat) (hh : hd < 6) (ht : tl < 6) (x : Nat) (hf : f hd = some x) : CtE l g M_J3_pollFirst [.ref a0] (dqW g a0 a1 hd tl f) (some (.ref x)) (dqW g a0 a1 ((hd + 1) % 6) tl (va_up f hd none)) := by
  refine Ct.start2 (M := M_J3_pollFirst) rfl [(0, .ref a0)] rfl (by decide +kernel) (Nat.le_of_ble_eq_true rfl) ?_
  intro p e s m args below meth c A C
  refine v_aload_n C dJ3_pollFirst_0 0 rfl ?_
  refine v_get C in_J3 rfl 0 rfl 0 (by decide) q216 (fun _ h => h) rfl dJ3_pollFirst_1 ?_
  refine v_dup C dJ3_pollFirst_4 rfl ?_
  refine v_astore_n (lv' := [(1, _), (0, _)]) C dJ3_pollFirst_5 rfl (by decide) rfl ?_
  refine v_aload_n C dJ3_pollFirst_6 1 rfl ?_
  refine v_get C in_J3 rfl 0 rfl 1 (by decide) q217 (fun _ h => h) rfl dJ3_pollFirst_7 ?_
  refine v_dup C dJ3_pollFirst_10 rfl ?_
  refine v_istore_n (lv' := [(2, _), (1, _), (0, _)]) C dJ3_pollFirst_11 rfl (by decide) rfl ?_
  refine v_cMS C (j_at l g a1 f hd x hh hf) [_] rfl ok_J3_elementAt rfl q536 rfl (Nat.le_of_ble_eq_true rfl) dJ3_pollFirst_12 (roomL rfl rfl) rfl ?_
  refine v_astore_n (lv' := [(3, _), (2, _), (1, _), (0, _)]) C dJ3_pollFirst_15 rfl (by decide) rfl ?_
  refine v_aload_n C dJ3_pollFirst_16 0 rfl ?_
  refine v_ifnull C dJ3_pollFirst_17 ?_
  refine v_aload_n C dJ3_pollFirst_20 2 rfl ?_
  refine v_iload_n C dJ3_pollFirst_21 1 rfl ?_
  refine v_null C dJ3_pollFirst_22 ?_
  refine v_aastN (ws' := [(_, .inr (9, [_, _, _])), (_, .inl (_, _, .inr (.inr (.inr (.inr _)))))]) C 4 dJ3_pollFirst_23 1 rfl rfl (ixn hh (by decide)) rfl ?_
  refine v_aload_n C dJ3_pollFirst_24 3 rfl ?_
  refine v_iload_n C dJ3_pollFirst_25 1 rfl ?_
  refine v_aload_n C dJ3_pollFirst_26 2 rfl ?_
  refine v_alen C 4 dJ3_pollFirst_27 1 rfl rfl (v := 6) rfl ?_
  refine v_callSp C (j_inc l g hd hh) ok_J3_inc rfl q539 rfl (Nat.le_of_ble_eq_true rfl) dJ3_pollFirst_28 (roomL rfl rfl) ⟨rfl, rfl⟩ ?_
  refine v_put (ws' := [(_, .inr (9, [_, _, _])), (_, .inl (_, _, .inr (.inr (.inr (.inr _)))))]) C in_J3 tyJ3 tyJ3_ok nmJ3 rfl 0 rfl 1 (by decide) q217 (fun _ h => h) rfl rfl rfl (Nat.le_of_ble_eq_true rfl) dJ3_pollFirst_31 rfl ?_
  refine v_aload_n C dJ3_pollFirst_34 0 rfl ?_
  exact v_aret C (Or.inl ⟨_, rfl⟩) (Or.inr ⟨_, rfl⟩) dJ3_pollFirst_35 (Nat.le_of_ble_eq_true rfl) (Nat.le_of_ble_eq_true rfl) ⟨rfl, rfl⟩
def M_J3_removeFirst : Md := (yJ3_removeFirst, cJ3_removeFirst, 2, (some (.object "java/lang/Object")), 3, 84, 0, 0)
theorem ok_J3_removeFirst : MOKv M_J3_removeFirst 0 := ⟨q529, q530, q94, q531, ⟨by decide +kernel, by decide +kernel, by decide +kernel⟩⟩
set_option maxHeartbeats 4000000 in
theorem j_remF (l : Launch) (g : GT) (a0 a1 : Nat) (hd tl : Nat) (f : Nat → Option Nat) (hh : hd < 6) (ht : tl < 6) (x : Nat) (hf : f hd = some x) : CtE l g M_J3_removeFirst [.ref a0] (dqW g a0 a1 hd tl f) (some (.ref x)) (dqW g a0 a1 ((hd + 1) % 6) tl (va_up f hd none)) := by
  refine Ct.start2 (M := M_J3_removeFirst) rfl [(0, .ref a0)] rfl (by decide +kernel) (Nat.le_of_ble_eq_true rfl) ?_
  intro p e s m args below meth c A C
  refine v_aload_n C dJ3_removeFirst_0 0 rfl ?_
  refine v_callVw C (j_pollF l g a0 a1 hd tl f hh ht x hf) ok_J3_pollFirst rfl q532 rfl (Nat.le_of_ble_eq_true rfl) 0 rfl rfl rfl dJ3_removeFirst_1 (roomL rfl rfl) ⟨rfl, rfl⟩ ?_
  refine v_astore_n (lv' := [(1, _), (0, _)]) C dJ3_removeFirst_4 rfl (by decide) rfl ?_
  refine v_aload_n C dJ3_removeFirst_5 0 rfl ?_
  refine v_ifnonnull C 17 dJ3_removeFirst_6 (by decide) ?_
  refine v_aload_n C dJ3_removeFirst_17 0 rfl ?_
  exact v_aret C (Or.inl ⟨_, rfl⟩) (Or.inr ⟨_, rfl⟩) dJ3_removeFirst_18 (Nat.le_of_ble_eq_true rfl) (Nat.le_of_ble_eq_true rfl) ⟨rfl, rfl⟩
def M_J3_pollLast : Md := (yJ3_pollLast, cJ3_pollLast, 4, (some (.object "java/lang/Object")), 2, 61, 0, 0)
theorem ok_J3_pollLast : MOKv M_J3_pollLast 0 := ⟨q1132, q1133, q94, q1134, ⟨by decide +kernel, by decide +kernel, by decide +kernel⟩⟩
set_option maxHeartbeats 4000000 in
theorem j_pollL (l : Launch) (g : GT) (a0 a1 : Nat) (hd tl : Nat) (f : Nat → Option Nat) (hh : hd < 6) (ht : tl < 6) (x : Nat) (hf : f ((tl + 5) % 6) = some x) : CtE l g M_J3_pollLast [.ref a0] (dqW g a0 a1 hd tl f) (some (.ref x)) (dqW g a0 a1 hd ((tl + 5) % 6) (va_up f ((tl + 5) % 6) none)) := by
  refine Ct.start2 (M := M_J3_pollLast) rfl [(0, .ref a0)] rfl (by decide +kernel) (Nat.le_of_ble_eq_true rfl) ?_
  intro p e s m args below meth c A C
  refine v_aload_n C dJ3_pollLast_0 0 rfl ?_
  refine v_get C in_J3 rfl 0 rfl 0 (by decide) q216 (fun _ h => h) rfl dJ3_pollLast_1 ?_
  refine v_dup C dJ3_pollLast_4 rfl ?_
  refine v_astore_n (lv' := [(1, _), (0, _)]) C dJ3_pollLast_5 rfl (by decide) rfl ?_
  refine v_aload_n C dJ3_pollLast_6 1 rfl ?_
  refine v_get C in_J3 rfl 0 rfl 2 (by decide) q218 (fun _ h => h) rfl dJ3_pollLast_7 ?_
  refine v_aload_n C dJ3_pollLast_10 0 rfl ?_
  refine v_alen C 4 dJ3_pollLast_11 1 rfl rfl (v := 6) rfl ?_
  refine v_callSp C (j_dec l g tl ht) ok_J3_dec rfl q1135 rfl (Nat.le_of_ble_eq_true rfl) dJ3_pollLast_12 (roomL rfl rfl) ⟨rfl, rfl⟩ ?_
  refine v_dup C dJ3_pollLast_15 rfl ?_
  refine v_istore_n (lv' := [(2, _), (1, _), (0, _)]) C dJ3_pollLast_16 rfl (by decide) rfl ?_
  refine v_cMS C (j_at l g a1 f _ x (Nat.mod_lt _ (by decide)) hf) [_] rfl ok_J3_elementAt rfl q536 rfl (Nat.le_of_ble_eq_true rfl) dJ3_pollLast_17 (roomL rfl rfl) rfl ?_
  refine v_astore_n (lv' := [(3, _), (2, _), (1, _), (0, _)]) C dJ3_pollLast_20 rfl (by decide) rfl ?_
  refine v_aload_n C dJ3_pollLast_21 0 rfl ?_
  refine v_ifnull C dJ3_pollLast_22 ?_
  refine v_aload_n C dJ3_pollLast_25 2 rfl ?_
  refine v_aload_n C dJ3_pollLast_26 3 rfl ?_
  refine v_iload_n C dJ3_pollLast_27 1 rfl ?_
  refine v_dup_x1 C dJ3_pollLast_28 rfl rfl ?_
  refine v_put (ws' := [(_, .inr (9, [_, _, _])), (_, .inl (_, _, .inr (.inr (.inr (.inr _)))))]) C in_J3 tyJ3 tyJ3_ok nmJ3 rfl 0 rfl 2 (by decide) q218 (fun _ h => h) rfl rfl rfl (Nat.le_of_ble_eq_true rfl) dJ3_pollLast_29 rfl ?_
  refine v_null C dJ3_pollLast_32 ?_
  refine v_aastN (ws' := [(_, .inr (9, [_, _, _])), (_, .inl (_, _, .inr (.inr (.inr (.inr _)))))]) C 4 dJ3_pollLast_33 1 rfl rfl (ixn (Nat.mod_lt _ (by decide)) (by decide)) rfl ?_
  refine v_aload_n C dJ3_pollLast_34 0 rfl ?_
  exact v_aret C (Or.inl ⟨_, rfl⟩) (Or.inr ⟨_, rfl⟩) dJ3_pollLast_35 (Nat.le_of_ble_eq_true rfl) (Nat.le_of_ble_eq_true rfl) ⟨rfl, rfl⟩
def M_J3_removeLast : Md := (yJ3_removeLast, cJ3_removeLast, 2, (some (.object "java/lang/Object")), 3, 84, 0, 0)
theorem ok_J3_removeLast : MOKv M_J3_removeLast 0 := ⟨q1128, q1129, q94, q1130, ⟨by decide +kernel, by decide +kernel, by decide +kernel⟩⟩
set_option maxHeartbeats 4000000 in
theorem j_remL (l : Launch) (g : GT) (a0 a1 : Nat) (hd tl : Nat) (f : Nat → Option Nat) (hh : hd < 6) (ht : tl < 6) (x : Nat) (hf : f ((tl + 5) % 6) = some x) : CtE l g M_J3_removeLast [.ref a0] (dqW g a0 a1 hd tl f) (some (.ref x)) (dqW g a0 a1 hd ((tl + 5) % 6) (va_up f ((tl + 5) % 6) none)) := by
  refine Ct.start2 (M := M_J3_removeLast) rfl [(0, .ref a0)] rfl (by decide +kernel) (Nat.le_of_ble_eq_true rfl) ?_
  intro p e s m args below meth c A C
  refine v_aload_n C dJ3_removeLast_0 0 rfl ?_
  refine v_callVw C (j_pollL l g a0 a1 hd tl f hh ht x hf) ok_J3_pollLast rfl q1131 rfl (Nat.le_of_ble_eq_true rfl) 0 rfl rfl rfl dJ3_removeLast_1 (roomL rfl rfl) ⟨rfl, rfl⟩ ?_
  refine v_astore_n (lv' := [(1, _), (0, _)]) C dJ3_removeLast_4 rfl (by decide) rfl ?_
  refine v_aload_n C dJ3_removeLast_5 0 rfl ?_
  refine v_ifnonnull C 17 dJ3_removeLast_6 (by decide) ?_
  refine v_aload_n C dJ3_removeLast_17 0 rfl ?_
  exact v_aret C (Or.inl ⟨_, rfl⟩) (Or.inr ⟨_, rfl⟩) dJ3_removeLast_18 (Nat.le_of_ble_eq_true rfl) (Nat.le_of_ble_eq_true rfl) ⟨rfl, rfl⟩
def M_J3_init : Md := (yJ3_init, cJ3_init, 2, none, 2, 60, 1, 6)
theorem ok_J3_init : MOKi M_J3_init 1 := ⟨q211, q94, q212, ⟨rfl, rfl⟩, ⟨by decide +kernel, by decide +kernel, by decide +kernel⟩⟩
set_option maxHeartbeats 4000000 in
theorem j_dinit (l : Launch) (g : GT) (q : Nat) : Ct l g M_J3_init [.ref q, .int 5] [(q, .inr (9, [.null, .int 0, .int 0]))] (fun rv w => rv = none ∧ ∃ a1, w = dqW g q a1 0 0 (fun _ => none)) := by
  refine Ct.start2 (M := M_J3_init) rfl [(0, .ref q), (1, .int 5)] rfl (by decide +kernel) (Nat.le_of_ble_eq_true rfl) ?_
  intro p e s m args below meth c A C
  refine v_aload_n C dJ3_init_0 0 rfl ?_
  refine v_cMI C (j_c0 l g _) [] rfl ok_J0_init rfl q213 rfl (Nat.le_of_ble_eq_true rfl) dJ3_init_1 (roomL rfl rfl) rfl ?_
  refine v_aload_n C dJ3_init_4 0 rfl ?_
  refine v_iload_n C dJ3_init_5 1 rfl ?_
  refine v_iconst (v := 1) C dJ3_init_6 (by decide) ?_
  refine v_icmp_ge C 14 dJ3_init_7 (by decide) (fun c7_1 => ?_) (fun c7_1 => ?_)
  · skip
    refine v_iload_n C dJ3_init_14 1 rfl ?_
    refine v_ldc C dJ3_init_15 q214 ?_
    refine v_icmp_ne C 25 dJ3_init_17 (by decide) (fun c17_2 => ?_) (fun c17_2 => ?_)
    · skip
      refine v_iload_n C dJ3_init_25 1 rfl ?_
      refine v_iconst (v := 1) C dJ3_init_26 (by decide) ?_
      refine v_iadd C dJ3_init_27 ?_
      refine v_newq (N := 6) C 4 rfl q215 q139 (by decide) rfl (Nat.le_of_ble_eq_true rfl) (Nat.le_of_ble_eq_true rfl) (Nat.le_of_ble_eq_true rfl) dJ3_init_28 (fun q28 => ?_)
      refine v_ws (ws' := [(_, .inr (9, [_, _, _])), (_, .inl (_, _, .inr (.inr (.inr (.inr _)))))]) rfl ?_
      refine v_put (ws' := [(_, .inr (9, [_, _, _])), (_, .inl (_, _, .inr (.inr (.inr (.inr _)))))]) C in_J3 tyJ3 tyJ3_ok nmJ3 rfl 0 rfl 0 (by decide) q216 (fun _ h => h) rfl rfl rfl (Nat.le_of_ble_eq_true rfl) dJ3_init_31 rfl ?_
      exact v_vret C dJ3_init_34 (Nat.le_of_ble_eq_true rfl) (Nat.le_of_ble_eq_true rfl) ⟨rfl, q28, rfl⟩
    · exact absurd c17_2 (by decide)
  · exact absurd (by decide) c7_1
