/-! the reference's constructor -/
set_option maxRecDepth 100000
def prI : Nat → Nat → Int32
  | 0 => upd (fun _ => 0) 1 1000
  | k + 1 => upd (prI k) (6 + k) (100 - 20 * nI k)
def m0fs : List Value := [.null, .null, .int 0, .null, .null, .int 0, .null, .null, .int 0, .int 0, .int 0, .null, .int 0, .int 0, .long 0]
def M_X3_init : Md := (yX3_init, cX3_init, 2, none, 1, 40, 7, 1231)
theorem ok_X3_init : MOKi M_X3_init 0 := ⟨q1163, q103, q1164, ⟨rfl, rfl⟩, ⟨by decide +kernel, by decide +kernel, by decide +kernel⟩⟩
set_option maxHeartbeats 4000000 in
theorem m_init (l : Launch) (g : GT) (a0 : Nat) : Ct l g M_X3_init [.ref a0] [(a0, .inr (3, m0fs))] (fun rv w => rv = none ∧ ∃ a : Nat → Nat, a 0 = a0 ∧ w = mw g a (prI 4) (fun _ => 0) (0, fun _ => 0) (fun _ => 0, 0, fun _ => 0) (fun _ => 0, 0) (0, 0, fun _ => 0, 0, 0) 0) := by
  refine Ct.start2 (M := M_X3_init) rfl [(0, .ref a0)] rfl (by decide +kernel) (Nat.le_of_ble_eq_true rfl) ?_
  intro p e s m args below meth c A C
  refine v_aload_n C dX3_init_0 0 rfl ?_
  refine v_objInit C q1165 q118 q119 dX3_init_1 (Nat.le_of_ble_eq_true rfl) (Nat.le_of_ble_eq_true rfl) ?_
  refine v_aload_n C dX3_init_4 0 rfl ?_
  refine v_sipush (v := 1040) C dX3_init_5 (by decide) ?_
  refine v_newI (N := 1040) C q207 (by decide) rfl (Nat.le_of_ble_eq_true rfl) (Nat.le_of_ble_eq_true rfl) (Nat.le_of_ble_eq_true rfl) dX3_init_8 (fun q8 => ?_)
  refine v_ws (ws' := [(_, .inr (3, [_, _, _, _, _, _, _, _, _, _, _, _, _, _, _])), (_, .inl (_, _, .inl _))]) rfl ?_
  refine v_putF (ws' := [(_, .inr (3, [_, _, _, _, _, _, _, _, _, _, _, _, _, _, _])), (_, .inl (_, _, .inl _))]) C in_X3 tyX3 tyX3_ok nmX3 rfl 0 rfl 0 (by decide) q1166 (fun _ h => h) rfl rfl rfl rfl rfl (Nat.le_of_ble_eq_true rfl) dX3_init_10 rfl ?_
  refine v_aload_n C dX3_init_13 0 rfl ?_
  refine v_bipush (v := 48) C dX3_init_14 (by decide) ?_
  refine v_newJ (N := 48) C q1212 (by decide) rfl (Nat.le_of_ble_eq_true rfl) (Nat.le_of_ble_eq_true rfl) (Nat.le_of_ble_eq_true rfl) dX3_init_16 (fun q16 => ?_)
  refine v_ws (ws' := [(_, .inr (3, [_, _, _, _, _, _, _, _, _, _, _, _, _, _, _])), (_, .inl (_, _, .inl _)), (_, .inl (_, _, .inr (.inl _)))]) rfl ?_
  refine v_putF (ws' := [(_, .inr (3, [_, _, _, _, _, _, _, _, _, _, _, _, _, _, _])), (_, .inl (_, _, .inl _)), (_, .inl (_, _, .inr (.inl _)))]) C in_X3 tyX3 tyX3_ok nmX3 rfl 0 rfl 1 (by decide) q1167 (fun _ h => h) rfl rfl rfl rfl rfl (Nat.le_of_ble_eq_true rfl) dX3_init_18 rfl ?_
  refine v_aload_n C dX3_init_21 0 rfl ?_
  refine v_iconst (v := 2) C dX3_init_22 (by decide) ?_
  refine v_newZ (N := 2) C q1213 (by decide) rfl (Nat.le_of_ble_eq_true rfl) (Nat.le_of_ble_eq_true rfl) (Nat.le_of_ble_eq_true rfl) dX3_init_23 (fun q23 => ?_)
  refine v_ws (ws' := [(_, .inr (3, [_, _, _, _, _, _, _, _, _, _, _, _, _, _, _])), (_, .inl (_, _, .inl _)), (_, .inl (_, _, .inr (.inl _))), (_, .inl (_, _, .inl _))]) rfl ?_
  refine v_putF (ws' := [(_, .inr (3, [_, _, _, _, _, _, _, _, _, _, _, _, _, _, _])), (_, .inl (_, _, .inl _)), (_, .inl (_, _, .inr (.inl _))), (_, .inl (_, _, .inl _))]) C in_X3 tyX3 tyX3_ok nmX3 rfl 0 rfl 3 (by decide) q1169 (fun _ h => h) rfl rfl rfl rfl rfl (Nat.le_of_ble_eq_true rfl) dX3_init_25 rfl ?_
  refine v_aload_n C dX3_init_28 0 rfl ?_
  refine v_bipush (v := 8) C dX3_init_29 (by decide) ?_
  refine v_newI (N := 8) C q207 (by decide) rfl (Nat.le_of_ble_eq_true rfl) (Nat.le_of_ble_eq_true rfl) (Nat.le_of_ble_eq_true rfl) dX3_init_31 (fun q31 => ?_)
  refine v_ws (ws' := [(_, .inr (3, [_, _, _, _, _, _, _, _, _, _, _, _, _, _, _])), (_, .inl (_, _, .inl _)), (_, .inl (_, _, .inr (.inl _))), (_, .inl (_, _, .inl _)), (_, .inl (_, _, .inl _))]) rfl ?_
  refine v_putF (ws' := [(_, .inr (3, [_, _, _, _, _, _, _, _, _, _, _, _, _, _, _])), (_, .inl (_, _, .inl _)), (_, .inl (_, _, .inr (.inl _))), (_, .inl (_, _, .inl _)), (_, .inl (_, _, .inl _))]) C in_X3 tyX3 tyX3_ok nmX3 rfl 0 rfl 4 (by decide) q1170 (fun _ h => h) rfl rfl rfl rfl rfl (Nat.le_of_ble_eq_true rfl) dX3_init_33 rfl ?_
  refine v_aload_n C dX3_init_36 0 rfl ?_
  refine v_bipush (v := 8) C dX3_init_37 (by decide) ?_
  refine v_newI (N := 8) C q207 (by decide) rfl (Nat.le_of_ble_eq_true rfl) (Nat.le_of_ble_eq_true rfl) (Nat.le_of_ble_eq_true rfl) dX3_init_39 (fun q39 => ?_)
  refine v_ws (ws' := [(_, .inr (3, [_, _, _, _, _, _, _, _, _, _, _, _, _, _, _])), (_, .inl (_, _, .inl _)), (_, .inl (_, _, .inr (.inl _))), (_, .inl (_, _, .inl _)), (_, .inl (_, _, .inl _)), (_, .inl (_, _, .inl _))]) rfl ?_
  refine v_putF (ws' := [(_, .inr (3, [_, _, _, _, _, _, _, _, _, _, _, _, _, _, _])), (_, .inl (_, _, .inl _)), (_, .inl (_, _, .inr (.inl _))), (_, .inl (_, _, .inl _)), (_, .inl (_, _, .inl _)), (_, .inl (_, _, .inl _))]) C in_X3 tyX3 tyX3_ok nmX3 rfl 0 rfl 6 (by decide) q1172 (fun _ h => h) rfl rfl rfl rfl rfl (Nat.le_of_ble_eq_true rfl) dX3_init_41 rfl ?_
  refine v_aload_n C dX3_init_44 0 rfl ?_
  refine v_bipush (v := 120) C dX3_init_45 (by decide) ?_
  refine v_newI (N := 120) C q207 (by decide) rfl (Nat.le_of_ble_eq_true rfl) (Nat.le_of_ble_eq_true rfl) (Nat.le_of_ble_eq_true rfl) dX3_init_47 (fun q47 => ?_)
  refine v_ws (ws' := [(_, .inr (3, [_, _, _, _, _, _, _, _, _, _, _, _, _, _, _])), (_, .inl (_, _, .inl _)), (_, .inl (_, _, .inr (.inl _))), (_, .inl (_, _, .inl _)), (_, .inl (_, _, .inl _)), (_, .inl (_, _, .inl _)), (_, .inl (_, _, .inl _))]) rfl ?_
  refine v_putF (ws' := [(_, .inr (3, [_, _, _, _, _, _, _, _, _, _, _, _, _, _, _])), (_, .inl (_, _, .inl _)), (_, .inl (_, _, .inr (.inl _))), (_, .inl (_, _, .inl _)), (_, .inl (_, _, .inl _)), (_, .inl (_, _, .inl _)), (_, .inl (_, _, .inl _))]) C in_X3 tyX3 tyX3_ok nmX3 rfl 0 rfl 7 (by decide) q1173 (fun _ h => h) rfl rfl rfl rfl rfl (Nat.le_of_ble_eq_true rfl) dX3_init_49 rfl ?_
  refine v_aload_n C dX3_init_52 0 rfl ?_
  refine v_iconst (v := 5) C dX3_init_53 (by decide) ?_
  refine v_newI (N := 5) C q207 (by decide) rfl (Nat.le_of_ble_eq_true rfl) (Nat.le_of_ble_eq_true rfl) (Nat.le_of_ble_eq_true rfl) dX3_init_54 (fun q54 => ?_)
  refine v_ws (ws' := [(_, .inr (3, [_, _, _, _, _, _, _, _, _, _, _, _, _, _, _])), (_, .inl (_, _, .inl _)), (_, .inl (_, _, .inr (.inl _))), (_, .inl (_, _, .inl _)), (_, .inl (_, _, .inl _)), (_, .inl (_, _, .inl _)), (_, .inl (_, _, .inl _)), (_, .inl (_, _, .inl _))]) rfl ?_
  refine v_putF (ws' := [(_, .inr (3, [_, _, _, _, _, _, _, _, _, _, _, _, _, _, _])), (_, .inl (_, _, .inl _)), (_, .inl (_, _, .inr (.inl _))), (_, .inl (_, _, .inl _)), (_, .inl (_, _, .inl _)), (_, .inl (_, _, .inl _)), (_, .inl (_, _, .inl _)), (_, .inl (_, _, .inl _))]) C in_X3 tyX3 tyX3_ok nmX3 rfl 0 rfl 11 (by decide) q1177 (fun _ h => h) rfl rfl rfl rfl rfl (Nat.le_of_ble_eq_true rfl) dX3_init_56 rfl ?_
  refine v_aload_n C dX3_init_59 0 rfl ?_
  refine v_get C in_X3 rfl 0 rfl 0 (by decide) q1166 (fun _ h => h) rfl dX3_init_60 ?_
  refine v_iconst (v := 1) C dX3_init_63 (by decide) ?_
  refine v_sipush (v := 1000) C dX3_init_64 (by decide) ?_
  refine v_iast (ws' := [(_, .inr (3, [_, _, _, _, _, _, _, _, _, _, _, _, _, _, _])), (_, .inl (_, _, .inl _)), (_, .inl (_, _, .inr (.inl _))), (_, .inl (_, _, .inl _)), (_, .inl (_, _, .inl _)), (_, .inl (_, _, .inl _)), (_, .inl (_, _, .inl _)), (_, .inl (_, _, .inl _))]) C dX3_init_67 1 rfl (j := 1) (ixl rfl) rfl ?_
  refine v_iconst (v := 0) C dX3_init_68 (by decide) ?_
  refine v_istore_n (lv' := [(1, _), (0, _)]) C dX3_init_69 rfl (by decide) rfl ?_
  refine v_loop 0 4 (fun k => [(1, .int (nI k)), (0, .ref a0)]) (fun k => [(a0, .inr (3, [.ref q8, .ref q16, .int 0, .ref q23, .ref q31, .int 0, .ref q39, .ref q47, .int 0, .int 0, .int 0, .ref q54, .int 0, .int 0, .long 0])), (q8, .inl (g.2 0, 1040, .inl (prI k))), (q16, .inl (g.2 1, 48, .inr (.inl (fun _ => 0)))), (q23, .inl (g.2 2, 2, .inl (fun _ => 0))), (q31, .inl (g.2 0, 8, .inl (fun _ => 0))), (q39, .inl (g.2 0, 8, .inl (fun _ => 0))), (q47, .inl (g.2 0, 120, .inl (fun _ => 0))), (q54, .inl (g.2 0, 5, .inl (fun _ => 0)))]) rfl rfl (by omega) ?_ ?_
  · skip
    refine v_iload_n C dX3_init_70 0 rfl ?_
    refine v_iconst (v := 4) C dX3_init_71 (by decide) ?_
    refine v_icmp_ge C 97 dX3_init_72 (by decide) (fun c72_1 => ?_) (fun c72_1 => ?_)
    · skip
      exact v_vret C dX3_init_97 (Nat.le_of_ble_eq_true rfl) (Nat.le_of_ble_eq_true rfl) ⟨rfl, fun i => [a0, q8, q16, q23, q31, q39, q47, q54].getD i 0, rfl, rfl⟩
    · exact absurd (Int32.le_refl _) c72_1
  · intro k hk hk0 hback
    refine v_iload_n C dX3_init_70 0 rfl ?_
    refine v_iconst (v := 4) C dX3_init_71 (by decide) ?_
    refine v_icmp_ge C 97 dX3_init_72 (by decide) (fun c72_2 => ?_) (fun c72_2 => ?_)
    · exact absurd c72_2 (nI_ge hk (by first | decide | omega))
    · skip
      refine v_aload_n C dX3_init_75 1 rfl ?_
      refine v_get C in_X3 rfl 0 rfl 0 (by decide) q1166 (fun _ h => h) rfl dX3_init_76 ?_
      refine v_bipush (v := 6) C dX3_init_79 (by decide) ?_
      refine v_iload_n C dX3_init_81 0 rfl ?_
      refine v_iadd C dX3_init_82 ?_
      refine v_eqi (nI_add 6 k) ?_
      refine v_bipush (v := 100) C dX3_init_83 (by decide) ?_
      refine v_bipush (v := 20) C dX3_init_85 (by decide) ?_
      refine v_iload_n C dX3_init_87 0 rfl ?_
      refine v_imul C dX3_init_88 ?_
      refine v_isub C dX3_init_89 ?_
      refine v_iast (ws' := [(_, .inr (3, [_, _, _, _, _, _, _, _, _, _, _, _, _, _, _])), (_, .inl (_, _, .inl _)), (_, .inl (_, _, .inr (.inl _))), (_, .inl (_, _, .inl _)), (_, .inl (_, _, .inl _)), (_, .inl (_, _, .inl _)), (_, .inl (_, _, .inl _)), (_, .inl (_, _, .inl _))]) C dX3_init_90 1 rfl (ixn (by omega) (by decide)) rfl ?_
      refine v_iinc (lv' := [(1, _), (0, _)]) C dX3_init_91 0 rfl (nI_1 k) (by decide) rfl ?_
      refine v_goto C 70 dX3_init_94 (by decide) ?_
      exact hback
