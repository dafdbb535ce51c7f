/-! State's constructors -/
set_option maxRecDepth 100000
theorem rfs_0 (A : Nat → Nat) (o : Nat) : rfs A o 0 = fun _ => none := by
  funext i; exact if_neg (Nat.not_lt_zero i)
theorem prI_pr : upd (upd (upd (upd (fun _ => 0) 0 100) 1 80) 2 60) 3 40 = prF (prI 4) := by
  funext i
  unfold prF
  match i with
  | 0 => rfl
  | 1 => rfl
  | 2 => rfl
  | 3 => rfl
  | i + 4 => rw [if_neg (by omega), pk_un (by omega), pk_un (by omega), pk_un (by omega), pk_un (by omega)]
section VT
variable {p : Program} {l : Launch} {e : Env} {R : Room} {s : State} {m : MethodId} {args : Array Value} {below : List Frame} {meth : Method} {c : Code} {g : GT} {A : Nat → Prop} {nL cells slots : Nat} {Q : State → Prop} {y : MethodName} {cc : ByteArray} {ret : Option FieldType} {pc : Nat} {lv : List (Nat × Value)} {st : List Value} {ws : va_W}
variable {M : Md} {wc : va_W} {As st0 : List Value} {index b n : Nat} {α : Type} {F : α → va_W}
theorem v_callIt (C : Cx p s m args meth c g A y cc nL ret) (hM : Ct l g M (.ref b :: As) wc (fun rv w => rv = none ∧ ∃ z, w = F z)) (pre : va_W) (hw : ws = pre ++ wc) (ok : MOKi M n) (hn : As.length = n) (hlk : Cond.methodLink y.cls index M.1 ∈ lw_all) (hst : st0 = As.reverse ++ .ref b :: st) (h8 : (st.map fun v => v.category).sum ≤ 8) (d : decode cc pc = .ok (.invokespecial index, 3)) (hR : roomOk M R cells slots)
    (k : ∀ z, V p l e R s m args below meth c g A nL (cells + M.2.2.2.2.2.2.1) (slots + M.2.2.2.2.2.2.2) Q (pc + 3) lv st (pre ++ F z)) : V p l e R s m args below meth c g A nL cells slots Q pc lv st0 ws :=
  v_callI C hM ok hn hlk hst h8 d hR (by rw [hw]; exact List.perm_append_comm) (fun rv w h => by
    obtain ⟨rfl, z, rfl⟩ := h
    exact v_perm List.perm_append_comm (k z))
end VT
def M_X1_init : Md := (yX1_init, cX1_init, 1, none, 4, 101, 7, 37)
theorem ok_X1_init : MOKi M_X1_init 0 := ⟨q123, q90, q124, ⟨rfl, rfl⟩, ⟨by decide +kernel, by decide +kernel, by decide +kernel⟩⟩
set_option maxHeartbeats 4000000 in
theorem x_sinit (l : Launch) (g : GT) (q : Nat) : Ct l g M_X1_init [.ref q] [(q, .inr (1, [.null, .null, .null, .null, .int 0, .int 0, .int 0, .int 0, .int 0, .int 0, .long 0, .long 0, .long 0]))] (fun rv w => rv = none ∧ ∃ A : Nat → Nat, A 0 = q ∧ w = sw g A 0 0 0 (prI 4) (fun _ => 0) []) := by
  refine Ct.start2 (M := M_X1_init) rfl [(0, .ref q)] rfl (by decide +kernel) (Nat.le_of_ble_eq_true rfl) ?_
  intro p e s m args below meth c A9 C
  refine v_aload_n C dX1_init_0 0 rfl ?_
  refine v_objInit C q125 q118 q119 dX1_init_1 (Nat.le_of_ble_eq_true rfl) (Nat.le_of_ble_eq_true rfl) ?_
  refine v_aload_n C dX1_init_4 0 rfl ?_
  refine v_new (ci := 8) (fs := [.int 0, .null, .int 0]) C in_J2 tyJ2 tyJ2_ok q126 q127 q93 rfl (by decide +kernel) (Nat.le_of_ble_eq_true rfl) (Nat.le_of_ble_eq_true rfl) dX1_init_5 (fun q5 => ?_)
  refine v_ws (ws' := [(_, .inr (1, [_, _, _, _, _, _, _, _, _, _, _, _, _])), (_, .inr (8, [_, _, _]))]) rfl ?_
  refine v_dup C dX1_init_8 rfl ?_
  refine v_bipush (v := 8) C dX1_init_9 (by decide) ?_
  refine v_callIt C (j_init l g _ 8 (by decide) (by decide)) [_] rfl ok_J2_init rfl q128 rfl (Nat.le_of_ble_eq_true rfl) dX1_init_11 (roomL rfl rfl) (fun z11 => ?_)
  refine v_ws (ws' := [(_, .inr (1, [_, _, _, _, _, _, _, _, _, _, _, _, _])), (_, .inr (8, [_, _, _])), (_, .inl (_, _, .inr (.inr (.inr (.inr _)))))]) rfl ?_
  refine v_putF (ws' := [(_, .inr (1, [_, _, _, _, _, _, _, _, _, _, _, _, _])), (_, .inr (8, [_, _, _])), (_, .inl (_, _, .inr (.inr (.inr (.inr _)))))]) C in_X1 tyX1 tyX1_ok nmX1 rfl 0 rfl 0 (by decide) q154 (fun _ h => h) rfl rfl rfl rfl rfl (Nat.le_of_ble_eq_true rfl) dX1_init_14 rfl ?_
  refine v_aload_n C dX1_init_17 0 rfl ?_
  refine v_new (ci := 8) (fs := [.int 0, .null, .int 0]) C in_J2 tyJ2 tyJ2_ok q126 q127 q93 rfl (by decide +kernel) (Nat.le_of_ble_eq_true rfl) (Nat.le_of_ble_eq_true rfl) dX1_init_18 (fun q18 => ?_)
  refine v_ws (ws' := [(_, .inr (1, [_, _, _, _, _, _, _, _, _, _, _, _, _])), (_, .inr (8, [_, _, _])), (_, .inl (_, _, .inr (.inr (.inr (.inr _))))), (_, .inr (8, [_, _, _]))]) rfl ?_
  refine v_dup C dX1_init_21 rfl ?_
  refine v_iconst (v := 3) C dX1_init_22 (by decide) ?_
  refine v_callIt C (j_init l g _ 3 (by decide) (by decide)) [_, _, _] rfl ok_J2_init rfl q128 rfl (Nat.le_of_ble_eq_true rfl) dX1_init_23 (roomL rfl rfl) (fun z23 => ?_)
  refine v_ws (ws' := [(_, .inr (1, [_, _, _, _, _, _, _, _, _, _, _, _, _])), (_, .inr (8, [_, _, _])), (_, .inl (_, _, .inr (.inr (.inr (.inr _))))), (_, .inr (8, [_, _, _])), (_, .inl (_, _, .inr (.inr (.inr (.inr _)))))]) rfl ?_
  refine v_putF (ws' := [(_, .inr (1, [_, _, _, _, _, _, _, _, _, _, _, _, _])), (_, .inr (8, [_, _, _])), (_, .inl (_, _, .inr (.inr (.inr (.inr _))))), (_, .inr (8, [_, _, _])), (_, .inl (_, _, .inr (.inr (.inr (.inr _)))))]) C in_X1 tyX1 tyX1_ok nmX1 rfl 0 rfl 1 (by decide) q156 (fun _ h => h) rfl rfl rfl rfl rfl (Nat.le_of_ble_eq_true rfl) dX1_init_26 rfl ?_
  refine v_aload_n C dX1_init_29 0 rfl ?_
  refine v_new (ci := 8) (fs := [.int 0, .null, .int 0]) C in_J2 tyJ2 tyJ2_ok q126 q127 q93 rfl (by decide +kernel) (Nat.le_of_ble_eq_true rfl) (Nat.le_of_ble_eq_true rfl) dX1_init_30 (fun q30 => ?_)
  refine v_ws (ws' := [(_, .inr (1, [_, _, _, _, _, _, _, _, _, _, _, _, _])), (_, .inr (8, [_, _, _])), (_, .inl (_, _, .inr (.inr (.inr (.inr _))))), (_, .inr (8, [_, _, _])), (_, .inl (_, _, .inr (.inr (.inr (.inr _))))), (_, .inr (8, [_, _, _]))]) rfl ?_
  refine v_dup C dX1_init_33 rfl ?_
  refine v_bipush (v := 6) C dX1_init_34 (by decide) ?_
  refine v_callIt C (j_init l g _ 6 (by decide) (by decide)) [_, _, _, _, _] rfl ok_J2_init rfl q128 rfl (Nat.le_of_ble_eq_true rfl) dX1_init_36 (roomL rfl rfl) (fun z36 => ?_)
  refine v_ws (ws' := [(_, .inr (1, [_, _, _, _, _, _, _, _, _, _, _, _, _])), (_, .inr (8, [_, _, _])), (_, .inl (_, _, .inr (.inr (.inr (.inr _))))), (_, .inr (8, [_, _, _])), (_, .inl (_, _, .inr (.inr (.inr (.inr _))))), (_, .inr (8, [_, _, _])), (_, .inl (_, _, .inr (.inr (.inr (.inr _)))))]) rfl ?_
  refine v_putF (ws' := [(_, .inr (1, [_, _, _, _, _, _, _, _, _, _, _, _, _])), (_, .inr (8, [_, _, _])), (_, .inl (_, _, .inr (.inr (.inr (.inr _))))), (_, .inr (8, [_, _, _])), (_, .inl (_, _, .inr (.inr (.inr (.inr _))))), (_, .inr (8, [_, _, _])), (_, .inl (_, _, .inr (.inr (.inr (.inr _)))))]) C in_X1 tyX1 tyX1_ok nmX1 rfl 0 rfl 2 (by decide) q158 (fun _ h => h) rfl rfl rfl rfl rfl (Nat.le_of_ble_eq_true rfl) dX1_init_39 rfl ?_
  refine v_aload_n C dX1_init_42 0 rfl ?_
  refine v_iconst (v := 4) C dX1_init_43 (by decide) ?_
  refine v_newI (N := 4) C q207 (by decide) rfl (Nat.le_of_ble_eq_true rfl) (Nat.le_of_ble_eq_true rfl) (Nat.le_of_ble_eq_true rfl) dX1_init_44 (fun q44 => ?_)
  refine v_ws (ws' := [(_, .inr (1, [_, _, _, _, _, _, _, _, _, _, _, _, _])), (_, .inr (8, [_, _, _])), (_, .inl (_, _, .inr (.inr (.inr (.inr _))))), (_, .inr (8, [_, _, _])), (_, .inl (_, _, .inr (.inr (.inr (.inr _))))), (_, .inr (8, [_, _, _])), (_, .inl (_, _, .inr (.inr (.inr (.inr _))))), (_, .inl (_, _, .inl _))]) rfl ?_
  refine v_dup C dX1_init_46 rfl ?_
  refine v_iconst (v := 0) C dX1_init_47 (by decide) ?_
  refine v_bipush (v := 100) C dX1_init_48 (by decide) ?_
  refine v_iast (ws' := [(_, .inr (1, [_, _, _, _, _, _, _, _, _, _, _, _, _])), (_, .inr (8, [_, _, _])), (_, .inl (_, _, .inr (.inr (.inr (.inr _))))), (_, .inr (8, [_, _, _])), (_, .inl (_, _, .inr (.inr (.inr (.inr _))))), (_, .inr (8, [_, _, _])), (_, .inl (_, _, .inr (.inr (.inr (.inr _))))), (_, .inl (_, _, .inl _))]) C dX1_init_50 7 rfl (j := 0) (ixl rfl) rfl ?_
  refine v_dup C dX1_init_51 rfl ?_
  refine v_iconst (v := 1) C dX1_init_52 (by decide) ?_
  refine v_bipush (v := 80) C dX1_init_53 (by decide) ?_
  refine v_iast (ws' := [(_, .inr (1, [_, _, _, _, _, _, _, _, _, _, _, _, _])), (_, .inr (8, [_, _, _])), (_, .inl (_, _, .inr (.inr (.inr (.inr _))))), (_, .inr (8, [_, _, _])), (_, .inl (_, _, .inr (.inr (.inr (.inr _))))), (_, .inr (8, [_, _, _])), (_, .inl (_, _, .inr (.inr (.inr (.inr _))))), (_, .inl (_, _, .inl _))]) C dX1_init_55 7 rfl (j := 1) (ixl rfl) rfl ?_
  refine v_dup C dX1_init_56 rfl ?_
  refine v_iconst (v := 2) C dX1_init_57 (by decide) ?_
  refine v_bipush (v := 60) C dX1_init_58 (by decide) ?_
  refine v_iast (ws' := [(_, .inr (1, [_, _, _, _, _, _, _, _, _, _, _, _, _])), (_, .inr (8, [_, _, _])), (_, .inl (_, _, .inr (.inr (.inr (.inr _))))), (_, .inr (8, [_, _, _])), (_, .inl (_, _, .inr (.inr (.inr (.inr _))))), (_, .inr (8, [_, _, _])), (_, .inl (_, _, .inr (.inr (.inr (.inr _))))), (_, .inl (_, _, .inl _))]) C dX1_init_60 7 rfl (j := 2) (ixl rfl) rfl ?_
  refine v_dup C dX1_init_61 rfl ?_
  refine v_iconst (v := 3) C dX1_init_62 (by decide) ?_
  refine v_bipush (v := 40) C dX1_init_63 (by decide) ?_
  refine v_iast (ws' := [(_, .inr (1, [_, _, _, _, _, _, _, _, _, _, _, _, _])), (_, .inr (8, [_, _, _])), (_, .inl (_, _, .inr (.inr (.inr (.inr _))))), (_, .inr (8, [_, _, _])), (_, .inl (_, _, .inr (.inr (.inr (.inr _))))), (_, .inr (8, [_, _, _])), (_, .inl (_, _, .inr (.inr (.inr (.inr _))))), (_, .inl (_, _, .inl _))]) C dX1_init_65 7 rfl (j := 3) (ixl rfl) rfl ?_
  refine v_putF (ws' := [(_, .inr (1, [_, _, _, _, _, _, _, _, _, _, _, _, _])), (_, .inr (8, [_, _, _])), (_, .inl (_, _, .inr (.inr (.inr (.inr _))))), (_, .inr (8, [_, _, _])), (_, .inl (_, _, .inr (.inr (.inr (.inr _))))), (_, .inr (8, [_, _, _])), (_, .inl (_, _, .inr (.inr (.inr (.inr _))))), (_, .inl (_, _, .inl _))]) C in_X1 tyX1 tyX1_ok nmX1 rfl 0 rfl 3 (by decide) q160 (fun _ h => h) rfl rfl rfl rfl rfl (Nat.le_of_ble_eq_true rfl) dX1_init_66 rfl ?_
  refine v_aload_n C dX1_init_69 0 rfl ?_
  refine v_sipush (v := 1000) C dX1_init_70 (by decide) ?_
  refine v_put (ws' := [(_, .inr (1, [_, _, _, _, _, _, _, _, _, _, _, _, _])), (_, .inr (8, [_, _, _])), (_, .inl (_, _, .inr (.inr (.inr (.inr _))))), (_, .inr (8, [_, _, _])), (_, .inl (_, _, .inr (.inr (.inr (.inr _))))), (_, .inr (8, [_, _, _])), (_, .inl (_, _, .inr (.inr (.inr (.inr _))))), (_, .inl (_, _, .inl _))]) C in_X1 tyX1 tyX1_ok nmX1 rfl 0 rfl 5 (by decide) q164 (fun _ h => h) rfl rfl rfl (Nat.le_of_ble_eq_true rfl) dX1_init_73 rfl ?_
  exact v_vret C dX1_init_76 (Nat.le_of_ble_eq_true rfl) (Nat.le_of_ble_eq_true rfl) ⟨rfl, fun i => [q, q5, z11, q18, z23, q30, z36, q44].getD i 0, rfl, by unfold sw hdW; rw [rfs_0, rfs_0, rfs_0, ← prI_pr]; rfl⟩
