/-! the elevator's constructor -/
set_option maxRecDepth 100000
theorem range_fm {α : Type} (L : List α) : (List.range L.length).filterMap (fun i => L[i]?) = L := by
  induction L with
  | nil => rfl
  | cons x L ih =>
    rw [List.length_cons, List.range_succ_eq_map, List.filterMap_cons]
    show x :: List.filterMap _ (List.map Nat.succ (List.range L.length)) = x :: L
    rw [List.filterMap_map]
    exact congrArg (x :: ·) ih
theorem perm_ix {α : Type} {L : List α} {n : Nat} (ks : List Nat) (hn : L.length = n) (h : ks.isPerm (List.range n) = true) : (ks.filterMap (fun i => L[i]?)).Perm L := by
  subst hn
  have h1 := (List.isPerm_iff.mp h).filterMap (fun i => L[i]?)
  rwa [range_fm] at h1
/-- the text, the kinds and their orders -/
abbrev txW (g : GT) (a : Nat → Nat) (t1 : Nat) (mb : Int32) (ln : Nat) (t : Nat → Int32) (ko fo dd : Nat → Nat) : va_W :=
  [(a 5, .inr (10, [.ref t1, .int 0, .int mb, .int (nI ln)])), (t1, .inl (g.2 3, 120, .inl (fun j => bt (t j)))),
   (a 6, .inl (g.2 6, 4, .inr (.inr (.inr (.inr (rfs ko 0 4)))))), (ko 0, .inr (2, [.int 114, .int 5, .ref (fo 0), .ref (dd 0)])), (ko 1, .inr (2, [.int 109, .int 4, .ref (fo 1), .ref (dd 1)])), (ko 2, .inr (2, [.int 99, .int 2, .ref (fo 2), .ref (dd 2)])), (ko 3, .inr (2, [.int 100, .int 2, .ref (fo 3), .ref (dd 3)]))]
abbrev lamW (g : GT) (b : Nat) (fo dd : Nat → Nat) : va_W :=
  [lamC g 0 (fo 0) b, lamC g 1 (dd 0) b, lamC g 2 (fo 1) b, lamC g 3 (dd 1) b, lamC g 4 (fo 2) b, lamC g 5 (dd 2) b, lamC g 6 (fo 3) b, lamC g 7 (dd 3) b]
theorem Ct.start3 {l : Launch} {g : GT} {y : MethodName} {cc : ByteArray} {nL : Nat} {ret : Option FieldType} {ws : va_W} {M : Md} {fr lo mc ms : Nat} (hM : M = (y, cc, nL, ret, fr, lo, mc, ms)) {av : List Value} {post : Option Value → va_W → Prop} (lv : List (Nat × Value)) (hlv : lv_args 0 av = lv) (hy : plainName y.cls = true) (hlen : (lg_sl av).length ≤ nL)
    (body : ∀ (p : Program) (e : Env) (s : State) (m : MethodId) (args : Array Value) (below : List Frame) (meth : Method) (c : Code) (A : Nat → Prop), Cx p s m args meth c g A y cc nL ret → s.methodNamed? y = some m →
      V p l e ({ frames := fr, cells := mc, slots := ms, locals := lo } : Room) s m args below meth c g A nL 0 0 (VQ below args s g A mc ms post) 0 lv [] ws) : Ct l g M av ws post := by
  subst hM
  intro sz
  refine Met.ofW (cc := cc) (maxL := nL) (ret := ret) hy rfl ?_
  intro p e s m args below meth c s₁ B hml hv
  obtain ⟨rfl, hsz, hP, hD0, hK⟩ := hv
  subst hsz
  have hts := atoms_spec (ws := ws_ y cc nL ret) B.pre
  have hts : ∀ w ∈ lw_all, w.before _ s = true := fun w h => hts w (List.mem_cons_of_mem _ h)
  have hown : s.vm.findClass y.cls = some m.cls := findClass_of_methodNamed B.named
  have hnm : meth.name = y.name := (name_of_methodNamed B.named B.method).1
  have hl := lv_entry av (n := nL) hlen
  rw [lg_entry_eq]
  rw [hlv] at hl
  exact body p e s m av.toArray below meth c (va_A ws s.heap.size) ⟨B.exec, B.bytes, hml, hown, hts, B.returns, B.notSynchronized, hnm, hK, fun q h => Or.inr h⟩ B.named s.heap [] _ hP hD0.self va_S.rf hl
def M_X0_init : Md := (yX0_init, cX0_init, 1, none, 5, 3200, 28, 229)
theorem ok_X0_init : MOKi M_X0_init 0 := ⟨q115, q89, q116, ⟨rfl, rfl⟩, ⟨by decide +kernel, by decide +kernel, by decide +kernel⟩⟩
theorem kin4 (ko : Nat → Nat) : rfs ko 0 4 = va_up (va_up (va_up (va_up (fun _ => none) 0 (some (ko 0))) 1 (some (ko 1))) 2 (some (ko 2))) 3 (some (ko 3)) := by
  funext i
  match i with
  | 0 => rfl
  | 1 => rfl
  | 2 => rfl
  | 3 => rfl
  | i + 4 => unfold rfs va_up; rw [if_neg (by omega), if_neg (by omega), if_neg (by omega), if_neg (by omega), if_neg (by omega)]
theorem bt0 : (fun _ : Nat => bt 0) = fun _ => 0 := by funext _; decide
set_option maxHeartbeats 8000000 in
theorem x_init (l : Launch) (g : GT) (q : Nat) : Ct l g M_X0_init [.ref q] [(q, .inr (0, [.null, .null, .null, .null, .int 0, .null, .int 0, .null, .null]))] (fun rv w => rv = none ∧ ∃ (a A : Nat → Nat) (d1 t1 : Nat) (ko fo dd : Nat → Nat), a 0 = q ∧ w.Perm (cw g a A 0 0 0 (prI 4) (fun _ => 0) (fun _ => 0) 0 (fun _ => 0) 0 (dqW g (a 3) d1 0 0 (fun _ => none) ++ ((a 4, .inl (g.2 5, 2, .inr (.inr (.inr (.inr (fun _ => none)))))) :: (txW g a t1 0 0 (fun _ => 0) ko fo dd ++ lamW g (a 0) fo dd))))) := by
  refine Ct.start3 (M := M_X0_init) rfl [(0, .ref q)] rfl (by decide +kernel) (Nat.le_of_ble_eq_true rfl) ?_
  intro p e s m args below meth c A9 C hnm
  refine v_aload_n C dX0_init_0 0 rfl ?_
  refine v_objInit C q117 q118 q119 dX0_init_1 (Nat.le_of_ble_eq_true rfl) (Nat.le_of_ble_eq_true rfl) ?_
  refine v_aload_n C dX0_init_4 0 rfl ?_
  refine v_new (ci := 1) (fs := [.null, .null, .null, .null, .int 0, .int 0, .int 0, .int 0, .int 0, .int 0, .long 0, .long 0, .long 0]) C in_X1 tyX1 tyX1_ok q120 q121 q90 rfl (by decide +kernel) (Nat.le_of_ble_eq_true rfl) (Nat.le_of_ble_eq_true rfl) dX0_init_5 (fun q5 => ?_)
  refine v_perm (ws' := [(_, .inr (1, [_, _, _, _, _, _, _, _, _, _, _, _, _])), (_, .inr (0, [_, _, _, _, _, _, _, _, _]))]) (List.perm_append_comm (l₂ := [_])) ?_
  refine v_dup C dX0_init_8 rfl ?_
  refine v_callI (wr := [_]) C (x_sinit l g q5) ok_X1_init rfl q122 rfl (Nat.le_of_ble_eq_true rfl) dX0_init_9 (roomL rfl rfl) (List.Perm.refl _) ?_
  rintro _ _ ⟨rfl, A, hA, rfl⟩
  refine v_perm (ws' := ((_, .inr (0, [_, _, _, _, _, _, _, _, _])) :: sw g A 0 0 0 (prI 4) (fun _ => 0) [])) (List.perm_append_comm (l₂ := [_])) ?_
  subst hA
  refine v_st (st' := [_, _]) rfl ?_
  refine v_put (ws' := ((_, .inr (0, [_, _, _, _, _, _, _, _, _])) :: sw g A 0 0 0 (prI 4) (fun _ => 0) [])) C in_X0 tyX0 tyX0_ok nmX0 rfl 0 rfl 0 (by decide) q483 (fun _ h => h) rfl rfl rfl (Nat.le_of_ble_eq_true rfl) dX0_init_12 rfl ?_
  refine v_aload_n C dX0_init_15 0 rfl ?_
  refine v_new (ci := 9) (fs := [.null, .int 0, .int 0]) C in_J3 tyJ3 tyJ3_ok q208 q209 q94 rfl (by decide +kernel) (Nat.le_of_ble_eq_true rfl) (Nat.le_of_ble_eq_true rfl) dX0_init_16 (fun q16 => ?_)
  refine v_perm (ws' := ((_, .inr (9, [_, _, _])) :: (_, .inr (0, [_, _, _, _, _, _, _, _, _])) :: sw g A 0 0 0 (prI 4) (fun _ => 0) [])) (List.perm_append_comm (l₂ := [_])) ?_
  refine v_dup C dX0_init_19 rfl ?_
  refine v_iconst (v := 5) C dX0_init_20 (by decide) ?_
  refine v_callI (wr := ((_, .inr (0, [_, _, _, _, _, _, _, _, _])) :: sw g A 0 0 0 (prI 4) (fun _ => 0) [])) C (j_dinit l g q16) ok_J3_init rfl q210 rfl (Nat.le_of_ble_eq_true rfl) dX0_init_21 (roomL rfl rfl) (List.Perm.refl _) ?_
  rintro _ _ ⟨rfl, z21, rfl⟩
  refine v_ws (ws' := ((_, .inr (9, [_, _, _])) :: (_, .inl (_, _, .inr (.inr (.inr (.inr _))))) :: (_, .inr (0, [_, _, _, _, _, _, _, _, _])) :: sw g A 0 0 0 (prI 4) (fun _ => 0) [])) rfl ?_
  refine v_st (st' := [_, _]) rfl ?_
  refine v_putF (ws' := ((_, .inr (9, [_, _, _])) :: (_, .inl (_, _, .inr (.inr (.inr (.inr _))))) :: (_, .inr (0, [_, _, _, _, _, _, _, _, _])) :: sw g A 0 0 0 (prI 4) (fun _ => 0) [])) C in_X0 tyX0 tyX0_ok nmX0 rfl 2 rfl 1 (by decide) q484 (fun _ h => h) rfl rfl rfl rfl rfl (Nat.le_of_ble_eq_true rfl) dX0_init_24 rfl ?_
  refine v_aload_n C dX0_init_27 0 rfl ?_
  refine v_iconst (v := 2) C dX0_init_28 (by decide) ?_
  refine v_newq (N := 2) C 5 rfl q120 q226 (by decide) rfl (Nat.le_of_ble_eq_true rfl) (Nat.le_of_ble_eq_true rfl) (Nat.le_of_ble_eq_true rfl) dX0_init_29 (fun q29 => ?_)
  refine v_perm (ws' := ((_, .inl (_, _, .inr (.inr (.inr (.inr _))))) :: (_, .inr (9, [_, _, _])) :: (_, .inl (_, _, .inr (.inr (.inr (.inr _))))) :: (_, .inr (0, [_, _, _, _, _, _, _, _, _])) :: sw g A 0 0 0 (prI 4) (fun _ => 0) [])) (List.perm_append_comm (l₂ := [_])) ?_
  refine v_putF (ws' := ((_, .inl (_, _, .inr (.inr (.inr (.inr _))))) :: (_, .inr (9, [_, _, _])) :: (_, .inl (_, _, .inr (.inr (.inr (.inr _))))) :: (_, .inr (0, [_, _, _, _, _, _, _, _, _])) :: sw g A 0 0 0 (prI 4) (fun _ => 0) [])) C in_X0 tyX0 tyX0_ok nmX0 rfl 3 rfl 2 (by decide) q485 (fun _ h => h) rfl rfl rfl rfl rfl (Nat.le_of_ble_eq_true rfl) dX0_init_32 rfl ?_
  refine v_aload_n C dX0_init_35 0 rfl ?_
  refine v_bipush (v := 8) C dX0_init_36 (by decide) ?_
  refine v_newI (N := 8) C q207 (by decide) rfl (Nat.le_of_ble_eq_true rfl) (Nat.le_of_ble_eq_true rfl) (Nat.le_of_ble_eq_true rfl) dX0_init_38 (fun q38 => ?_)
  refine v_perm (ws' := ((_, .inl (_, _, .inl _)) :: (_, .inl (_, _, .inr (.inr (.inr (.inr _))))) :: (_, .inr (9, [_, _, _])) :: (_, .inl (_, _, .inr (.inr (.inr (.inr _))))) :: (_, .inr (0, [_, _, _, _, _, _, _, _, _])) :: sw g A 0 0 0 (prI 4) (fun _ => 0) [])) (List.perm_append_comm (l₂ := [_])) ?_
  refine v_putF (ws' := ((_, .inl (_, _, .inl _)) :: (_, .inl (_, _, .inr (.inr (.inr (.inr _))))) :: (_, .inr (9, [_, _, _])) :: (_, .inl (_, _, .inr (.inr (.inr (.inr _))))) :: (_, .inr (0, [_, _, _, _, _, _, _, _, _])) :: sw g A 0 0 0 (prI 4) (fun _ => 0) [])) C in_X0 tyX0 tyX0_ok nmX0 rfl 4 rfl 3 (by decide) q486 (fun _ h => h) rfl rfl rfl rfl rfl (Nat.le_of_ble_eq_true rfl) dX0_init_40 rfl ?_
  refine v_aload_n C dX0_init_43 0 rfl ?_
  refine v_bipush (v := 8) C dX0_init_44 (by decide) ?_
  refine v_newI (N := 8) C q207 (by decide) rfl (Nat.le_of_ble_eq_true rfl) (Nat.le_of_ble_eq_true rfl) (Nat.le_of_ble_eq_true rfl) dX0_init_46 (fun q46 => ?_)
  refine v_perm (ws' := ((_, .inl (_, _, .inl _)) :: (_, .inl (_, _, .inl _)) :: (_, .inl (_, _, .inr (.inr (.inr (.inr _))))) :: (_, .inr (9, [_, _, _])) :: (_, .inl (_, _, .inr (.inr (.inr (.inr _))))) :: (_, .inr (0, [_, _, _, _, _, _, _, _, _])) :: sw g A 0 0 0 (prI 4) (fun _ => 0) [])) (List.perm_append_comm (l₂ := [_])) ?_
  refine v_putF (ws' := ((_, .inl (_, _, .inl _)) :: (_, .inl (_, _, .inl _)) :: (_, .inl (_, _, .inr (.inr (.inr (.inr _))))) :: (_, .inr (9, [_, _, _])) :: (_, .inl (_, _, .inr (.inr (.inr (.inr _))))) :: (_, .inr (0, [_, _, _, _, _, _, _, _, _])) :: sw g A 0 0 0 (prI 4) (fun _ => 0) [])) C in_X0 tyX0 tyX0_ok nmX0 rfl 5 rfl 5 (by decide) q488 (fun _ h => h) rfl rfl rfl rfl rfl (Nat.le_of_ble_eq_true rfl) dX0_init_48 rfl ?_
  refine v_aload_n C dX0_init_51 0 rfl ?_
  refine v_new (ci := 10) (fs := [.null, .int 0, .int 0, .int 0]) C in_J5 tyJ5 tyJ5_ok q227 q228 q96 rfl (by decide +kernel) (Nat.le_of_ble_eq_true rfl) (Nat.le_of_ble_eq_true rfl) dX0_init_52 (fun q52 => ?_)
  refine v_perm (ws' := ((_, .inr (10, [_, _, _, _])) :: (_, .inl (_, _, .inl _)) :: (_, .inl (_, _, .inl _)) :: (_, .inl (_, _, .inr (.inr (.inr (.inr _))))) :: (_, .inr (9, [_, _, _])) :: (_, .inl (_, _, .inr (.inr (.inr (.inr _))))) :: (_, .inr (0, [_, _, _, _, _, _, _, _, _])) :: sw g A 0 0 0 (prI 4) (fun _ => 0) [])) (List.perm_append_comm (l₂ := [_])) ?_
  refine v_dup C dX0_init_55 rfl ?_
  refine v_bipush (v := 120) C dX0_init_56 (by decide) ?_
  refine v_callI (wr := ((_, .inl (_, _, .inl _)) :: (_, .inl (_, _, .inl _)) :: (_, .inl (_, _, .inr (.inr (.inr (.inr _))))) :: (_, .inr (9, [_, _, _])) :: (_, .inl (_, _, .inr (.inr (.inr (.inr _))))) :: (_, .inr (0, [_, _, _, _, _, _, _, _, _])) :: sw g A 0 0 0 (prI 4) (fun _ => 0) [])) C (j_sbinit l g q52) ok_J5_init rfl q229 rfl (Nat.le_of_ble_eq_true rfl) dX0_init_58 (roomL rfl rfl) (List.Perm.refl _) ?_
  rintro _ _ ⟨rfl, z58, rfl⟩
  refine v_ws (ws' := ((_, .inr (10, [_, _, _, _])) :: (_, .inl (_, _, .inl _)) :: (_, .inl (_, _, .inl _)) :: (_, .inl (_, _, .inl _)) :: (_, .inl (_, _, .inr (.inr (.inr (.inr _))))) :: (_, .inr (9, [_, _, _])) :: (_, .inl (_, _, .inr (.inr (.inr (.inr _))))) :: (_, .inr (0, [_, _, _, _, _, _, _, _, _])) :: sw g A 0 0 0 (prI 4) (fun _ => 0) [])) rfl ?_
  refine v_st (st' := [_, _]) rfl ?_
  refine v_putF (ws' := ((_, .inr (10, [_, _, _, _])) :: (_, .inl (_, _, .inl _)) :: (_, .inl (_, _, .inl _)) :: (_, .inl (_, _, .inl _)) :: (_, .inl (_, _, .inr (.inr (.inr (.inr _))))) :: (_, .inr (9, [_, _, _])) :: (_, .inl (_, _, .inr (.inr (.inr (.inr _))))) :: (_, .inr (0, [_, _, _, _, _, _, _, _, _])) :: sw g A 0 0 0 (prI 4) (fun _ => 0) [])) C in_X0 tyX0 tyX0_ok nmX0 rfl 7 rfl 7 (by decide) q491 (fun _ h => h) rfl rfl rfl rfl rfl (Nat.le_of_ble_eq_true rfl) dX0_init_61 rfl ?_
  refine v_aload_n C dX0_init_64 0 rfl ?_
  refine v_iconst (v := 4) C dX0_init_65 (by decide) ?_
  refine v_newq (N := 4) C 6 rfl q259 q260 (by decide) rfl (Nat.le_of_ble_eq_true rfl) (Nat.le_of_ble_eq_true rfl) (Nat.le_of_ble_eq_true rfl) dX0_init_66 (fun q66 => ?_)
  refine v_perm (ws' := ((_, .inl (_, _, .inr (.inr (.inr (.inr _))))) :: (_, .inr (10, [_, _, _, _])) :: (_, .inl (_, _, .inl _)) :: (_, .inl (_, _, .inl _)) :: (_, .inl (_, _, .inl _)) :: (_, .inl (_, _, .inr (.inr (.inr (.inr _))))) :: (_, .inr (9, [_, _, _])) :: (_, .inl (_, _, .inr (.inr (.inr (.inr _))))) :: (_, .inr (0, [_, _, _, _, _, _, _, _, _])) :: sw g A 0 0 0 (prI 4) (fun _ => 0) [])) (List.perm_append_comm (l₂ := [_])) ?_
  refine v_putF (ws' := ((_, .inl (_, _, .inr (.inr (.inr (.inr _))))) :: (_, .inr (10, [_, _, _, _])) :: (_, .inl (_, _, .inl _)) :: (_, .inl (_, _, .inl _)) :: (_, .inl (_, _, .inl _)) :: (_, .inl (_, _, .inr (.inr (.inr (.inr _))))) :: (_, .inr (9, [_, _, _])) :: (_, .inl (_, _, .inr (.inr (.inr (.inr _))))) :: (_, .inr (0, [_, _, _, _, _, _, _, _, _])) :: sw g A 0 0 0 (prI 4) (fun _ => 0) [])) C in_X0 tyX0 tyX0_ok nmX0 rfl 8 rfl 8 (by decide) q493 (fun _ h => h) rfl rfl rfl rfl rfl (Nat.le_of_ble_eq_true rfl) dX0_init_69 rfl ?_
  refine v_aload_n C dX0_init_72 0 rfl ?_
  refine v_get C in_X0 rfl 8 rfl 8 (by decide) q493 (fun _ h => h) rfl dX0_init_73 ?_
  refine v_iconst (v := 0) C dX0_init_76 (by decide) ?_
  refine v_new (ci := 2) (fs := [.int 0, .int 0, .null, .null]) C in_X2 tyX2 tyX2_ok q259 q261 q99 rfl (by decide +kernel) (Nat.le_of_ble_eq_true rfl) (Nat.le_of_ble_eq_true rfl) dX0_init_77 (fun q77 => ?_)
  refine v_perm (ws' := ((_, .inr (2, [_, _, _, _])) :: (_, .inl (_, _, .inr (.inr (.inr (.inr _))))) :: (_, .inr (10, [_, _, _, _])) :: (_, .inl (_, _, .inl _)) :: (_, .inl (_, _, .inl _)) :: (_, .inl (_, _, .inl _)) :: (_, .inl (_, _, .inr (.inr (.inr (.inr _))))) :: (_, .inr (9, [_, _, _])) :: (_, .inl (_, _, .inr (.inr (.inr (.inr _))))) :: (_, .inr (0, [_, _, _, _, _, _, _, _, _])) :: sw g A 0 0 0 (prI 4) (fun _ => 0) [])) (List.perm_append_comm (l₂ := [_])) ?_
  refine v_dup C dX0_init_80 rfl ?_
  refine v_bipush (v := 114) C dX0_init_81 (by decide) ?_
  refine v_iconst (v := 5) C dX0_init_83 (by decide) ?_
  refine v_aload_n C dX0_init_84 0 rfl ?_
  refine v_indy C hnm (i := 0) (by decide) rfl dX0_init_85 (Nat.le_of_ble_eq_true rfl) (Nat.le_of_ble_eq_true rfl) (Nat.le_of_ble_eq_true rfl) (Nat.le_of_ble_eq_true rfl) (fun y0 => ?_)
  refine v_perm (ws' := ((_, .inl (_, _, .inr (.inr (.inr (.inr _))))) :: (_, .inr (2, [_, _, _, _])) :: (_, .inl (_, _, .inr (.inr (.inr (.inr _))))) :: (_, .inr (10, [_, _, _, _])) :: (_, .inl (_, _, .inl _)) :: (_, .inl (_, _, .inl _)) :: (_, .inl (_, _, .inl _)) :: (_, .inl (_, _, .inr (.inr (.inr (.inr _))))) :: (_, .inr (9, [_, _, _])) :: (_, .inl (_, _, .inr (.inr (.inr (.inr _))))) :: (_, .inr (0, [_, _, _, _, _, _, _, _, _])) :: sw g A 0 0 0 (prI 4) (fun _ => 0) [])) (List.perm_append_comm (l₂ := [_])) ?_
  refine v_aload_n C dX0_init_90 0 rfl ?_
  refine v_indy C hnm (i := 1) (by decide) rfl dX0_init_91 (Nat.le_of_ble_eq_true rfl) (Nat.le_of_ble_eq_true rfl) (Nat.le_of_ble_eq_true rfl) (Nat.le_of_ble_eq_true rfl) (fun y1 => ?_)
  refine v_perm (ws' := ((_, .inl (_, _, .inr (.inr (.inr (.inr _))))) :: (_, .inl (_, _, .inr (.inr (.inr (.inr _))))) :: (_, .inr (2, [_, _, _, _])) :: (_, .inl (_, _, .inr (.inr (.inr (.inr _))))) :: (_, .inr (10, [_, _, _, _])) :: (_, .inl (_, _, .inl _)) :: (_, .inl (_, _, .inl _)) :: (_, .inl (_, _, .inl _)) :: (_, .inl (_, _, .inr (.inr (.inr (.inr _))))) :: (_, .inr (9, [_, _, _])) :: (_, .inl (_, _, .inr (.inr (.inr (.inr _))))) :: (_, .inr (0, [_, _, _, _, _, _, _, _, _])) :: sw g A 0 0 0 (prI 4) (fun _ => 0) [])) (List.perm_append_comm (l₂ := [_])) ?_
  refine v_cMI (ws' := ((_, .inl (_, _, .inr (.inr (.inr (.inr _))))) :: (_, .inl (_, _, .inr (.inr (.inr (.inr _))))) :: (_, .inr (2, [_, _, _, _])) :: (_, .inl (_, _, .inr (.inr (.inr (.inr _))))) :: (_, .inr (10, [_, _, _, _])) :: (_, .inl (_, _, .inl _)) :: (_, .inl (_, _, .inl _)) :: (_, .inl (_, _, .inl _)) :: (_, .inl (_, _, .inr (.inr (.inr (.inr _))))) :: (_, .inr (9, [_, _, _])) :: (_, .inl (_, _, .inr (.inr (.inr (.inr _))))) :: (_, .inr (0, [_, _, _, _, _, _, _, _, _])) :: sw g A 0 0 0 (prI 4) (fun _ => 0) [])) C (x_oinit l g q77 114 5 y0 y1 rfl rfl) [_, _] rfl ok_X2_init rfl q379 rfl (Nat.le_of_ble_eq_true rfl) dX0_init_96 (roomL rfl rfl) rfl ?_
  refine v_aast (r := (RX2, TX2, 4)) (ws' := ((_, .inl (_, _, .inr (.inr (.inr (.inr _))))) :: (_, .inl (_, _, .inr (.inr (.inr (.inr _))))) :: (_, .inr (2, [_, _, _, _])) :: (_, .inl (_, _, .inr (.inr (.inr (.inr _))))) :: (_, .inr (10, [_, _, _, _])) :: (_, .inl (_, _, .inl _)) :: (_, .inl (_, _, .inl _)) :: (_, .inl (_, _, .inl _)) :: (_, .inl (_, _, .inr (.inr (.inr (.inr _))))) :: (_, .inr (9, [_, _, _])) :: (_, .inl (_, _, .inr (.inr (.inr (.inr _))))) :: (_, .inr (0, [_, _, _, _, _, _, _, _, _])) :: sw g A 0 0 0 (prI 4) (fun _ => 0) [])) C 6 dX0_init_99 3 rfl rfl 2 rfl rfl (j := 0) (ixl rfl) rfl ?_
  refine v_aload_n C dX0_init_100 0 rfl ?_
  refine v_get C in_X0 rfl 11 rfl 8 (by decide) q493 (fun _ h => h) rfl dX0_init_101 ?_
  refine v_iconst (v := 1) C dX0_init_104 (by decide) ?_
  refine v_new (ci := 2) (fs := [.int 0, .int 0, .null, .null]) C in_X2 tyX2 tyX2_ok q259 q261 q99 rfl (by decide +kernel) (Nat.le_of_ble_eq_true rfl) (Nat.le_of_ble_eq_true rfl) dX0_init_105 (fun q105 => ?_)
  refine v_perm (ws' := ((_, .inr (2, [_, _, _, _])) :: (_, .inl (_, _, .inr (.inr (.inr (.inr _))))) :: (_, .inl (_, _, .inr (.inr (.inr (.inr _))))) :: (_, .inr (2, [_, _, _, _])) :: (_, .inl (_, _, .inr (.inr (.inr (.inr _))))) :: (_, .inr (10, [_, _, _, _])) :: (_, .inl (_, _, .inl _)) :: (_, .inl (_, _, .inl _)) :: (_, .inl (_, _, .inl _)) :: (_, .inl (_, _, .inr (.inr (.inr (.inr _))))) :: (_, .inr (9, [_, _, _])) :: (_, .inl (_, _, .inr (.inr (.inr (.inr _))))) :: (_, .inr (0, [_, _, _, _, _, _, _, _, _])) :: sw g A 0 0 0 (prI 4) (fun _ => 0) [])) (List.perm_append_comm (l₂ := [_])) ?_
  refine v_dup C dX0_init_108 rfl ?_
  refine v_bipush (v := 109) C dX0_init_109 (by decide) ?_
  refine v_iconst (v := 4) C dX0_init_111 (by decide) ?_
  refine v_aload_n C dX0_init_112 0 rfl ?_
  refine v_indy C hnm (i := 2) (by decide) rfl dX0_init_113 (Nat.le_of_ble_eq_true rfl) (Nat.le_of_ble_eq_true rfl) (Nat.le_of_ble_eq_true rfl) (Nat.le_of_ble_eq_true rfl) (fun y2 => ?_)
  refine v_perm (ws' := ((_, .inl (_, _, .inr (.inr (.inr (.inr _))))) :: (_, .inr (2, [_, _, _, _])) :: (_, .inl (_, _, .inr (.inr (.inr (.inr _))))) :: (_, .inl (_, _, .inr (.inr (.inr (.inr _))))) :: (_, .inr (2, [_, _, _, _])) :: (_, .inl (_, _, .inr (.inr (.inr (.inr _))))) :: (_, .inr (10, [_, _, _, _])) :: (_, .inl (_, _, .inl _)) :: (_, .inl (_, _, .inl _)) :: (_, .inl (_, _, .inl _)) :: (_, .inl (_, _, .inr (.inr (.inr (.inr _))))) :: (_, .inr (9, [_, _, _])) :: (_, .inl (_, _, .inr (.inr (.inr (.inr _))))) :: (_, .inr (0, [_, _, _, _, _, _, _, _, _])) :: sw g A 0 0 0 (prI 4) (fun _ => 0) [])) (List.perm_append_comm (l₂ := [_])) ?_
  refine v_aload_n C dX0_init_118 0 rfl ?_
  refine v_indy C hnm (i := 3) (by decide) rfl dX0_init_119 (Nat.le_of_ble_eq_true rfl) (Nat.le_of_ble_eq_true rfl) (Nat.le_of_ble_eq_true rfl) (Nat.le_of_ble_eq_true rfl) (fun y3 => ?_)
  refine v_perm (ws' := ((_, .inl (_, _, .inr (.inr (.inr (.inr _))))) :: (_, .inl (_, _, .inr (.inr (.inr (.inr _))))) :: (_, .inr (2, [_, _, _, _])) :: (_, .inl (_, _, .inr (.inr (.inr (.inr _))))) :: (_, .inl (_, _, .inr (.inr (.inr (.inr _))))) :: (_, .inr (2, [_, _, _, _])) :: (_, .inl (_, _, .inr (.inr (.inr (.inr _))))) :: (_, .inr (10, [_, _, _, _])) :: (_, .inl (_, _, .inl _)) :: (_, .inl (_, _, .inl _)) :: (_, .inl (_, _, .inl _)) :: (_, .inl (_, _, .inr (.inr (.inr (.inr _))))) :: (_, .inr (9, [_, _, _])) :: (_, .inl (_, _, .inr (.inr (.inr (.inr _))))) :: (_, .inr (0, [_, _, _, _, _, _, _, _, _])) :: sw g A 0 0 0 (prI 4) (fun _ => 0) [])) (List.perm_append_comm (l₂ := [_])) ?_
  refine v_cMI (ws' := ((_, .inl (_, _, .inr (.inr (.inr (.inr _))))) :: (_, .inl (_, _, .inr (.inr (.inr (.inr _))))) :: (_, .inr (2, [_, _, _, _])) :: (_, .inl (_, _, .inr (.inr (.inr (.inr _))))) :: (_, .inl (_, _, .inr (.inr (.inr (.inr _))))) :: (_, .inr (2, [_, _, _, _])) :: (_, .inl (_, _, .inr (.inr (.inr (.inr _))))) :: (_, .inr (10, [_, _, _, _])) :: (_, .inl (_, _, .inl _)) :: (_, .inl (_, _, .inl _)) :: (_, .inl (_, _, .inl _)) :: (_, .inl (_, _, .inr (.inr (.inr (.inr _))))) :: (_, .inr (9, [_, _, _])) :: (_, .inl (_, _, .inr (.inr (.inr (.inr _))))) :: (_, .inr (0, [_, _, _, _, _, _, _, _, _])) :: sw g A 0 0 0 (prI 4) (fun _ => 0) [])) C (x_oinit l g q105 109 4 y2 y3 rfl rfl) [_, _] rfl ok_X2_init rfl q379 rfl (Nat.le_of_ble_eq_true rfl) dX0_init_124 (roomL rfl rfl) rfl ?_
  refine v_aast (r := (RX2, TX2, 4)) (ws' := ((_, .inl (_, _, .inr (.inr (.inr (.inr _))))) :: (_, .inl (_, _, .inr (.inr (.inr (.inr _))))) :: (_, .inr (2, [_, _, _, _])) :: (_, .inl (_, _, .inr (.inr (.inr (.inr _))))) :: (_, .inl (_, _, .inr (.inr (.inr (.inr _))))) :: (_, .inr (2, [_, _, _, _])) :: (_, .inl (_, _, .inr (.inr (.inr (.inr _))))) :: (_, .inr (10, [_, _, _, _])) :: (_, .inl (_, _, .inl _)) :: (_, .inl (_, _, .inl _)) :: (_, .inl (_, _, .inl _)) :: (_, .inl (_, _, .inr (.inr (.inr (.inr _))))) :: (_, .inr (9, [_, _, _])) :: (_, .inl (_, _, .inr (.inr (.inr (.inr _))))) :: (_, .inr (0, [_, _, _, _, _, _, _, _, _])) :: sw g A 0 0 0 (prI 4) (fun _ => 0) [])) C 6 dX0_init_127 6 rfl rfl 2 rfl rfl (j := 1) (ixl rfl) rfl ?_
  refine v_aload_n C dX0_init_128 0 rfl ?_
  refine v_get C in_X0 rfl 14 rfl 8 (by decide) q493 (fun _ h => h) rfl dX0_init_129 ?_
  refine v_iconst (v := 2) C dX0_init_132 (by decide) ?_
  refine v_new (ci := 2) (fs := [.int 0, .int 0, .null, .null]) C in_X2 tyX2 tyX2_ok q259 q261 q99 rfl (by decide +kernel) (Nat.le_of_ble_eq_true rfl) (Nat.le_of_ble_eq_true rfl) dX0_init_133 (fun q133 => ?_)
  refine v_perm (ws' := ((_, .inr (2, [_, _, _, _])) :: (_, .inl (_, _, .inr (.inr (.inr (.inr _))))) :: (_, .inl (_, _, .inr (.inr (.inr (.inr _))))) :: (_, .inr (2, [_, _, _, _])) :: (_, .inl (_, _, .inr (.inr (.inr (.inr _))))) :: (_, .inl (_, _, .inr (.inr (.inr (.inr _))))) :: (_, .inr (2, [_, _, _, _])) :: (_, .inl (_, _, .inr (.inr (.inr (.inr _))))) :: (_, .inr (10, [_, _, _, _])) :: (_, .inl (_, _, .inl _)) :: (_, .inl (_, _, .inl _)) :: (_, .inl (_, _, .inl _)) :: (_, .inl (_, _, .inr (.inr (.inr (.inr _))))) :: (_, .inr (9, [_, _, _])) :: (_, .inl (_, _, .inr (.inr (.inr (.inr _))))) :: (_, .inr (0, [_, _, _, _, _, _, _, _, _])) :: sw g A 0 0 0 (prI 4) (fun _ => 0) [])) (List.perm_append_comm (l₂ := [_])) ?_
  refine v_dup C dX0_init_136 rfl ?_
  refine v_bipush (v := 99) C dX0_init_137 (by decide) ?_
  refine v_iconst (v := 2) C dX0_init_139 (by decide) ?_
  refine v_aload_n C dX0_init_140 0 rfl ?_
  refine v_indy C hnm (i := 4) (by decide) rfl dX0_init_141 (Nat.le_of_ble_eq_true rfl) (Nat.le_of_ble_eq_true rfl) (Nat.le_of_ble_eq_true rfl) (Nat.le_of_ble_eq_true rfl) (fun y4 => ?_)
  refine v_perm (ws' := ((_, .inl (_, _, .inr (.inr (.inr (.inr _))))) :: (_, .inr (2, [_, _, _, _])) :: (_, .inl (_, _, .inr (.inr (.inr (.inr _))))) :: (_, .inl (_, _, .inr (.inr (.inr (.inr _))))) :: (_, .inr (2, [_, _, _, _])) :: (_, .inl (_, _, .inr (.inr (.inr (.inr _))))) :: (_, .inl (_, _, .inr (.inr (.inr (.inr _))))) :: (_, .inr (2, [_, _, _, _])) :: (_, .inl (_, _, .inr (.inr (.inr (.inr _))))) :: (_, .inr (10, [_, _, _, _])) :: (_, .inl (_, _, .inl _)) :: (_, .inl (_, _, .inl _)) :: (_, .inl (_, _, .inl _)) :: (_, .inl (_, _, .inr (.inr (.inr (.inr _))))) :: (_, .inr (9, [_, _, _])) :: (_, .inl (_, _, .inr (.inr (.inr (.inr _))))) :: (_, .inr (0, [_, _, _, _, _, _, _, _, _])) :: sw g A 0 0 0 (prI 4) (fun _ => 0) [])) (List.perm_append_comm (l₂ := [_])) ?_
  refine v_aload_n C dX0_init_146 0 rfl ?_
  refine v_indy C hnm (i := 5) (by decide) rfl dX0_init_147 (Nat.le_of_ble_eq_true rfl) (Nat.le_of_ble_eq_true rfl) (Nat.le_of_ble_eq_true rfl) (Nat.le_of_ble_eq_true rfl) (fun y5 => ?_)
  refine v_perm (ws' := ((_, .inl (_, _, .inr (.inr (.inr (.inr _))))) :: (_, .inl (_, _, .inr (.inr (.inr (.inr _))))) :: (_, .inr (2, [_, _, _, _])) :: (_, .inl (_, _, .inr (.inr (.inr (.inr _))))) :: (_, .inl (_, _, .inr (.inr (.inr (.inr _))))) :: (_, .inr (2, [_, _, _, _])) :: (_, .inl (_, _, .inr (.inr (.inr (.inr _))))) :: (_, .inl (_, _, .inr (.inr (.inr (.inr _))))) :: (_, .inr (2, [_, _, _, _])) :: (_, .inl (_, _, .inr (.inr (.inr (.inr _))))) :: (_, .inr (10, [_, _, _, _])) :: (_, .inl (_, _, .inl _)) :: (_, .inl (_, _, .inl _)) :: (_, .inl (_, _, .inl _)) :: (_, .inl (_, _, .inr (.inr (.inr (.inr _))))) :: (_, .inr (9, [_, _, _])) :: (_, .inl (_, _, .inr (.inr (.inr (.inr _))))) :: (_, .inr (0, [_, _, _, _, _, _, _, _, _])) :: sw g A 0 0 0 (prI 4) (fun _ => 0) [])) (List.perm_append_comm (l₂ := [_])) ?_
  refine v_cMI (ws' := ((_, .inl (_, _, .inr (.inr (.inr (.inr _))))) :: (_, .inl (_, _, .inr (.inr (.inr (.inr _))))) :: (_, .inr (2, [_, _, _, _])) :: (_, .inl (_, _, .inr (.inr (.inr (.inr _))))) :: (_, .inl (_, _, .inr (.inr (.inr (.inr _))))) :: (_, .inr (2, [_, _, _, _])) :: (_, .inl (_, _, .inr (.inr (.inr (.inr _))))) :: (_, .inl (_, _, .inr (.inr (.inr (.inr _))))) :: (_, .inr (2, [_, _, _, _])) :: (_, .inl (_, _, .inr (.inr (.inr (.inr _))))) :: (_, .inr (10, [_, _, _, _])) :: (_, .inl (_, _, .inl _)) :: (_, .inl (_, _, .inl _)) :: (_, .inl (_, _, .inl _)) :: (_, .inl (_, _, .inr (.inr (.inr (.inr _))))) :: (_, .inr (9, [_, _, _])) :: (_, .inl (_, _, .inr (.inr (.inr (.inr _))))) :: (_, .inr (0, [_, _, _, _, _, _, _, _, _])) :: sw g A 0 0 0 (prI 4) (fun _ => 0) [])) C (x_oinit l g q133 99 2 y4 y5 rfl rfl) [_, _] rfl ok_X2_init rfl q379 rfl (Nat.le_of_ble_eq_true rfl) dX0_init_152 (roomL rfl rfl) rfl ?_
  refine v_aast (r := (RX2, TX2, 4)) (ws' := ((_, .inl (_, _, .inr (.inr (.inr (.inr _))))) :: (_, .inl (_, _, .inr (.inr (.inr (.inr _))))) :: (_, .inr (2, [_, _, _, _])) :: (_, .inl (_, _, .inr (.inr (.inr (.inr _))))) :: (_, .inl (_, _, .inr (.inr (.inr (.inr _))))) :: (_, .inr (2, [_, _, _, _])) :: (_, .inl (_, _, .inr (.inr (.inr (.inr _))))) :: (_, .inl (_, _, .inr (.inr (.inr (.inr _))))) :: (_, .inr (2, [_, _, _, _])) :: (_, .inl (_, _, .inr (.inr (.inr (.inr _))))) :: (_, .inr (10, [_, _, _, _])) :: (_, .inl (_, _, .inl _)) :: (_, .inl (_, _, .inl _)) :: (_, .inl (_, _, .inl _)) :: (_, .inl (_, _, .inr (.inr (.inr (.inr _))))) :: (_, .inr (9, [_, _, _])) :: (_, .inl (_, _, .inr (.inr (.inr (.inr _))))) :: (_, .inr (0, [_, _, _, _, _, _, _, _, _])) :: sw g A 0 0 0 (prI 4) (fun _ => 0) [])) C 6 dX0_init_155 9 rfl rfl 2 rfl rfl (j := 2) (ixl rfl) rfl ?_
  refine v_aload_n C dX0_init_156 0 rfl ?_
  refine v_get C in_X0 rfl 17 rfl 8 (by decide) q493 (fun _ h => h) rfl dX0_init_157 ?_
  refine v_iconst (v := 3) C dX0_init_160 (by decide) ?_
  refine v_new (ci := 2) (fs := [.int 0, .int 0, .null, .null]) C in_X2 tyX2 tyX2_ok q259 q261 q99 rfl (by decide +kernel) (Nat.le_of_ble_eq_true rfl) (Nat.le_of_ble_eq_true rfl) dX0_init_161 (fun q161 => ?_)
  refine v_perm (ws' := ((_, .inr (2, [_, _, _, _])) :: (_, .inl (_, _, .inr (.inr (.inr (.inr _))))) :: (_, .inl (_, _, .inr (.inr (.inr (.inr _))))) :: (_, .inr (2, [_, _, _, _])) :: (_, .inl (_, _, .inr (.inr (.inr (.inr _))))) :: (_, .inl (_, _, .inr (.inr (.inr (.inr _))))) :: (_, .inr (2, [_, _, _, _])) :: (_, .inl (_, _, .inr (.inr (.inr (.inr _))))) :: (_, .inl (_, _, .inr (.inr (.inr (.inr _))))) :: (_, .inr (2, [_, _, _, _])) :: (_, .inl (_, _, .inr (.inr (.inr (.inr _))))) :: (_, .inr (10, [_, _, _, _])) :: (_, .inl (_, _, .inl _)) :: (_, .inl (_, _, .inl _)) :: (_, .inl (_, _, .inl _)) :: (_, .inl (_, _, .inr (.inr (.inr (.inr _))))) :: (_, .inr (9, [_, _, _])) :: (_, .inl (_, _, .inr (.inr (.inr (.inr _))))) :: (_, .inr (0, [_, _, _, _, _, _, _, _, _])) :: sw g A 0 0 0 (prI 4) (fun _ => 0) [])) (List.perm_append_comm (l₂ := [_])) ?_
  refine v_dup C dX0_init_164 rfl ?_
  refine v_bipush (v := 100) C dX0_init_165 (by decide) ?_
  refine v_iconst (v := 2) C dX0_init_167 (by decide) ?_
  refine v_aload_n C dX0_init_168 0 rfl ?_
  refine v_indy C hnm (i := 6) (by decide) rfl dX0_init_169 (Nat.le_of_ble_eq_true rfl) (Nat.le_of_ble_eq_true rfl) (Nat.le_of_ble_eq_true rfl) (Nat.le_of_ble_eq_true rfl) (fun y6 => ?_)
  refine v_perm (ws' := ((_, .inl (_, _, .inr (.inr (.inr (.inr _))))) :: (_, .inr (2, [_, _, _, _])) :: (_, .inl (_, _, .inr (.inr (.inr (.inr _))))) :: (_, .inl (_, _, .inr (.inr (.inr (.inr _))))) :: (_, .inr (2, [_, _, _, _])) :: (_, .inl (_, _, .inr (.inr (.inr (.inr _))))) :: (_, .inl (_, _, .inr (.inr (.inr (.inr _))))) :: (_, .inr (2, [_, _, _, _])) :: (_, .inl (_, _, .inr (.inr (.inr (.inr _))))) :: (_, .inl (_, _, .inr (.inr (.inr (.inr _))))) :: (_, .inr (2, [_, _, _, _])) :: (_, .inl (_, _, .inr (.inr (.inr (.inr _))))) :: (_, .inr (10, [_, _, _, _])) :: (_, .inl (_, _, .inl _)) :: (_, .inl (_, _, .inl _)) :: (_, .inl (_, _, .inl _)) :: (_, .inl (_, _, .inr (.inr (.inr (.inr _))))) :: (_, .inr (9, [_, _, _])) :: (_, .inl (_, _, .inr (.inr (.inr (.inr _))))) :: (_, .inr (0, [_, _, _, _, _, _, _, _, _])) :: sw g A 0 0 0 (prI 4) (fun _ => 0) [])) (List.perm_append_comm (l₂ := [_])) ?_
  refine v_aload_n C dX0_init_174 0 rfl ?_
  refine v_indy C hnm (i := 7) (by decide) rfl dX0_init_175 (Nat.le_of_ble_eq_true rfl) (Nat.le_of_ble_eq_true rfl) (Nat.le_of_ble_eq_true rfl) (Nat.le_of_ble_eq_true rfl) (fun y7 => ?_)
  refine v_perm (ws' := ((_, .inl (_, _, .inr (.inr (.inr (.inr _))))) :: (_, .inl (_, _, .inr (.inr (.inr (.inr _))))) :: (_, .inr (2, [_, _, _, _])) :: (_, .inl (_, _, .inr (.inr (.inr (.inr _))))) :: (_, .inl (_, _, .inr (.inr (.inr (.inr _))))) :: (_, .inr (2, [_, _, _, _])) :: (_, .inl (_, _, .inr (.inr (.inr (.inr _))))) :: (_, .inl (_, _, .inr (.inr (.inr (.inr _))))) :: (_, .inr (2, [_, _, _, _])) :: (_, .inl (_, _, .inr (.inr (.inr (.inr _))))) :: (_, .inl (_, _, .inr (.inr (.inr (.inr _))))) :: (_, .inr (2, [_, _, _, _])) :: (_, .inl (_, _, .inr (.inr (.inr (.inr _))))) :: (_, .inr (10, [_, _, _, _])) :: (_, .inl (_, _, .inl _)) :: (_, .inl (_, _, .inl _)) :: (_, .inl (_, _, .inl _)) :: (_, .inl (_, _, .inr (.inr (.inr (.inr _))))) :: (_, .inr (9, [_, _, _])) :: (_, .inl (_, _, .inr (.inr (.inr (.inr _))))) :: (_, .inr (0, [_, _, _, _, _, _, _, _, _])) :: sw g A 0 0 0 (prI 4) (fun _ => 0) [])) (List.perm_append_comm (l₂ := [_])) ?_
  refine v_cMI (ws' := ((_, .inl (_, _, .inr (.inr (.inr (.inr _))))) :: (_, .inl (_, _, .inr (.inr (.inr (.inr _))))) :: (_, .inr (2, [_, _, _, _])) :: (_, .inl (_, _, .inr (.inr (.inr (.inr _))))) :: (_, .inl (_, _, .inr (.inr (.inr (.inr _))))) :: (_, .inr (2, [_, _, _, _])) :: (_, .inl (_, _, .inr (.inr (.inr (.inr _))))) :: (_, .inl (_, _, .inr (.inr (.inr (.inr _))))) :: (_, .inr (2, [_, _, _, _])) :: (_, .inl (_, _, .inr (.inr (.inr (.inr _))))) :: (_, .inl (_, _, .inr (.inr (.inr (.inr _))))) :: (_, .inr (2, [_, _, _, _])) :: (_, .inl (_, _, .inr (.inr (.inr (.inr _))))) :: (_, .inr (10, [_, _, _, _])) :: (_, .inl (_, _, .inl _)) :: (_, .inl (_, _, .inl _)) :: (_, .inl (_, _, .inl _)) :: (_, .inl (_, _, .inr (.inr (.inr (.inr _))))) :: (_, .inr (9, [_, _, _])) :: (_, .inl (_, _, .inr (.inr (.inr (.inr _))))) :: (_, .inr (0, [_, _, _, _, _, _, _, _, _])) :: sw g A 0 0 0 (prI 4) (fun _ => 0) [])) C (x_oinit l g q161 100 2 y6 y7 rfl rfl) [_, _] rfl ok_X2_init rfl q379 rfl (Nat.le_of_ble_eq_true rfl) dX0_init_180 (roomL rfl rfl) rfl ?_
  refine v_aast (r := (RX2, TX2, 4)) (ws' := ((_, .inl (_, _, .inr (.inr (.inr (.inr _))))) :: (_, .inl (_, _, .inr (.inr (.inr (.inr _))))) :: (_, .inr (2, [_, _, _, _])) :: (_, .inl (_, _, .inr (.inr (.inr (.inr _))))) :: (_, .inl (_, _, .inr (.inr (.inr (.inr _))))) :: (_, .inr (2, [_, _, _, _])) :: (_, .inl (_, _, .inr (.inr (.inr (.inr _))))) :: (_, .inl (_, _, .inr (.inr (.inr (.inr _))))) :: (_, .inr (2, [_, _, _, _])) :: (_, .inl (_, _, .inr (.inr (.inr (.inr _))))) :: (_, .inl (_, _, .inr (.inr (.inr (.inr _))))) :: (_, .inr (2, [_, _, _, _])) :: (_, .inl (_, _, .inr (.inr (.inr (.inr _))))) :: (_, .inr (10, [_, _, _, _])) :: (_, .inl (_, _, .inl _)) :: (_, .inl (_, _, .inl _)) :: (_, .inl (_, _, .inl _)) :: (_, .inl (_, _, .inr (.inr (.inr (.inr _))))) :: (_, .inr (9, [_, _, _])) :: (_, .inl (_, _, .inr (.inr (.inr (.inr _))))) :: (_, .inr (0, [_, _, _, _, _, _, _, _, _])) :: sw g A 0 0 0 (prI 4) (fun _ => 0) [])) C 6 dX0_init_183 12 rfl rfl 2 rfl rfl (j := 3) (ixl rfl) rfl ?_
  exact v_vret C dX0_init_184 (Nat.le_of_ble_eq_true rfl) (Nat.le_of_ble_eq_true rfl) ⟨rfl, (fun i => [q, q38, q46, q16, q29, q52, q66].getD i 0), A, z21, z58, (fun i => [q77, q105, q133, q161].getD i 0), (fun i => [y0, y2, y4, y6].getD i 0), (fun i => [y1, y3, y5, y7].getD i 0), rfl, (perm_ix (n := 29) [20, 16, 15, 21, 22, 23, 24, 25, 26, 27, 28, 18, 19, 17, 13, 14, 12, 11, 8, 5, 2, 10, 9, 7, 6, 4, 3, 1, 0] rfl (by decide)).symm.trans (List.Perm.of_eq (by unfold txW; rw [kin4]; rfl))⟩
