/-! the recording methods: house, contracts -/
set_option maxRecDepth 100000
def y_addBin (r : Nat → Int32) (b : Nat → Int64) (nb nl nc : Nat) (cap : Int32) : Int32 × XO :=
  if 10 ≤ cap ∧ cap ≤ 20000 then if nI nb = 8 then (-5, false, (nb, nl, nc), r, b) else (nI (nb + 1) - 1, true, (nb + 1, nl, nc), pb r nb (b_new cap), b) else (-3, false, (nb, nl, nc), r, b)
def y_addLeg (r : Nat → Int32) (b : Nat → Int64) (nb nl nc : Nat) (sp : Int32) : Int32 × XO :=
  if 1 ≤ sp ∧ sp ≤ 500 then if nI nl = 3 then (-5, false, (nb, nl, nc), r, b) else (nI (nl + 1) - 1, true, (nb, nl + 1, nc), pg4 r nl (l_new sp), b) else (-3, false, (nb, nl, nc), r, b)
def y_addCon (r : Nat → Int32) (b : Nat → Int64) (nb nl nc : Nat) (k1 k2 k3 k4 : Int32) : Int32 × XO :=
  if 0 ≤ k1 ∧ k1 ≤ 3 then if 1 ≤ k2 ∧ k2 ≤ 20000 then if 50 ≤ k3 ∧ k3 ≤ 400 then if 1 ≤ k4 ∧ k4 ≤ 2000 then
    if nI nc = 6 then (-5, false, (nb, nl, nc), r, b) else (nI (nc + 1) - 1, true, (nb, nl, nc + 1), pc6 r nc (c_new k1 k2 k3 k4), b)
  else (-3, false, (nb, nl, nc), r, b) else (-3, false, (nb, nl, nc), r, b) else (-3, false, (nb, nl, nc), r, b) else (-2, false, (nb, nl, nc), r, b)
def y_setBand (r : Nat → Int32) (b : Nat → Int64) (nb nl nc : Nat) (bi lo hi : Int32) : Int32 × XO :=
  if q_n nb bi then if 0 ≤ lo ∧ lo ≤ 400 then if lo ≤ hi ∧ hi ≤ 400 then
    (r (10 + 9 * bi.toNatClampNeg + 1), true, (nb, nl, nc), upd (upd r (10 + 9 * bi.toNatClampNeg + 1) lo) (10 + 9 * bi.toNatClampNeg + 2) hi, b)
  else (-3, false, (nb, nl, nc), r, b) else (-3, false, (nb, nl, nc), r, b) else (-2, false, (nb, nl, nc), r, b)
def y_setSpeed (r : Nat → Int32) (b : Nat → Int64) (nb nl nc : Nat) (le sp : Int32) : Int32 × XO :=
  if q_n nl le then if 1 ≤ sp ∧ sp ≤ 500 then (r (82 + 4 * le.toNatClampNeg + 0), true, (nb, nl, nc), upd r (82 + 4 * le.toNatClampNeg + 0) sp, b) else (-3, false, (nb, nl, nc), r, b) else (-2, false, (nb, nl, nc), r, b)
def y_spout (r : Nat → Int32) (b : Nat → Int64) (nb nl nc : Nat) (le bi : Int32) : Int32 × XO :=
  if q_n nl le ∧ q_n nb bi then
    (upd r (82 + 4 * le.toNatClampNeg + 1) (r (82 + 4 * le.toNatClampNeg + 1) ^^^ ((1 : Int32) <<< (nI bi.toNatClampNeg &&& 31))) (82 + 4 * le.toNatClampNeg + 1) >>> (nI bi.toNatClampNeg &&& 31) &&& 1, true, (nb, nl, nc), upd r (82 + 4 * le.toNatClampNeg + 1) (r (82 + 4 * le.toNatClampNeg + 1) ^^^ ((1 : Int32) <<< (nI bi.toNatClampNeg &&& 31))), b)
  else (-2, false, (nb, nl, nc), r, b)
def y_setPrice (r : Nat → Int32) (b : Nat → Int64) (nb nl nc : Nat) (kd pr : Int32) : Int32 × XO :=
  if 0 ≤ kd ∧ kd ≤ 3 then if 1 ≤ pr ∧ pr ≤ 1000 then (r (6 + kd.toNatClampNeg), true, (nb, nl, nc), upd r (6 + kd.toNatClampNeg) pr, b) else (-3, false, (nb, nl, nc), r, b) else (-2, false, (nb, nl, nc), r, b)
def y_setDust (r : Nat → Int32) (b : Nat → Int64) (nb nl nc : Nat) (lm : Int32) : Int32 × XO :=
  if 100 ≤ lm ∧ lm ≤ 10000 then (r 1, true, (nb, nl, nc), upd r 1 lm, b) else (-3, false, (nb, nl, nc), r, b)
theorem nI_eqn {n c : Nat} (hn : n < 2 ^ 31) (hc : c < 2 ^ 31) (h : ¬ nI n = nI c) : n ≠ c := fun q => h (by rw [q])
def M_X0_addBin : Md := (yX0_addBin, cX0_addBin, 2, (some .int), 7, 163, 26, 173)
theorem ok_X0_addBin : MOKv M_X0_addBin 1 := ⟨q514, q515, q89, q516, ⟨by decide +kernel, by decide +kernel, by decide +kernel⟩⟩
set_option maxHeartbeats 4000000 in
theorem x_addBin (l : Launch) (g : GT) (a A : Nat → Nat) (nb nl nc : Nat) (r : Nat → Int32) (b : Nat → Int64) (od : Nat → Int32) (us : Int32) (tk : Nat → Int32) (bn : Int32) (suf : va_W) (hnb : nb ≤ 8) (hnl : nl ≤ 3) (hnc : nc ≤ 6) (d1 hd tl : Nat) (f : Nat → Option Nat) (X : va_W) (hs0 : suf = dqW g (a 3) d1 hd tl f ++ X) (hh : hd < 6) (ht : tl < 6) (hf : (tl + 6 - hd) % 6 = 5 → ∃ x, f hd = some x) (cap : Int32) : Ct l g M_X0_addBin [.ref (a 0), .int cap] (cw g a A nb nl nc r b od us tk bn suf) (fun rv w => rv = some (.int (y_addBin r b nb nl nc cap).1) ∧ Rec g a A nb nl nc r b d1 hd tl f X (y_addBin r b nb nl nc cap).2 w) := by
  refine Ct.start2 (M := M_X0_addBin) rfl [(0, .ref (a 0)), (1, .int cap)] rfl (by decide +kernel) (Nat.le_of_ble_eq_true rfl) ?_
  intro p e s m args below meth c A9 C
  refine v_iload_n C dX0_addBin_0 1 rfl ?_
  refine v_bipush (v := 10) C dX0_addBin_1 (by decide) ?_
  refine v_sipush (v := 20000) C dX0_addBin_3 (by decide) ?_
  refine v_callSp C (x_isIn l g _ _ _) ok_X0_isIn rfl q276 rfl (Nat.le_of_ble_eq_true rfl) dX0_addBin_6 (roomL rfl rfl) ⟨rfl, rfl⟩ ?_
  refine v_if_neB C 15 dX0_addBin_9 (by decide) (fun c9_1 => ?_) (fun c9_1 => ?_)
  · skip
    refine v_aload_n C dX0_addBin_15 0 rfl ?_
    refine v_get C in_X0 rfl 0 rfl 0 (by decide) q483 (fun _ h => h) rfl dX0_addBin_16 ?_
    refine v_getN C in_X1 rfl 3 rfl 0 (by decide) q155 (fun _ h => h) rfl dX0_addBin_19 ?_
    refine v_zMV (ws' := (cw g a A nb nl nc r b od us tk bn suf)) C (j_size l g (A 1) (A 2) 8 (nI nb) nb (rfs A 10 nb)) [_, _, _, _] rfl ok_J2_size rfl q269 rfl (Nat.le_of_ble_eq_true rfl) 0 rfl rfl rfl dX0_addBin_22 (roomL rfl rfl) ⟨rfl, rfl⟩ rfl ?_
    refine v_bipush (v := 8) C dX0_addBin_25 (by decide) ?_
    refine v_icmp_ne C 33 dX0_addBin_27 (by decide) (fun c27_2 => ?_) (fun c27_2 => ?_)
    · skip
      have hnn : nb ≠ 8 := nI_eqn (by omega) (by decide) (show ¬ nI nb = nI 8 from c27_2)
      refine v_aload_n C dX0_addBin_33 0 rfl ?_
      subst hs0
      refine v_rec C hnb hnl hnc hh ht hf q517 (Nat.le_of_ble_eq_true rfl) dX0_addBin_34 (roomL rfl rfl) ?_
      generalize hs1 : dqW g (a 3) d1 (dqH hd tl) ((tl + 1) % 6) (dqF hd tl f (A 0)) ++ (sw g A nb nl nc r b [] ++ X) = suf
      intro A
      refine v_aload_n C dX0_addBin_37 0 rfl ?_
      refine v_get C in_X0 rfl 0 rfl 0 (by decide) q483 (fun _ h => h) rfl dX0_addBin_38 ?_
      refine v_getN C in_X1 rfl 3 rfl 0 (by decide) q155 (fun _ h => h) rfl dX0_addBin_41 ?_
      refine v_new (ci := 4) (fs := [.int 0, .int 0, .int 0, .int 0, .int 0, .int 0, .int 0, .int 0, .int 0]) C in_X4 tyX4 tyX4_ok q360 q435 q106 rfl (by decide +kernel) (Nat.le_of_ble_eq_true rfl) (Nat.le_of_ble_eq_true rfl) dX0_addBin_44 (fun q44 => ?_)
      refine v_perm (ws' := (q44, .inr (4, [.int 0, .int 0, .int 0, .int 0, .int 0, .int 0, .int 0, .int 0, .int 0])) :: (cw g a A nb nl nc r b od us tk bn suf)) (List.perm_append_comm (l₂ := [_])) ?_
      refine v_dup C dX0_addBin_47 rfl ?_
      refine v_iload_n C dX0_addBin_48 1 rfl ?_
      refine v_cMI (ws' := bnC q44 (b_new cap) :: (cw g a A nb nl nc r b od us tk bn suf)) C (x_binit l g q44 cap) [] rfl ok_X4_init_2 rfl q723 rfl (Nat.le_of_ble_eq_true rfl) dX0_addBin_49 (roomL rfl rfl) rfl ?_
      refine v_addB C (by omega) hnl hnc q724 (Nat.le_of_ble_eq_true rfl) dX0_addBin_52 (roomL rfl rfl) ?_
      refine v_pop C dX0_addBin_55 rfl ?_
      refine v_aload_n C dX0_addBin_56 0 rfl ?_
      refine v_get C in_X0 rfl 0 rfl 0 (by decide) q483 (fun _ h => h) rfl dX0_addBin_57 ?_
      refine v_getN C in_X1 rfl 3 rfl 0 (by decide) q155 (fun _ h => h) rfl dX0_addBin_60 ?_
      refine v_zMV (ws' := (cw g a (adr A (10 + nb) q44) (nb + 1) nl nc (pb r nb (b_new cap)) b od us tk bn suf)) C (j_size l g ((adr A (10 + nb) q44) 1) ((adr A (10 + nb) q44) 2) 8 (nI (nb + 1)) (nb + 1) (rfs (adr A (10 + nb) q44) 10 (nb + 1))) [_, _, _, _] rfl ok_J2_size rfl q269 rfl (Nat.le_of_ble_eq_true rfl) 0 rfl rfl rfl dX0_addBin_63 (roomL rfl rfl) ⟨rfl, rfl⟩ rfl ?_
      refine v_iconst (v := 1) C dX0_addBin_66 (by decide) ?_
      refine v_isub C dX0_addBin_67 ?_
      exact v_iret C dX0_addBin_68 (Nat.le_of_ble_eq_true rfl) (Nat.le_of_ble_eq_true rfl) (by unfold y_addBin; rw [if_pos c9_1, if_neg c27_2]; exact ⟨rfl, _, _, _, _, _, by subst hs1; exact List.Perm.refl _⟩)
    · skip
      refine v_bipush (v := -5) C dX0_addBin_30 (by decide) ?_
      exact v_iret C dX0_addBin_32 (Nat.le_of_ble_eq_true rfl) (Nat.le_of_ble_eq_true rfl) (by unfold y_addBin; rw [if_pos c9_1, if_pos c27_2]; exact ⟨rfl, _, _, _, _, _, by subst hs0; exact List.Perm.refl _⟩)
  · skip
    refine v_bipush (v := -3) C dX0_addBin_12 (by decide) ?_
    exact v_iret C dX0_addBin_14 (Nat.le_of_ble_eq_true rfl) (Nat.le_of_ble_eq_true rfl) (by unfold y_addBin; rw [if_neg c9_1]; exact ⟨rfl, _, _, _, _, _, by subst hs0; exact List.Perm.refl _⟩)
def M_X0_addLeg : Md := (yX0_addLeg, cX0_addLeg, 2, (some .int), 7, 163, 26, 168)
theorem ok_X0_addLeg : MOKv M_X0_addLeg 1 := ⟨q730, q731, q89, q732, ⟨by decide +kernel, by decide +kernel, by decide +kernel⟩⟩
set_option maxHeartbeats 4000000 in
theorem x_addLeg (l : Launch) (g : GT) (a A : Nat → Nat) (nb nl nc : Nat) (r : Nat → Int32) (b : Nat → Int64) (od : Nat → Int32) (us : Int32) (tk : Nat → Int32) (bn : Int32) (suf : va_W) (hnb : nb ≤ 8) (hnl : nl ≤ 3) (hnc : nc ≤ 6) (d1 hd tl : Nat) (f : Nat → Option Nat) (X : va_W) (hs0 : suf = dqW g (a 3) d1 hd tl f ++ X) (hh : hd < 6) (ht : tl < 6) (hf : (tl + 6 - hd) % 6 = 5 → ∃ x, f hd = some x) (sp : Int32) : Ct l g M_X0_addLeg [.ref (a 0), .int sp] (cw g a A nb nl nc r b od us tk bn suf) (fun rv w => rv = some (.int (y_addLeg r b nb nl nc sp).1) ∧ Rec g a A nb nl nc r b d1 hd tl f X (y_addLeg r b nb nl nc sp).2 w) := by
  refine Ct.start2 (M := M_X0_addLeg) rfl [(0, .ref (a 0)), (1, .int sp)] rfl (by decide +kernel) (Nat.le_of_ble_eq_true rfl) ?_
  intro p e s m args below meth c A9 C
  refine v_iload_n C dX0_addLeg_0 1 rfl ?_
  refine v_iconst (v := 1) C dX0_addLeg_1 (by decide) ?_
  refine v_sipush (v := 500) C dX0_addLeg_2 (by decide) ?_
  refine v_callSp C (x_isIn l g _ _ _) ok_X0_isIn rfl q276 rfl (Nat.le_of_ble_eq_true rfl) dX0_addLeg_5 (roomL rfl rfl) ⟨rfl, rfl⟩ ?_
  refine v_if_neB C 14 dX0_addLeg_8 (by decide) (fun c8_1 => ?_) (fun c8_1 => ?_)
  · skip
    refine v_aload_n C dX0_addLeg_14 0 rfl ?_
    refine v_get C in_X0 rfl 0 rfl 0 (by decide) q483 (fun _ h => h) rfl dX0_addLeg_15 ?_
    refine v_getN C in_X1 rfl 3 rfl 1 (by decide) q157 (fun _ h => h) rfl dX0_addLeg_18 ?_
    refine v_zMV (ws' := (cw g a A nb nl nc r b od us tk bn suf)) C (j_size l g (A 3) (A 4) 3 (nI nl) nl (rfs A 20 nl)) [_, _, _, _, _, _] rfl ok_J2_size rfl q269 rfl (Nat.le_of_ble_eq_true rfl) 0 rfl rfl rfl dX0_addLeg_21 (roomL rfl rfl) ⟨rfl, rfl⟩ rfl ?_
    refine v_iconst (v := 3) C dX0_addLeg_24 (by decide) ?_
    refine v_icmp_ne C 31 dX0_addLeg_25 (by decide) (fun c25_2 => ?_) (fun c25_2 => ?_)
    · skip
      have hnn : nl ≠ 3 := nI_eqn (by omega) (by decide) (show ¬ nI nl = nI 3 from c25_2)
      refine v_aload_n C dX0_addLeg_31 0 rfl ?_
      subst hs0
      refine v_rec C hnb hnl hnc hh ht hf q517 (Nat.le_of_ble_eq_true rfl) dX0_addLeg_32 (roomL rfl rfl) ?_
      generalize hs1 : dqW g (a 3) d1 (dqH hd tl) ((tl + 1) % 6) (dqF hd tl f (A 0)) ++ (sw g A nb nl nc r b [] ++ X) = suf
      intro A
      refine v_aload_n C dX0_addLeg_35 0 rfl ?_
      refine v_get C in_X0 rfl 0 rfl 0 (by decide) q483 (fun _ h => h) rfl dX0_addLeg_36 ?_
      refine v_getN C in_X1 rfl 3 rfl 1 (by decide) q157 (fun _ h => h) rfl dX0_addLeg_39 ?_
      refine v_new (ci := 5) (fs := [.int 0, .int 0, .int 0, .int 0]) C in_X5 tyX5 tyX5_ok q365 q664 q108 rfl (by decide +kernel) (Nat.le_of_ble_eq_true rfl) (Nat.le_of_ble_eq_true rfl) dX0_addLeg_42 (fun q42 => ?_)
      refine v_perm (ws' := (q42, .inr (5, [.int 0, .int 0, .int 0, .int 0])) :: (cw g a A nb nl nc r b od us tk bn suf)) (List.perm_append_comm (l₂ := [_])) ?_
      refine v_dup C dX0_addLeg_45 rfl ?_
      refine v_iload_n C dX0_addLeg_46 1 rfl ?_
      refine v_cMI (ws' := lgC q42 (l_new sp) :: (cw g a A nb nl nc r b od us tk bn suf)) C (x_linit l g q42 sp) [] rfl ok_X5_init_2 rfl q733 rfl (Nat.le_of_ble_eq_true rfl) dX0_addLeg_47 (roomL rfl rfl) rfl ?_
      refine v_addG C hnb (by omega) hnc q724 (Nat.le_of_ble_eq_true rfl) dX0_addLeg_50 (roomL rfl rfl) ?_
      refine v_pop C dX0_addLeg_53 rfl ?_
      refine v_aload_n C dX0_addLeg_54 0 rfl ?_
      refine v_get C in_X0 rfl 0 rfl 0 (by decide) q483 (fun _ h => h) rfl dX0_addLeg_55 ?_
      refine v_getN C in_X1 rfl 3 rfl 1 (by decide) q157 (fun _ h => h) rfl dX0_addLeg_58 ?_
      refine v_zMV (ws' := (cw g a (adr A (20 + nl) q42) nb (nl + 1) nc (pg4 r nl (l_new sp)) b od us tk bn suf)) C (j_size l g ((adr A (20 + nl) q42) 3) ((adr A (20 + nl) q42) 4) 3 (nI (nl + 1)) (nl + 1) (rfs (adr A (20 + nl) q42) 20 (nl + 1))) [_, _, _, _, _, _] rfl ok_J2_size rfl q269 rfl (Nat.le_of_ble_eq_true rfl) 0 rfl rfl rfl dX0_addLeg_61 (roomL rfl rfl) ⟨rfl, rfl⟩ rfl ?_
      refine v_iconst (v := 1) C dX0_addLeg_64 (by decide) ?_
      refine v_isub C dX0_addLeg_65 ?_
      exact v_iret C dX0_addLeg_66 (Nat.le_of_ble_eq_true rfl) (Nat.le_of_ble_eq_true rfl) (by unfold y_addLeg; rw [if_pos c8_1, if_neg c25_2]; exact ⟨rfl, _, _, _, _, _, by subst hs1; exact List.Perm.refl _⟩)
    · skip
      refine v_bipush (v := -5) C dX0_addLeg_28 (by decide) ?_
      exact v_iret C dX0_addLeg_30 (Nat.le_of_ble_eq_true rfl) (Nat.le_of_ble_eq_true rfl) (by unfold y_addLeg; rw [if_pos c8_1, if_pos c25_2]; exact ⟨rfl, _, _, _, _, _, by subst hs0; exact List.Perm.refl _⟩)
  · skip
    refine v_bipush (v := -3) C dX0_addLeg_11 (by decide) ?_
    exact v_iret C dX0_addLeg_13 (Nat.le_of_ble_eq_true rfl) (Nat.le_of_ble_eq_true rfl) (by unfold y_addLeg; rw [if_neg c8_1]; exact ⟨rfl, _, _, _, _, _, by subst hs0; exact List.Perm.refl _⟩)
def M_X0_addContract : Md := (yX0_addContract, cX0_addContract, 5, (some .int), 7, 163, 26, 169)
theorem ok_X0_addContract : MOKv M_X0_addContract 4 := ⟨q838, q839, q89, q840, ⟨by decide +kernel, by decide +kernel, by decide +kernel⟩⟩
set_option maxHeartbeats 4000000 in
theorem x_addCon (l : Launch) (g : GT) (a A : Nat → Nat) (nb nl nc : Nat) (r : Nat → Int32) (b : Nat → Int64) (od : Nat → Int32) (us : Int32) (tk : Nat → Int32) (bn : Int32) (suf : va_W) (hnb : nb ≤ 8) (hnl : nl ≤ 3) (hnc : nc ≤ 6) (d1 hd tl : Nat) (f : Nat → Option Nat) (X : va_W) (hs0 : suf = dqW g (a 3) d1 hd tl f ++ X) (hh : hd < 6) (ht : tl < 6) (hf : (tl + 6 - hd) % 6 = 5 → ∃ x, f hd = some x) (k1 k2 k3 k4 : Int32) : Ct l g M_X0_addContract [.ref (a 0), .int k1, .int k2, .int k3, .int k4] (cw g a A nb nl nc r b od us tk bn suf) (fun rv w => rv = some (.int (y_addCon r b nb nl nc k1 k2 k3 k4).1) ∧ Rec g a A nb nl nc r b d1 hd tl f X (y_addCon r b nb nl nc k1 k2 k3 k4).2 w) := by
  refine Ct.start2 (M := M_X0_addContract) rfl [(0, .ref (a 0)), (1, .int k1), (2, .int k2), (3, .int k3), (4, .int k4)] rfl (by decide +kernel) (Nat.le_of_ble_eq_true rfl) ?_
  intro p e s m args below meth c A9 C
  refine v_iload_n C dX0_addContract_0 1 rfl ?_
  refine v_callSp C (x_isKind l g _) ok_X0_isKind rfl q746 rfl (Nat.le_of_ble_eq_true rfl) dX0_addContract_1 (roomL rfl rfl) ⟨rfl, rfl⟩ ?_
  refine v_if_neB C 10 dX0_addContract_4 (by decide) (fun c4_1 => ?_) (fun c4_1 => ?_)
  · skip
    refine v_iload_n C dX0_addContract_10 2 rfl ?_
    refine v_iconst (v := 1) C dX0_addContract_11 (by decide) ?_
    refine v_sipush (v := 20000) C dX0_addContract_12 (by decide) ?_
    refine v_callSp C (x_isIn l g _ _ _) ok_X0_isIn rfl q276 rfl (Nat.le_of_ble_eq_true rfl) dX0_addContract_15 (roomL rfl rfl) ⟨rfl, rfl⟩ ?_
    refine v_if_eqB C 40 dX0_addContract_18 (by decide) (fun c18_2 => ?_) (fun c18_2 => ?_)
    · skip
      refine v_bipush (v := -3) C dX0_addContract_40 (by decide) ?_
      exact v_iret C dX0_addContract_42 (Nat.le_of_ble_eq_true rfl) (Nat.le_of_ble_eq_true rfl) (by unfold y_addCon; rw [if_pos c4_1, if_neg c18_2]; exact ⟨rfl, _, _, _, _, _, by subst hs0; exact List.Perm.refl _⟩)
    · skip
      refine v_iload_n C dX0_addContract_21 3 rfl ?_
      refine v_callSp C (x_isMoisture l g _) ok_X0_isMoisture rfl q279 rfl (Nat.le_of_ble_eq_true rfl) dX0_addContract_22 (roomL rfl rfl) ⟨rfl, rfl⟩ ?_
      refine v_if_eqB C 40 dX0_addContract_25 (by decide) (fun c25_3 => ?_) (fun c25_3 => ?_)
      · skip
        refine v_bipush (v := -3) C dX0_addContract_40 (by decide) ?_
        exact v_iret C dX0_addContract_42 (Nat.le_of_ble_eq_true rfl) (Nat.le_of_ble_eq_true rfl) (by unfold y_addCon; rw [if_pos c4_1, if_pos c18_2, if_neg c25_3]; exact ⟨rfl, _, _, _, _, _, by subst hs0; exact List.Perm.refl _⟩)
      · skip
        refine v_iload C dX0_addContract_28 4 rfl ?_
        refine v_iconst (v := 1) C dX0_addContract_30 (by decide) ?_
        refine v_sipush (v := 2000) C dX0_addContract_31 (by decide) ?_
        refine v_callSp C (x_isIn l g _ _ _) ok_X0_isIn rfl q276 rfl (Nat.le_of_ble_eq_true rfl) dX0_addContract_34 (roomL rfl rfl) ⟨rfl, rfl⟩ ?_
        refine v_if_neB C 43 dX0_addContract_37 (by decide) (fun c37_4 => ?_) (fun c37_4 => ?_)
        · skip
          refine v_aload_n C dX0_addContract_43 0 rfl ?_
          refine v_get C in_X0 rfl 0 rfl 0 (by decide) q483 (fun _ h => h) rfl dX0_addContract_44 ?_
          refine v_getN C in_X1 rfl 3 rfl 2 (by decide) q159 (fun _ h => h) rfl dX0_addContract_47 ?_
          refine v_zMV (ws' := (cw g a A nb nl nc r b od us tk bn suf)) C (j_size l g (A 5) (A 6) 6 (nI nc) nc (rfs A 30 nc)) [_, _, _, _, _, _, _, _] rfl ok_J2_size rfl q269 rfl (Nat.le_of_ble_eq_true rfl) 0 rfl rfl rfl dX0_addContract_50 (roomL rfl rfl) ⟨rfl, rfl⟩ rfl ?_
          refine v_bipush (v := 6) C dX0_addContract_53 (by decide) ?_
          refine v_icmp_ne C 61 dX0_addContract_55 (by decide) (fun c55_5 => ?_) (fun c55_5 => ?_)
          · skip
            have hnn : nc ≠ 6 := nI_eqn (by omega) (by decide) (show ¬ nI nc = nI 6 from c55_5)
            refine v_aload_n C dX0_addContract_61 0 rfl ?_
            subst hs0
            refine v_rec C hnb hnl hnc hh ht hf q517 (Nat.le_of_ble_eq_true rfl) dX0_addContract_62 (roomL rfl rfl) ?_
            generalize hs1 : dqW g (a 3) d1 (dqH hd tl) ((tl + 1) % 6) (dqF hd tl f (A 0)) ++ (sw g A nb nl nc r b [] ++ X) = suf
            intro A
            refine v_aload_n C dX0_addContract_65 0 rfl ?_
            refine v_get C in_X0 rfl 0 rfl 0 (by decide) q483 (fun _ h => h) rfl dX0_addContract_66 ?_
            refine v_getN C in_X1 rfl 3 rfl 2 (by decide) q159 (fun _ h => h) rfl dX0_addContract_69 ?_
            refine v_new (ci := 6) (fs := [.int 0, .int 0, .int 0, .int 0, .int 0]) C in_X6 tyX6 tyX6_ok q761 q693 q109 rfl (by decide +kernel) (Nat.le_of_ble_eq_true rfl) (Nat.le_of_ble_eq_true rfl) dX0_addContract_72 (fun q72 => ?_)
            refine v_perm (ws' := (q72, .inr (6, [.int 0, .int 0, .int 0, .int 0, .int 0])) :: (cw g a A nb nl nc r b od us tk bn suf)) (List.perm_append_comm (l₂ := [_])) ?_
            refine v_dup C dX0_addContract_75 rfl ?_
            refine v_iload_n C dX0_addContract_76 1 rfl ?_
            refine v_iload_n C dX0_addContract_77 2 rfl ?_
            refine v_iload_n C dX0_addContract_78 3 rfl ?_
            refine v_iload C dX0_addContract_79 4 rfl ?_
            refine v_cMI (ws' := cnC q72 (c_new k1 k2 k3 k4) :: (cw g a A nb nl nc r b od us tk bn suf)) C (x_cinit l g q72 k1 k2 k3 k4) [] rfl ok_X6_init_2 rfl q841 rfl (Nat.le_of_ble_eq_true rfl) dX0_addContract_81 (roomL rfl rfl) rfl ?_
            refine v_addC C hnb hnl (by omega) q724 (Nat.le_of_ble_eq_true rfl) dX0_addContract_84 (roomL rfl rfl) ?_
            refine v_pop C dX0_addContract_87 rfl ?_
            refine v_aload_n C dX0_addContract_88 0 rfl ?_
            refine v_get C in_X0 rfl 0 rfl 0 (by decide) q483 (fun _ h => h) rfl dX0_addContract_89 ?_
            refine v_getN C in_X1 rfl 3 rfl 2 (by decide) q159 (fun _ h => h) rfl dX0_addContract_92 ?_
            refine v_zMV (ws' := (cw g a (adr A (30 + nc) q72) nb nl (nc + 1) (pc6 r nc (c_new k1 k2 k3 k4)) b od us tk bn suf)) C (j_size l g ((adr A (30 + nc) q72) 5) ((adr A (30 + nc) q72) 6) 6 (nI (nc + 1)) (nc + 1) (rfs (adr A (30 + nc) q72) 30 (nc + 1))) [_, _, _, _, _, _, _, _] rfl ok_J2_size rfl q269 rfl (Nat.le_of_ble_eq_true rfl) 0 rfl rfl rfl dX0_addContract_95 (roomL rfl rfl) ⟨rfl, rfl⟩ rfl ?_
            refine v_iconst (v := 1) C dX0_addContract_98 (by decide) ?_
            refine v_isub C dX0_addContract_99 ?_
            exact v_iret C dX0_addContract_100 (Nat.le_of_ble_eq_true rfl) (Nat.le_of_ble_eq_true rfl) (by unfold y_addCon; rw [if_pos c4_1, if_pos c18_2, if_pos c25_3, if_pos c37_4, if_neg c55_5]; exact ⟨rfl, _, _, _, _, _, by subst hs1; exact List.Perm.refl _⟩)
          · skip
            refine v_bipush (v := -5) C dX0_addContract_58 (by decide) ?_
            exact v_iret C dX0_addContract_60 (Nat.le_of_ble_eq_true rfl) (Nat.le_of_ble_eq_true rfl) (by unfold y_addCon; rw [if_pos c4_1, if_pos c18_2, if_pos c25_3, if_pos c37_4, if_pos c55_5]; exact ⟨rfl, _, _, _, _, _, by subst hs0; exact List.Perm.refl _⟩)
        · skip
          refine v_bipush (v := -3) C dX0_addContract_40 (by decide) ?_
          exact v_iret C dX0_addContract_42 (Nat.le_of_ble_eq_true rfl) (Nat.le_of_ble_eq_true rfl) (by unfold y_addCon; rw [if_pos c4_1, if_pos c18_2, if_pos c25_3, if_neg c37_4]; exact ⟨rfl, _, _, _, _, _, by subst hs0; exact List.Perm.refl _⟩)
  · skip
    refine v_bipush (v := -2) C dX0_addContract_7 (by decide) ?_
    exact v_iret C dX0_addContract_9 (Nat.le_of_ble_eq_true rfl) (Nat.le_of_ble_eq_true rfl) (by unfold y_addCon; rw [if_neg c4_1]; exact ⟨rfl, _, _, _, _, _, by subst hs0; exact List.Perm.refl _⟩)
def M_X0_setBand : Md := (yX0_setBand, cX0_setBand, 5, (some .int), 7, 163, 25, 164)
theorem ok_X0_setBand : MOKv M_X0_setBand 3 := ⟨q726, q727, q89, q728, ⟨by decide +kernel, by decide +kernel, by decide +kernel⟩⟩
set_option maxHeartbeats 4000000 in
theorem x_setBand (l : Launch) (g : GT) (a A : Nat → Nat) (nb nl nc : Nat) (r : Nat → Int32) (b : Nat → Int64) (od : Nat → Int32) (us : Int32) (tk : Nat → Int32) (bn : Int32) (suf : va_W) (hnb : nb ≤ 8) (hnl : nl ≤ 3) (hnc : nc ≤ 6) (d1 hd tl : Nat) (f : Nat → Option Nat) (X : va_W) (hs0 : suf = dqW g (a 3) d1 hd tl f ++ X) (hh : hd < 6) (ht : tl < 6) (hf : (tl + 6 - hd) % 6 = 5 → ∃ x, f hd = some x) (bi lo hi : Int32) : Ct l g M_X0_setBand [.ref (a 0), .int bi, .int lo, .int hi] (cw g a A nb nl nc r b od us tk bn suf) (fun rv w => rv = some (.int (y_setBand r b nb nl nc bi lo hi).1) ∧ Rec g a A nb nl nc r b d1 hd tl f X (y_setBand r b nb nl nc bi lo hi).2 w) := by
  refine Ct.start2 (M := M_X0_setBand) rfl [(0, .ref (a 0)), (1, .int bi), (2, .int lo), (3, .int hi)] rfl (by decide +kernel) (Nat.le_of_ble_eq_true rfl) ?_
  intro p e s m args below meth c A9 C
  refine v_aload_n C dX0_setBand_0 0 rfl ?_
  refine v_iload_n C dX0_setBand_1 1 rfl ?_
  refine v_callVw C (x_isBin l g a A nb nl nc r b od us tk bn suf hnb hnl hnc _) ok_X0_isBin rfl q463 rfl (Nat.le_of_ble_eq_true rfl) 0 rfl rfl rfl dX0_setBand_2 (roomL rfl rfl) ⟨rfl, rfl⟩ ?_
  refine v_if_neB C 11 dX0_setBand_5 (by decide) (fun c5_1 => ?_) (fun c5_1 => ?_)
  · skip
    obtain ⟨ebi, hbi⟩ := isB_c (n := nb) rfl (by omega) c5_1
    refine v_iload_n C dX0_setBand_11 2 rfl ?_
    refine v_iconst (v := 0) C dX0_setBand_12 (by decide) ?_
    refine v_sipush (v := 400) C dX0_setBand_13 (by decide) ?_
    refine v_callSp C (x_isIn l g _ _ _) ok_X0_isIn rfl q276 rfl (Nat.le_of_ble_eq_true rfl) dX0_setBand_16 (roomL rfl rfl) ⟨rfl, rfl⟩ ?_
    refine v_if_eqB C 33 dX0_setBand_19 (by decide) (fun c19_2 => ?_) (fun c19_2 => ?_)
    · skip
      refine v_bipush (v := -3) C dX0_setBand_33 (by decide) ?_
      exact v_iret C dX0_setBand_35 (Nat.le_of_ble_eq_true rfl) (Nat.le_of_ble_eq_true rfl) (by unfold y_setBand; rw [if_pos c5_1, if_neg c19_2]; exact ⟨rfl, _, _, _, _, _, by subst hs0; exact List.Perm.refl _⟩)
    · skip
      refine v_iload_n C dX0_setBand_22 3 rfl ?_
      refine v_iload_n C dX0_setBand_23 2 rfl ?_
      refine v_sipush (v := 400) C dX0_setBand_24 (by decide) ?_
      refine v_callSp C (x_isIn l g _ _ _) ok_X0_isIn rfl q276 rfl (Nat.le_of_ble_eq_true rfl) dX0_setBand_27 (roomL rfl rfl) ⟨rfl, rfl⟩ ?_
      refine v_if_neB C 36 dX0_setBand_30 (by decide) (fun c30_3 => ?_) (fun c30_3 => ?_)
      · skip
        refine v_aload_n C dX0_setBand_36 0 rfl ?_
        subst hs0
        refine v_rec C hnb hnl hnc hh ht hf q517 (Nat.le_of_ble_eq_true rfl) dX0_setBand_37 (roomL rfl rfl) ?_
        generalize hs1 : dqW g (a 3) d1 (dqH hd tl) ((tl + 1) % 6) (dqF hd tl f (A 0)) ++ (sw g A nb nl nc r b [] ++ X) = suf
        intro A
        refine v_aload_n C dX0_setBand_40 0 rfl ?_
        refine v_get C in_X0 rfl 0 rfl 0 (by decide) q483 (fun _ h => h) rfl dX0_setBand_41 ?_
        refine v_getN C in_X1 rfl 3 rfl 0 (by decide) q155 (fun _ h => h) rfl dX0_setBand_44 ?_
        refine v_iload_n C dX0_setBand_47 1 rfl ?_
        refine v_eqi ebi ?_
        refine v_zMV (ws' := (cw g a A nb nl nc r b od us tk bn suf)) C (j_get l g (A 1) (A 2) 8 (nI nb) nb (rfs A 10 nb) bi.toNatClampNeg (A (10 + bi.toNatClampNeg)) hbi hnb (by decide) (rfs_at A 10 hbi)) [_, _, _, _] rfl ok_J2_get rfl q359 rfl (Nat.le_of_ble_eq_true rfl) 0 rfl rfl rfl dX0_setBand_48 (roomL rfl rfl) ⟨rfl, rfl⟩ rfl ?_
        refine v_castS (r := (RX4, TX4, 9)) C q360 (bi.toNatClampNeg + 11) (cw_bin hbi) rfl dX0_setBand_51 ?_
        refine v_getN C in_X4 rfl (bi.toNatClampNeg + 11) (cw_bin hbi) 1 (by decide) q599 (fun _ h => h) rfl dX0_setBand_54 ?_
        refine v_eqi (show _ = r (10 + 9 * bi.toNatClampNeg + 1) from rfl) ?_
        refine v_istore (lv' := [(4, _), (0, _), (1, _), (2, _), (3, _)]) C dX0_setBand_57 (by decide) rfl ?_
        refine v_aload_n C dX0_setBand_59 1 rfl ?_
        refine v_get C in_X0 rfl 0 rfl 0 (by decide) q483 (fun _ h => h) rfl dX0_setBand_60 ?_
        refine v_getN C in_X1 rfl 3 rfl 0 (by decide) q155 (fun _ h => h) rfl dX0_setBand_63 ?_
        refine v_iload_n C dX0_setBand_66 2 rfl ?_
        refine v_eqi ebi ?_
        refine v_zMV (ws' := (cw g a A nb nl nc r b od us tk bn suf)) C (j_get l g (A 1) (A 2) 8 (nI nb) nb (rfs A 10 nb) bi.toNatClampNeg (A (10 + bi.toNatClampNeg)) hbi hnb (by decide) (rfs_at A 10 hbi)) [_, _, _, _] rfl ok_J2_get rfl q359 rfl (Nat.le_of_ble_eq_true rfl) 0 rfl rfl rfl dX0_setBand_67 (roomL rfl rfl) ⟨rfl, rfl⟩ rfl ?_
        refine v_castS (r := (RX4, TX4, 9)) C q360 (bi.toNatClampNeg + 11) (cw_bin hbi) rfl dX0_setBand_70 ?_
        refine v_iload_n C dX0_setBand_73 3 rfl ?_
        refine v_putN (ws' := (cw g a A nb nl nc (upd r (10 + 9 * bi.toNatClampNeg + 1) lo) b od us tk bn suf)) C in_X4 tyX4 tyX4_ok nmX4 rfl (bi.toNatClampNeg + 11) (cw_bin hbi) 1 (by decide) q599 (fun _ h => h) rfl rfl rfl (Nat.le_of_ble_eq_true rfl) dX0_setBand_74 (cw_setB1 (k := 1) hbi hnb (by decide) _) ?_
        refine v_aload_n C dX0_setBand_77 1 rfl ?_
        refine v_get C in_X0 rfl 0 rfl 0 (by decide) q483 (fun _ h => h) rfl dX0_setBand_78 ?_
        refine v_getN C in_X1 rfl 3 rfl 0 (by decide) q155 (fun _ h => h) rfl dX0_setBand_81 ?_
        refine v_iload_n C dX0_setBand_84 2 rfl ?_
        refine v_eqi ebi ?_
        refine v_zMV (ws' := (cw g a A nb nl nc (upd r (10 + 9 * bi.toNatClampNeg + 1) lo) b od us tk bn suf)) C (j_get l g (A 1) (A 2) 8 (nI nb) nb (rfs A 10 nb) bi.toNatClampNeg (A (10 + bi.toNatClampNeg)) hbi hnb (by decide) (rfs_at A 10 hbi)) [_, _, _, _] rfl ok_J2_get rfl q359 rfl (Nat.le_of_ble_eq_true rfl) 0 rfl rfl rfl dX0_setBand_85 (roomL rfl rfl) ⟨rfl, rfl⟩ rfl ?_
        refine v_castS (r := (RX4, TX4, 9)) C q360 (bi.toNatClampNeg + 11) (cw_bin hbi) rfl dX0_setBand_88 ?_
        refine v_iload_n C dX0_setBand_91 4 rfl ?_
        refine v_putN (ws' := (cw g a A nb nl nc (upd (upd r (10 + 9 * bi.toNatClampNeg + 1) lo) (10 + 9 * bi.toNatClampNeg + 2) hi) b od us tk bn suf)) C in_X4 tyX4 tyX4_ok nmX4 rfl (bi.toNatClampNeg + 11) (cw_bin hbi) 2 (by decide) q602 (fun _ h => h) rfl rfl rfl (Nat.le_of_ble_eq_true rfl) dX0_setBand_92 (cw_setB1 (k := 2) hbi hnb (by decide) _) ?_
        refine v_iload C dX0_setBand_95 0 rfl ?_
        exact v_iret C dX0_setBand_97 (Nat.le_of_ble_eq_true rfl) (Nat.le_of_ble_eq_true rfl) (by unfold y_setBand; rw [if_pos c5_1, if_pos c19_2, if_pos c30_3]; exact ⟨rfl, _, _, _, _, _, by subst hs1; exact List.Perm.refl _⟩)
      · skip
        refine v_bipush (v := -3) C dX0_setBand_33 (by decide) ?_
        exact v_iret C dX0_setBand_35 (Nat.le_of_ble_eq_true rfl) (Nat.le_of_ble_eq_true rfl) (by unfold y_setBand; rw [if_pos c5_1, if_pos c19_2, if_neg c30_3]; exact ⟨rfl, _, _, _, _, _, by subst hs0; exact List.Perm.refl _⟩)
  · skip
    refine v_bipush (v := -2) C dX0_setBand_8 (by decide) ?_
    exact v_iret C dX0_setBand_10 (Nat.le_of_ble_eq_true rfl) (Nat.le_of_ble_eq_true rfl) (by unfold y_setBand; rw [if_neg c5_1]; exact ⟨rfl, _, _, _, _, _, by subst hs0; exact List.Perm.refl _⟩)
def M_X0_setSpeed : Md := (yX0_setSpeed, cX0_setSpeed, 4, (some .int), 7, 163, 25, 164)
theorem ok_X0_setSpeed : MOKv M_X0_setSpeed 2 := ⟨q735, q736, q89, q737, ⟨by decide +kernel, by decide +kernel, by decide +kernel⟩⟩
set_option maxHeartbeats 4000000 in
theorem x_setSpeed (l : Launch) (g : GT) (a A : Nat → Nat) (nb nl nc : Nat) (r : Nat → Int32) (b : Nat → Int64) (od : Nat → Int32) (us : Int32) (tk : Nat → Int32) (bn : Int32) (suf : va_W) (hnb : nb ≤ 8) (hnl : nl ≤ 3) (hnc : nc ≤ 6) (d1 hd tl : Nat) (f : Nat → Option Nat) (X : va_W) (hs0 : suf = dqW g (a 3) d1 hd tl f ++ X) (hh : hd < 6) (ht : tl < 6) (hf : (tl + 6 - hd) % 6 = 5 → ∃ x, f hd = some x) (le sp : Int32) : Ct l g M_X0_setSpeed [.ref (a 0), .int le, .int sp] (cw g a A nb nl nc r b od us tk bn suf) (fun rv w => rv = some (.int (y_setSpeed r b nb nl nc le sp).1) ∧ Rec g a A nb nl nc r b d1 hd tl f X (y_setSpeed r b nb nl nc le sp).2 w) := by
  refine Ct.start2 (M := M_X0_setSpeed) rfl [(0, .ref (a 0)), (1, .int le), (2, .int sp)] rfl (by decide +kernel) (Nat.le_of_ble_eq_true rfl) ?_
  intro p e s m args below meth c A9 C
  refine v_aload_n C dX0_setSpeed_0 0 rfl ?_
  refine v_iload_n C dX0_setSpeed_1 1 rfl ?_
  refine v_callVw C (x_isLeg l g a A nb nl nc r b od us tk bn suf hnb hnl hnc _) ok_X0_isLeg rfl q444 rfl (Nat.le_of_ble_eq_true rfl) 0 rfl rfl rfl dX0_setSpeed_2 (roomL rfl rfl) ⟨rfl, rfl⟩ ?_
  refine v_if_neB C 11 dX0_setSpeed_5 (by decide) (fun c5_1 => ?_) (fun c5_1 => ?_)
  · skip
    obtain ⟨ele, hle⟩ := isB_c (n := nl) rfl (by omega) c5_1
    refine v_iload_n C dX0_setSpeed_11 2 rfl ?_
    refine v_iconst (v := 1) C dX0_setSpeed_12 (by decide) ?_
    refine v_sipush (v := 500) C dX0_setSpeed_13 (by decide) ?_
    refine v_callSp C (x_isIn l g _ _ _) ok_X0_isIn rfl q276 rfl (Nat.le_of_ble_eq_true rfl) dX0_setSpeed_16 (roomL rfl rfl) ⟨rfl, rfl⟩ ?_
    refine v_if_neB C 25 dX0_setSpeed_19 (by decide) (fun c19_2 => ?_) (fun c19_2 => ?_)
    · skip
      refine v_aload_n C dX0_setSpeed_25 0 rfl ?_
      subst hs0
      refine v_rec C hnb hnl hnc hh ht hf q517 (Nat.le_of_ble_eq_true rfl) dX0_setSpeed_26 (roomL rfl rfl) ?_
      generalize hs1 : dqW g (a 3) d1 (dqH hd tl) ((tl + 1) % 6) (dqF hd tl f (A 0)) ++ (sw g A nb nl nc r b [] ++ X) = suf
      intro A
      refine v_aload_n C dX0_setSpeed_29 0 rfl ?_
      refine v_get C in_X0 rfl 0 rfl 0 (by decide) q483 (fun _ h => h) rfl dX0_setSpeed_30 ?_
      refine v_getN C in_X1 rfl 3 rfl 1 (by decide) q157 (fun _ h => h) rfl dX0_setSpeed_33 ?_
      refine v_iload_n C dX0_setSpeed_36 1 rfl ?_
      refine v_eqi ele ?_
      refine v_zMV (ws' := (cw g a A nb nl nc r b od us tk bn suf)) C (j_get l g (A 3) (A 4) 3 (nI nl) nl (rfs A 20 nl) le.toNatClampNeg (A (20 + le.toNatClampNeg)) hle hnl (by decide) (rfs_at A 20 hle)) [_, _, _, _, _, _] rfl ok_J2_get rfl q359 rfl (Nat.le_of_ble_eq_true rfl) 0 rfl rfl rfl dX0_setSpeed_37 (roomL rfl rfl) ⟨rfl, rfl⟩ rfl ?_
      refine v_castS (r := (RX5, TX5, 4)) C q365 (nb + le.toNatClampNeg + 11) (cw_leg hle) rfl dX0_setSpeed_40 ?_
      refine v_getN C in_X5 rfl (nb + le.toNatClampNeg + 11) (cw_leg hle) 0 (by decide) q674 (fun _ h => h) rfl dX0_setSpeed_43 ?_
      refine v_eqi (show _ = r (82 + 4 * le.toNatClampNeg + 0) from rfl) ?_
      refine v_istore_n (lv' := [(3, _), (0, _), (1, _), (2, _)]) C dX0_setSpeed_46 rfl (by decide) rfl ?_
      refine v_aload_n C dX0_setSpeed_47 1 rfl ?_
      refine v_get C in_X0 rfl 0 rfl 0 (by decide) q483 (fun _ h => h) rfl dX0_setSpeed_48 ?_
      refine v_getN C in_X1 rfl 3 rfl 1 (by decide) q157 (fun _ h => h) rfl dX0_setSpeed_51 ?_
      refine v_iload_n C dX0_setSpeed_54 2 rfl ?_
      refine v_eqi ele ?_
      refine v_zMV (ws' := (cw g a A nb nl nc r b od us tk bn suf)) C (j_get l g (A 3) (A 4) 3 (nI nl) nl (rfs A 20 nl) le.toNatClampNeg (A (20 + le.toNatClampNeg)) hle hnl (by decide) (rfs_at A 20 hle)) [_, _, _, _, _, _] rfl ok_J2_get rfl q359 rfl (Nat.le_of_ble_eq_true rfl) 0 rfl rfl rfl dX0_setSpeed_55 (roomL rfl rfl) ⟨rfl, rfl⟩ rfl ?_
      refine v_castS (r := (RX5, TX5, 4)) C q365 (nb + le.toNatClampNeg + 11) (cw_leg hle) rfl dX0_setSpeed_58 ?_
      refine v_iload_n C dX0_setSpeed_61 3 rfl ?_
      refine v_putN (ws' := (cw g a A nb nl nc (upd r (82 + 4 * le.toNatClampNeg + 0) sp) b od us tk bn suf)) C in_X5 tyX5 tyX5_ok nmX5 rfl (nb + le.toNatClampNeg + 11) (cw_leg hle) 0 (by decide) q674 (fun _ h => h) rfl rfl rfl (Nat.le_of_ble_eq_true rfl) dX0_setSpeed_62 (cw_setG1 (k := 0) hle hnb hnl (by decide) _) ?_
      refine v_iload_n C dX0_setSpeed_65 0 rfl ?_
      exact v_iret C dX0_setSpeed_66 (Nat.le_of_ble_eq_true rfl) (Nat.le_of_ble_eq_true rfl) (by unfold y_setSpeed; rw [if_pos c5_1, if_pos c19_2]; exact ⟨rfl, _, _, _, _, _, by subst hs1; exact List.Perm.refl _⟩)
    · skip
      refine v_bipush (v := -3) C dX0_setSpeed_22 (by decide) ?_
      exact v_iret C dX0_setSpeed_24 (Nat.le_of_ble_eq_true rfl) (Nat.le_of_ble_eq_true rfl) (by unfold y_setSpeed; rw [if_pos c5_1, if_neg c19_2]; exact ⟨rfl, _, _, _, _, _, by subst hs0; exact List.Perm.refl _⟩)
  · skip
    refine v_bipush (v := -2) C dX0_setSpeed_8 (by decide) ?_
    exact v_iret C dX0_setSpeed_10 (Nat.le_of_ble_eq_true rfl) (Nat.le_of_ble_eq_true rfl) (by unfold y_setSpeed; rw [if_neg c5_1]; exact ⟨rfl, _, _, _, _, _, by subst hs0; exact List.Perm.refl _⟩)
def M_X0_spout : Md := (yX0_spout, cX0_spout, 3, (some .int), 7, 163, 26, 168)
theorem ok_X0_spout : MOKv M_X0_spout 2 := ⟨q739, q740, q89, q741, ⟨by decide +kernel, by decide +kernel, by decide +kernel⟩⟩
set_option maxHeartbeats 4000000 in
theorem x_spout (l : Launch) (g : GT) (a A : Nat → Nat) (nb nl nc : Nat) (r : Nat → Int32) (b : Nat → Int64) (od : Nat → Int32) (us : Int32) (tk : Nat → Int32) (bn : Int32) (suf : va_W) (hnb : nb ≤ 8) (hnl : nl ≤ 3) (hnc : nc ≤ 6) (d1 hd tl : Nat) (f : Nat → Option Nat) (X : va_W) (hs0 : suf = dqW g (a 3) d1 hd tl f ++ X) (hh : hd < 6) (ht : tl < 6) (hf : (tl + 6 - hd) % 6 = 5 → ∃ x, f hd = some x) (le bi : Int32) : Ct l g M_X0_spout [.ref (a 0), .int le, .int bi] (cw g a A nb nl nc r b od us tk bn suf) (fun rv w => rv = some (.int (y_spout r b nb nl nc le bi).1) ∧ Rec g a A nb nl nc r b d1 hd tl f X (y_spout r b nb nl nc le bi).2 w) := by
  refine Ct.start2 (M := M_X0_spout) rfl [(0, .ref (a 0)), (1, .int le), (2, .int bi)] rfl (by decide +kernel) (Nat.le_of_ble_eq_true rfl) ?_
  intro p e s m args below meth c A9 C
  refine v_iconst (v := 4) C dX0_spout_0 (by decide) ?_
  refine v_newI (N := 4) C q207 (by decide) rfl (Nat.le_of_ble_eq_true rfl) (Nat.le_of_ble_eq_true rfl) (Nat.le_of_ble_eq_true rfl) dX0_spout_1 (fun q1 => ?_)
  refine v_perm (ws' := (q1, .inl (g.2 0, 4, .inl (fun _ => 0))) :: (cw g a A nb nl nc r b od us tk bn suf)) (List.perm_append_comm (l₂ := [_])) ?_
  refine v_dup C dX0_spout_3 rfl ?_
  refine v_iconst (v := 0) C dX0_spout_4 (by decide) ?_
  refine v_iload_n C dX0_spout_5 1 rfl ?_
  refine v_iast (ws' := ((_, .inl (_, _, .inl _)) :: (cw g a A nb nl nc r b od us tk bn suf))) C dX0_spout_6 0 rfl (j := 0) (ixl rfl) rfl ?_
  refine v_dup C dX0_spout_7 rfl ?_
  refine v_iconst (v := 1) C dX0_spout_8 (by decide) ?_
  refine v_aload_n C dX0_spout_9 0 rfl ?_
  refine v_get C in_X0 rfl 1 rfl 0 (by decide) q483 (fun _ h => h) rfl dX0_spout_10 ?_
  refine v_getN C in_X1 rfl 4 rfl 1 (by decide) q157 (fun _ h => h) rfl dX0_spout_13 ?_
  refine v_zMV (ws' := ((_, .inl (_, _, .inl _)) :: (cw g a A nb nl nc r b od us tk bn suf))) C (j_size l g (A 3) (A 4) 3 (nI nl) nl (rfs A 20 nl)) [_, _, _, _, _, _, _] rfl ok_J2_size rfl q269 rfl (Nat.le_of_ble_eq_true rfl) 0 rfl rfl rfl dX0_spout_16 (roomL rfl rfl) ⟨rfl, rfl⟩ rfl ?_
  refine v_iast (ws' := ((_, .inl (_, _, .inl _)) :: (cw g a A nb nl nc r b od us tk bn suf))) C dX0_spout_19 0 rfl (j := 1) (ixl rfl) rfl ?_
  refine v_dup C dX0_spout_20 rfl ?_
  refine v_iconst (v := 2) C dX0_spout_21 (by decide) ?_
  refine v_iload_n C dX0_spout_22 2 rfl ?_
  refine v_iast (ws' := ((_, .inl (_, _, .inl _)) :: (cw g a A nb nl nc r b od us tk bn suf))) C dX0_spout_23 0 rfl (j := 2) (ixl rfl) rfl ?_
  refine v_dup C dX0_spout_24 rfl ?_
  refine v_iconst (v := 3) C dX0_spout_25 (by decide) ?_
  refine v_aload_n C dX0_spout_26 0 rfl ?_
  refine v_get C in_X0 rfl 1 rfl 0 (by decide) q483 (fun _ h => h) rfl dX0_spout_27 ?_
  refine v_getN C in_X1 rfl 4 rfl 0 (by decide) q155 (fun _ h => h) rfl dX0_spout_30 ?_
  refine v_zMV (ws' := ((_, .inl (_, _, .inl _)) :: (cw g a A nb nl nc r b od us tk bn suf))) C (j_size l g (A 1) (A 2) 8 (nI nb) nb (rfs A 10 nb)) [_, _, _, _, _] rfl ok_J2_size rfl q269 rfl (Nat.le_of_ble_eq_true rfl) 0 rfl rfl rfl dX0_spout_33 (roomL rfl rfl) ⟨rfl, rfl⟩ rfl ?_
  refine v_iast (ws' := ((_, .inl (_, _, .inl _)) :: (cw g a A nb nl nc r b od us tk bn suf))) C dX0_spout_36 0 rfl (j := 3) (ixl rfl) rfl ?_
  refine v_zMS (ws' := ((_, .inl (_, _, .inl _)) :: (cw g a A nb nl nc r b od us tk bn suf))) C (x_areBelow l g _ 2 4 _ rfl (by decide)) [] rfl ok_X0_areBelow rfl q273 rfl (Nat.le_of_ble_eq_true rfl) dX0_spout_37 (roomL rfl rfl) ⟨rfl, rfl⟩ rfl ?_
  refine v_eqi (show _ = bI (q_n nl le ∧ q_n nb bi) from bel2 _) ?_
  refine v_drop (ws' := (cw g a A nb nl nc r b od us tk bn suf)) (wd := [(_, .inl (_, _, .inl _))]) (List.perm_append_comm (l₁ := [_])) ?_
  refine v_if_neB C 46 dX0_spout_40 (by decide) (fun c40_1 => ?_) (fun c40_1 => ?_)
  · skip
    obtain ⟨hq1, hq2⟩ := id c40_1
    obtain ⟨ele, hle⟩ := isB_c (n := nl) rfl (by omega) hq1
    obtain ⟨ebi, hbi⟩ := isB_c (n := nb) rfl (by omega) hq2
    refine v_aload_n C dX0_spout_46 0 rfl ?_
    subst hs0
    refine v_rec C hnb hnl hnc hh ht hf q517 (Nat.le_of_ble_eq_true rfl) dX0_spout_47 (roomL rfl rfl) ?_
    generalize hs1 : dqW g (a 3) d1 (dqH hd tl) ((tl + 1) % 6) (dqF hd tl f (A 0)) ++ (sw g A nb nl nc r b [] ++ X) = suf
    intro A
    refine v_aload_n C dX0_spout_50 0 rfl ?_
    refine v_get C in_X0 rfl 0 rfl 0 (by decide) q483 (fun _ h => h) rfl dX0_spout_51 ?_
    refine v_getN C in_X1 rfl 3 rfl 1 (by decide) q157 (fun _ h => h) rfl dX0_spout_54 ?_
    refine v_iload_n C dX0_spout_57 1 rfl ?_
    refine v_eqi ele ?_
    refine v_zMV (ws' := (cw g a A nb nl nc r b od us tk bn suf)) C (j_get l g (A 3) (A 4) 3 (nI nl) nl (rfs A 20 nl) le.toNatClampNeg (A (20 + le.toNatClampNeg)) hle hnl (by decide) (rfs_at A 20 hle)) [_, _, _, _, _, _] rfl ok_J2_get rfl q359 rfl (Nat.le_of_ble_eq_true rfl) 0 rfl rfl rfl dX0_spout_58 (roomL rfl rfl) ⟨rfl, rfl⟩ rfl ?_
    refine v_castS (r := (RX5, TX5, 4)) C q365 (nb + le.toNatClampNeg + 11) (cw_leg hle) rfl dX0_spout_61 ?_
    refine v_dup C dX0_spout_64 rfl ?_
    refine v_getN C in_X5 rfl (nb + le.toNatClampNeg + 11) (cw_leg hle) 1 (by decide) q677 (fun _ h => h) rfl dX0_spout_65 ?_
    refine v_eqi (show _ = r (82 + 4 * le.toNatClampNeg + 1) from rfl) ?_
    refine v_iconst (v := 1) C dX0_spout_68 (by decide) ?_
    refine v_iload_n C dX0_spout_69 2 rfl ?_
    refine v_eqi ebi ?_
    refine v_ishl C dX0_spout_70 ?_
    refine v_ixor C dX0_spout_71 ?_
    refine v_putN (ws' := (cw g a A nb nl nc (upd r (82 + 4 * le.toNatClampNeg + 1) (r (82 + 4 * le.toNatClampNeg + 1) ^^^ ((1 : Int32) <<< (nI bi.toNatClampNeg &&& 31)))) b od us tk bn suf)) C in_X5 tyX5 tyX5_ok nmX5 rfl (nb + le.toNatClampNeg + 11) (cw_leg hle) 1 (by decide) q677 (fun _ h => h) rfl rfl rfl (Nat.le_of_ble_eq_true rfl) dX0_spout_72 (cw_setG1 (k := 1) hle hnb hnl (by decide) _) ?_
    refine v_aload_n C dX0_spout_75 0 rfl ?_
    refine v_get C in_X0 rfl 0 rfl 0 (by decide) q483 (fun _ h => h) rfl dX0_spout_76 ?_
    refine v_getN C in_X1 rfl 3 rfl 1 (by decide) q157 (fun _ h => h) rfl dX0_spout_79 ?_
    refine v_iload_n C dX0_spout_82 1 rfl ?_
    refine v_eqi ele ?_
    refine v_zMV (ws' := (cw g a A nb nl nc (upd r (82 + 4 * le.toNatClampNeg + 1) (r (82 + 4 * le.toNatClampNeg + 1) ^^^ ((1 : Int32) <<< (nI bi.toNatClampNeg &&& 31)))) b od us tk bn suf)) C (j_get l g (A 3) (A 4) 3 (nI nl) nl (rfs A 20 nl) le.toNatClampNeg (A (20 + le.toNatClampNeg)) hle hnl (by decide) (rfs_at A 20 hle)) [_, _, _, _, _, _] rfl ok_J2_get rfl q359 rfl (Nat.le_of_ble_eq_true rfl) 0 rfl rfl rfl dX0_spout_83 (roomL rfl rfl) ⟨rfl, rfl⟩ rfl ?_
    refine v_castS (r := (RX5, TX5, 4)) C q365 (nb + le.toNatClampNeg + 11) (cw_leg hle) rfl dX0_spout_86 ?_
    refine v_getN C in_X5 rfl (nb + le.toNatClampNeg + 11) (cw_leg hle) 1 (by decide) q677 (fun _ h => h) rfl dX0_spout_89 ?_
    refine v_eqi (show _ = (upd r (82 + 4 * le.toNatClampNeg + 1) (r (82 + 4 * le.toNatClampNeg + 1) ^^^ ((1 : Int32) <<< (nI bi.toNatClampNeg &&& 31)))) (82 + 4 * le.toNatClampNeg + 1) from rfl) ?_
    refine v_iload_n C dX0_spout_92 2 rfl ?_
    refine v_eqi ebi ?_
    refine v_ishr C dX0_spout_93 ?_
    refine v_iconst (v := 1) C dX0_spout_94 (by decide) ?_
    refine v_iand C dX0_spout_95 ?_
    exact v_iret C dX0_spout_96 (Nat.le_of_ble_eq_true rfl) (Nat.le_of_ble_eq_true rfl) (by unfold y_spout; rw [if_pos c40_1]; exact ⟨rfl, _, _, _, _, _, by subst hs1; exact List.Perm.refl _⟩)
  · skip
    refine v_bipush (v := -2) C dX0_spout_43 (by decide) ?_
    exact v_iret C dX0_spout_45 (Nat.le_of_ble_eq_true rfl) (Nat.le_of_ble_eq_true rfl) (by unfold y_spout; rw [if_neg c40_1]; exact ⟨rfl, _, _, _, _, _, by subst hs0; exact List.Perm.refl _⟩)
def M_X0_setPrice : Md := (yX0_setPrice, cX0_setPrice, 4, (some .int), 7, 163, 25, 164)
theorem ok_X0_setPrice : MOKv M_X0_setPrice 2 := ⟨q743, q744, q89, q745, ⟨by decide +kernel, by decide +kernel, by decide +kernel⟩⟩
set_option maxHeartbeats 4000000 in
theorem x_setPrice (l : Launch) (g : GT) (a A : Nat → Nat) (nb nl nc : Nat) (r : Nat → Int32) (b : Nat → Int64) (od : Nat → Int32) (us : Int32) (tk : Nat → Int32) (bn : Int32) (suf : va_W) (hnb : nb ≤ 8) (hnl : nl ≤ 3) (hnc : nc ≤ 6) (d1 hd tl : Nat) (f : Nat → Option Nat) (X : va_W) (hs0 : suf = dqW g (a 3) d1 hd tl f ++ X) (hh : hd < 6) (ht : tl < 6) (hf : (tl + 6 - hd) % 6 = 5 → ∃ x, f hd = some x) (kd pr : Int32) : Ct l g M_X0_setPrice [.ref (a 0), .int kd, .int pr] (cw g a A nb nl nc r b od us tk bn suf) (fun rv w => rv = some (.int (y_setPrice r b nb nl nc kd pr).1) ∧ Rec g a A nb nl nc r b d1 hd tl f X (y_setPrice r b nb nl nc kd pr).2 w) := by
  refine Ct.start2 (M := M_X0_setPrice) rfl [(0, .ref (a 0)), (1, .int kd), (2, .int pr)] rfl (by decide +kernel) (Nat.le_of_ble_eq_true rfl) ?_
  intro p e s m args below meth c A9 C
  refine v_iload_n C dX0_setPrice_0 1 rfl ?_
  refine v_callSp C (x_isKind l g _) ok_X0_isKind rfl q746 rfl (Nat.le_of_ble_eq_true rfl) dX0_setPrice_1 (roomL rfl rfl) ⟨rfl, rfl⟩ ?_
  refine v_if_neB C 10 dX0_setPrice_4 (by decide) (fun c4_1 => ?_) (fun c4_1 => ?_)
  · skip
    obtain ⟨ekd, hkd⟩ := in_c (n := 3) rfl (by decide) c4_1
    refine v_iload_n C dX0_setPrice_10 2 rfl ?_
    refine v_iconst (v := 1) C dX0_setPrice_11 (by decide) ?_
    refine v_sipush (v := 1000) C dX0_setPrice_12 (by decide) ?_
    refine v_callSp C (x_isIn l g _ _ _) ok_X0_isIn rfl q276 rfl (Nat.le_of_ble_eq_true rfl) dX0_setPrice_15 (roomL rfl rfl) ⟨rfl, rfl⟩ ?_
    refine v_if_neB C 24 dX0_setPrice_18 (by decide) (fun c18_2 => ?_) (fun c18_2 => ?_)
    · skip
      refine v_aload_n C dX0_setPrice_24 0 rfl ?_
      subst hs0
      refine v_rec C hnb hnl hnc hh ht hf q517 (Nat.le_of_ble_eq_true rfl) dX0_setPrice_25 (roomL rfl rfl) ?_
      generalize hs1 : dqW g (a 3) d1 (dqH hd tl) ((tl + 1) % 6) (dqF hd tl f (A 0)) ++ (sw g A nb nl nc r b [] ++ X) = suf
      intro A
      refine v_aload_n C dX0_setPrice_28 0 rfl ?_
      refine v_get C in_X0 rfl 0 rfl 0 (by decide) q483 (fun _ h => h) rfl dX0_setPrice_29 ?_
      refine v_getN C in_X1 rfl 3 rfl 3 (by decide) q161 (fun _ h => h) rfl dX0_setPrice_32 ?_
      refine v_iload_n C dX0_setPrice_35 1 rfl ?_
      refine v_eqi ekd ?_
      refine v_iald C dX0_setPrice_36 10 rfl (ixn (by omega) (by decide)) ?_
      refine v_eqi (prF_at r (by omega)) ?_
      refine v_istore_n (lv' := [(3, _), (0, _), (1, _), (2, _)]) C dX0_setPrice_37 rfl (by decide) rfl ?_
      refine v_aload_n C dX0_setPrice_38 1 rfl ?_
      refine v_get C in_X0 rfl 0 rfl 0 (by decide) q483 (fun _ h => h) rfl dX0_setPrice_39 ?_
      refine v_getN C in_X1 rfl 3 rfl 3 (by decide) q161 (fun _ h => h) rfl dX0_setPrice_42 ?_
      refine v_iload_n C dX0_setPrice_45 2 rfl ?_
      refine v_eqi ekd ?_
      refine v_iload_n C dX0_setPrice_46 3 rfl ?_
      refine v_iast (ws' := (cw g a A nb nl nc (upd r (6 + kd.toNatClampNeg) pr) b od us tk bn suf)) C dX0_setPrice_47 10 rfl (ixn (by omega) (by decide)) (cw_price (by omega) _) ?_
      refine v_iload_n C dX0_setPrice_48 0 rfl ?_
      exact v_iret C dX0_setPrice_49 (Nat.le_of_ble_eq_true rfl) (Nat.le_of_ble_eq_true rfl) (by unfold y_setPrice; rw [if_pos c4_1, if_pos c18_2]; exact ⟨rfl, _, _, _, _, _, by subst hs1; exact List.Perm.refl _⟩)
    · skip
      refine v_bipush (v := -3) C dX0_setPrice_21 (by decide) ?_
      exact v_iret C dX0_setPrice_23 (Nat.le_of_ble_eq_true rfl) (Nat.le_of_ble_eq_true rfl) (by unfold y_setPrice; rw [if_pos c4_1, if_neg c18_2]; exact ⟨rfl, _, _, _, _, _, by subst hs0; exact List.Perm.refl _⟩)
  · skip
    refine v_bipush (v := -2) C dX0_setPrice_7 (by decide) ?_
    exact v_iret C dX0_setPrice_9 (Nat.le_of_ble_eq_true rfl) (Nat.le_of_ble_eq_true rfl) (by unfold y_setPrice; rw [if_neg c4_1]; exact ⟨rfl, _, _, _, _, _, by subst hs0; exact List.Perm.refl _⟩)
def M_X0_setDustLimit : Md := (yX0_setDustLimit, cX0_setDustLimit, 3, (some .int), 7, 163, 25, 164)
theorem ok_X0_setDustLimit : MOKv M_X0_setDustLimit 1 := ⟨q750, q751, q89, q752, ⟨by decide +kernel, by decide +kernel, by decide +kernel⟩⟩
set_option maxHeartbeats 4000000 in
theorem x_setDust (l : Launch) (g : GT) (a A : Nat → Nat) (nb nl nc : Nat) (r : Nat → Int32) (b : Nat → Int64) (od : Nat → Int32) (us : Int32) (tk : Nat → Int32) (bn : Int32) (suf : va_W) (hnb : nb ≤ 8) (hnl : nl ≤ 3) (hnc : nc ≤ 6) (d1 hd tl : Nat) (f : Nat → Option Nat) (X : va_W) (hs0 : suf = dqW g (a 3) d1 hd tl f ++ X) (hh : hd < 6) (ht : tl < 6) (hf : (tl + 6 - hd) % 6 = 5 → ∃ x, f hd = some x) (lm : Int32) : Ct l g M_X0_setDustLimit [.ref (a 0), .int lm] (cw g a A nb nl nc r b od us tk bn suf) (fun rv w => rv = some (.int (y_setDust r b nb nl nc lm).1) ∧ Rec g a A nb nl nc r b d1 hd tl f X (y_setDust r b nb nl nc lm).2 w) := by
  refine Ct.start2 (M := M_X0_setDustLimit) rfl [(0, .ref (a 0)), (1, .int lm)] rfl (by decide +kernel) (Nat.le_of_ble_eq_true rfl) ?_
  intro p e s m args below meth c A9 C
  refine v_iload_n C dX0_setDustLimit_0 1 rfl ?_
  refine v_bipush (v := 100) C dX0_setDustLimit_1 (by decide) ?_
  refine v_sipush (v := 10000) C dX0_setDustLimit_3 (by decide) ?_
  refine v_callSp C (x_isIn l g _ _ _) ok_X0_isIn rfl q276 rfl (Nat.le_of_ble_eq_true rfl) dX0_setDustLimit_6 (roomL rfl rfl) ⟨rfl, rfl⟩ ?_
  refine v_if_neB C 15 dX0_setDustLimit_9 (by decide) (fun c9_1 => ?_) (fun c9_1 => ?_)
  · skip
    refine v_aload_n C dX0_setDustLimit_15 0 rfl ?_
    subst hs0
    refine v_rec C hnb hnl hnc hh ht hf q517 (Nat.le_of_ble_eq_true rfl) dX0_setDustLimit_16 (roomL rfl rfl) ?_
    generalize hs1 : dqW g (a 3) d1 (dqH hd tl) ((tl + 1) % 6) (dqF hd tl f (A 0)) ++ (sw g A nb nl nc r b [] ++ X) = suf
    intro A
    refine v_aload_n C dX0_setDustLimit_19 0 rfl ?_
    refine v_get C in_X0 rfl 0 rfl 0 (by decide) q483 (fun _ h => h) rfl dX0_setDustLimit_20 ?_
    refine v_getN C in_X1 rfl 3 rfl 5 (by decide) q165 (fun _ h => h) rfl dX0_setDustLimit_23 ?_
    refine v_istore_n (lv' := [(2, _), (0, _), (1, _)]) C dX0_setDustLimit_26 rfl (by decide) rfl ?_
    refine v_aload_n C dX0_setDustLimit_27 1 rfl ?_
    refine v_get C in_X0 rfl 0 rfl 0 (by decide) q483 (fun _ h => h) rfl dX0_setDustLimit_28 ?_
    refine v_iload_n C dX0_setDustLimit_31 2 rfl ?_
    refine v_putN (ws' := (cw g a A nb nl nc (upd r 1 lm) b od us tk bn suf)) C in_X1 tyX1 tyX1_ok nmX1 rfl 3 rfl 5 (by decide) q165 (fun _ h => h) rfl rfl rfl (Nat.le_of_ble_eq_true rfl) dX0_setDustLimit_32 (cw_limit _) ?_
    refine v_iload_n C dX0_setDustLimit_35 0 rfl ?_
    exact v_iret C dX0_setDustLimit_36 (Nat.le_of_ble_eq_true rfl) (Nat.le_of_ble_eq_true rfl) (by unfold y_setDust; rw [if_pos c9_1]; exact ⟨rfl, _, _, _, _, _, by subst hs1; exact List.Perm.refl _⟩)
  · skip
    refine v_bipush (v := -3) C dX0_setDustLimit_12 (by decide) ?_
    exact v_iret C dX0_setDustLimit_14 (Nat.le_of_ble_eq_true rfl) (Nat.le_of_ble_eq_true rfl) (by unfold y_setDust; rw [if_neg c9_1]; exact ⟨rfl, _, _, _, _, _, by subst hs0; exact List.Perm.refl _⟩)
