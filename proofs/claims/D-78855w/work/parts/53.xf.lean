/-! stepsTo -/
set_option maxRecDepth 100000
def x_stp (lim : Int32) : Nat → Nat → (Nat → Int32) → Nat × (Nat → Int32)
  | 0, n, v => (n, v)
  | f + 1, n, v => if b_moist v ≤ lim then (n, v) else x_stp lim f (n + 1) (b_dry v)
def x_steps (r : Nat → Int32) (nb : Nat) (bi lim : Int32) : Int32 :=
  if q_n nb bi then if 50 ≤ lim ∧ lim ≤ 400 then if r (10 + 9 * bi.toNatClampNeg + 3) = 0 then -1 else
    if lim < b_moist (x_stp lim 200 0 (bv r bi.toNatClampNeg)).2 then -1 else nI (x_stp lim 200 0 (bv r bi.toNatClampNeg)).1 else -3 else -2
def M_X0_stepsTo : Md := (yX0_stepsTo, cX0_stepsTo, 6, (some .int), 4, 104, 1, 9)
theorem ok_X0_stepsTo : MOKv M_X0_stepsTo 2 := ⟨q914, q915, q89, q916, ⟨by decide +kernel, by decide +kernel, by decide +kernel⟩⟩
set_option maxHeartbeats 4000000 in
theorem x_stepsTo (l : Launch) (g : GT) (a A : Nat → Nat) (nb nl nc : Nat) (r : Nat → Int32) (b : Nat → Int64) (od : Nat → Int32) (us : Int32) (tk : Nat → Int32) (bn : Int32) (suf : va_W) (hnb : nb ≤ 8) (hnl : nl ≤ 3) (hnc : nc ≤ 6) (bi lim : Int32) : CtE l g M_X0_stepsTo [.ref (a 0), .int bi, .int lim] (cw g a A nb nl nc r b od us tk bn suf) (some (.int (x_steps r nb bi lim))) (cw g a A nb nl nc r b od us tk bn suf) := by
  refine Ct.start2 (M := M_X0_stepsTo) rfl [(0, .ref (a 0)), (1, .int bi), (2, .int lim)] rfl (by decide +kernel) (Nat.le_of_ble_eq_true rfl) ?_
  intro p e s m args below meth c A9 C
  refine v_aload_n C dX0_stepsTo_0 0 rfl ?_
  refine v_iload_n C dX0_stepsTo_1 1 rfl ?_
  refine v_callVw C (x_isBin l g a A nb nl nc r b od us tk bn suf hnb hnl hnc _) ok_X0_isBin rfl q463 rfl (Nat.le_of_ble_eq_true rfl) 0 rfl rfl rfl dX0_stepsTo_2 (roomL rfl rfl) ⟨rfl, rfl⟩ ?_
  refine v_if_neB C 11 dX0_stepsTo_5 (by decide) (fun c5_1 => ?_) (fun c5_1 => ?_)
  · skip
    obtain ⟨ebi, hbi⟩ := isB_c (n := nb) rfl (by omega) c5_1
    refine v_iload_n C dX0_stepsTo_11 2 rfl ?_
    refine v_callSp C (x_isMoisture l g _) ok_X0_isMoisture rfl q279 rfl (Nat.le_of_ble_eq_true rfl) dX0_stepsTo_12 (roomL rfl rfl) ⟨rfl, rfl⟩ ?_
    refine v_if_neB C 21 dX0_stepsTo_15 (by decide) (fun c15_2 => ?_) (fun c15_2 => ?_)
    · skip
      refine v_new (ci := 4) (fs := [.int 0, .int 0, .int 0, .int 0, .int 0, .int 0, .int 0, .int 0, .int 0]) C in_X4 tyX4 tyX4_ok q360 q435 q106 rfl (by decide +kernel) (Nat.le_of_ble_eq_true rfl) (Nat.le_of_ble_eq_true rfl) dX0_stepsTo_21 (fun q21 => ?_)
      refine v_perm (ws' := (q21, .inr (4, [.int 0, .int 0, .int 0, .int 0, .int 0, .int 0, .int 0, .int 0, .int 0])) :: (cw g a A nb nl nc r b od us tk bn suf)) (List.perm_append_comm (l₂ := [_])) ?_
      refine v_dup C dX0_stepsTo_24 rfl ?_
      refine v_aload_n C dX0_stepsTo_25 0 rfl ?_
      refine v_get C in_X0 rfl 1 rfl 0 (by decide) q483 (fun _ h => h) rfl dX0_stepsTo_26 ?_
      refine v_getN C in_X1 rfl 4 rfl 0 (by decide) q155 (fun _ h => h) rfl dX0_stepsTo_29 ?_
      refine v_iload_n C dX0_stepsTo_32 1 rfl ?_
      refine v_eqi ebi ?_
      refine v_zMV (ws' := ((_, .inr (_, _)) :: (cw g a A nb nl nc r b od us tk bn suf))) C (j_get l g (A 1) (A 2) 8 (nI nb) nb (rfs A 10 nb) bi.toNatClampNeg (A (10 + bi.toNatClampNeg)) hbi hnb (by decide) (rfs_at A 10 hbi)) [_, _, _, _, _] rfl ok_J2_get rfl q359 rfl (Nat.le_of_ble_eq_true rfl) 0 rfl rfl rfl dX0_stepsTo_33 (roomL rfl rfl) ⟨rfl, rfl⟩ rfl ?_
      refine v_castS (r := (RX4, TX4, 9)) C q360 ((bi.toNatClampNeg + 11) + 1) (cw_bin (g := g) (a := a) (b := b) (od := od) (us := us) (tk := tk) (bn := bn) hbi) rfl dX0_stepsTo_36 ?_
      refine v_callCp C (x_bcopy l g q21 (A (10 + bi.toNatClampNeg)) (bv r bi.toNatClampNeg)) ok_X4_init rfl q917 rfl (Nat.le_of_ble_eq_true rfl) dX0_stepsTo_39 (roomL rfl rfl) ⟨rfl, rfl⟩ (bi.toNatClampNeg + 11) (cw_bin hbi) ?_
      refine v_astore_n (lv' := [(3, _), (0, _), (1, _), (2, _)]) C dX0_stepsTo_42 rfl (by decide) rfl ?_
      refine v_aload_n C dX0_stepsTo_43 0 rfl ?_
      refine v_getN C in_X4 rfl 0 rfl 3 (by decide) q605 (fun _ h => h) rfl dX0_stepsTo_44 ?_
      refine v_eqi (show _ = r (10 + 9 * bi.toNatClampNeg + 3) from rfl) ?_
      refine v_if_ne C 52 dX0_stepsTo_47 (by decide) (fun c47_3 => ?_) (fun c47_3 => ?_)
      · skip
        refine v_iconst (v := 0) C dX0_stepsTo_52 (by decide) ?_
        refine v_istore (lv' := [(4, _), (3, _), (0, _), (1, _), (2, _)]) C dX0_stepsTo_53 (by decide) rfl ?_
        refine v_while (α := Nat × (Nat → Int32)) (fun x => 200 - x.1) (fun x => x.1 ≤ 200 ∧ x_stp lim 200 0 (bv r bi.toNatClampNeg) = x_stp lim (200 - x.1) x.1 x.2) (fun x => [(4, .int (nI x.1)), (3, .ref q21), (0, .ref (a 0)), (1, .int bi), (2, .int lim)]) (fun x => bnC q21 x.2 :: cw g a A nb nl nc r b od us tk bn suf) (0, bv r bi.toNatClampNeg) rfl rfl ⟨by dsimp only; omega, rfl⟩ ?_
        rintro ⟨n, v⟩ ⟨hn, hx⟩ ih
        dsimp only at hn hx ih ⊢
        refine v_iload C dX0_stepsTo_55 0 rfl ?_
        refine v_sipush (v := 200) C dX0_stepsTo_57 (by decide) ?_
        refine v_icmp_ge C 83 dX0_stepsTo_60 (by decide) (fun c60_4 => ?_) (fun c60_4 => ?_)
        · skip
          have h200 : n = 200 := by have := (nI_leI (a := 200) (b := n) (by decide) (by omega)).mp c60_4; omega
          have hfin : x_stp lim 200 0 (bv r bi.toNatClampNeg) = (n, v) := by rw [hx, h200]; rfl
          refine v_aload_n C dX0_stepsTo_83 1 rfl ?_
          refine v_zFV (ws' := ((_, .inr (_, _)) :: (cw g a A nb nl nc r b od us tk bn suf))) C (x_moisture l g _ _) ok_X4_moisture rfl q474 rfl (Nat.le_of_ble_eq_true rfl) 0 rfl rfl rfl dX0_stepsTo_84 (roomL rfl rfl) ⟨rfl, rfl⟩ rfl ?_
          refine v_iload_n C dX0_stepsTo_87 4 rfl ?_
          refine v_icmp_gt C 96 dX0_stepsTo_88 (by decide) (fun c88_5 => ?_) (fun c88_5 => ?_)
          · skip
            refine v_iconst (v := -1) C dX0_stepsTo_96 (by decide) ?_
            refine v_drop (ws' := (cw g a A nb nl nc r b od us tk bn suf)) (wd := [_]) (List.perm_append_comm (l₁ := [_])) ?_
            exact v_iret C dX0_stepsTo_97 (Nat.le_of_ble_eq_true rfl) (Nat.le_of_ble_eq_true rfl) (by unfold x_steps; rw [if_pos c5_1, if_pos c15_2, if_neg c47_3, hfin]; dsimp only; rw [if_pos c88_5]; exact ⟨rfl, rfl⟩)
          · skip
            refine v_iload C dX0_stepsTo_91 0 rfl ?_
            refine v_goto C 97 dX0_stepsTo_93 (by decide) ?_
            refine v_drop (ws' := (cw g a A nb nl nc r b od us tk bn suf)) (wd := [_]) (List.perm_append_comm (l₁ := [_])) ?_
            exact v_iret C dX0_stepsTo_97 (Nat.le_of_ble_eq_true rfl) (Nat.le_of_ble_eq_true rfl) (by unfold x_steps; rw [if_pos c5_1, if_pos c15_2, if_neg c47_3, hfin]; dsimp only; rw [if_neg c88_5]; exact ⟨rfl, rfl⟩)
        · skip
          have hlt : n < 200 := Nat.lt_of_le_of_ne hn (fun q => c60_4 (by rw [q]; exact Int32.le_refl _))
          refine v_aload_n C dX0_stepsTo_63 1 rfl ?_
          refine v_zFV (ws' := ((_, .inr (_, _)) :: (cw g a A nb nl nc r b od us tk bn suf))) C (x_moisture l g _ _) ok_X4_moisture rfl q474 rfl (Nat.le_of_ble_eq_true rfl) 0 rfl rfl rfl dX0_stepsTo_64 (roomL rfl rfl) ⟨rfl, rfl⟩ rfl ?_
          refine v_iload_n C dX0_stepsTo_67 4 rfl ?_
          refine v_icmp_le C 83 dX0_stepsTo_68 (by decide) (fun c68_6 => ?_) (fun c68_6 => ?_)
          · skip
            have hfin : x_stp lim 200 0 (bv r bi.toNatClampNeg) = (n, v) := by rw [hx, show 200 - n = (200 - (n + 1)) + 1 by omega, x_stp, if_pos c68_6]
            refine v_aload_n C dX0_stepsTo_83 1 rfl ?_
            refine v_zFV (ws' := ((_, .inr (_, _)) :: (cw g a A nb nl nc r b od us tk bn suf))) C (x_moisture l g _ _) ok_X4_moisture rfl q474 rfl (Nat.le_of_ble_eq_true rfl) 0 rfl rfl rfl dX0_stepsTo_84 (roomL rfl rfl) ⟨rfl, rfl⟩ rfl ?_
            refine v_iload_n C dX0_stepsTo_87 4 rfl ?_
            refine v_icmp_gt C 96 dX0_stepsTo_88 (by decide) (fun c88_7 => ?_) (fun c88_7 => ?_)
            · skip
              refine v_iconst (v := -1) C dX0_stepsTo_96 (by decide) ?_
              refine v_drop (ws' := (cw g a A nb nl nc r b od us tk bn suf)) (wd := [_]) (List.perm_append_comm (l₁ := [_])) ?_
              exact v_iret C dX0_stepsTo_97 (Nat.le_of_ble_eq_true rfl) (Nat.le_of_ble_eq_true rfl) (by unfold x_steps; rw [if_pos c5_1, if_pos c15_2, if_neg c47_3, hfin]; dsimp only; rw [if_pos c88_7]; exact ⟨rfl, rfl⟩)
            · skip
              refine v_iload C dX0_stepsTo_91 0 rfl ?_
              refine v_goto C 97 dX0_stepsTo_93 (by decide) ?_
              refine v_drop (ws' := (cw g a A nb nl nc r b od us tk bn suf)) (wd := [_]) (List.perm_append_comm (l₁ := [_])) ?_
              exact v_iret C dX0_stepsTo_97 (Nat.le_of_ble_eq_true rfl) (Nat.le_of_ble_eq_true rfl) (by unfold x_steps; rw [if_pos c5_1, if_pos c15_2, if_neg c47_3, hfin]; dsimp only; rw [if_neg c88_7]; exact ⟨rfl, rfl⟩)
          · skip
            have hmo := c68_6
            refine v_aload_n C dX0_stepsTo_71 1 rfl ?_
            refine v_zFV (ws' := bnC q21 (b_dry v) :: (cw g a A nb nl nc r b od us tk bn suf)) C (x_dry l g _ v) ok_X4_dry rfl q475 rfl (Nat.le_of_ble_eq_true rfl) 0 rfl rfl rfl dX0_stepsTo_72 (roomL rfl rfl) ⟨rfl, rfl⟩ rfl ?_
            refine v_istore (lv' := [(5, _), (4, _), (3, _), (0, _), (1, _), (2, _)]) C dX0_stepsTo_75 (by decide) rfl ?_
            refine v_iinc (lv' := [(4, _), (5, _), (3, _), (0, _), (1, _), (2, _)]) C dX0_stepsTo_77 1 rfl (nI_1 n) (by decide) rfl ?_
            refine v_goto C 55 dX0_stepsTo_80 (by decide) ?_
            refine v_lvp (lv' := [(4, _), (3, _), (0, _), (1, _), (2, _)]) [0, 2, 3, 4, 5] rfl ?_
            exact ih (n + 1, b_dry v) ⟨by dsimp only; omega, by dsimp only; rw [hx, show 200 - n = (200 - (n + 1)) + 1 by omega, x_stp, if_neg hmo]⟩ (by dsimp only; omega)
      · skip
        refine v_iconst (v := -1) C dX0_stepsTo_50 (by decide) ?_
        refine v_drop (ws' := (cw g a A nb nl nc r b od us tk bn suf)) (wd := [_]) (List.perm_append_comm (l₁ := [_])) ?_
        exact v_iret C dX0_stepsTo_51 (Nat.le_of_ble_eq_true rfl) (Nat.le_of_ble_eq_true rfl) (by unfold x_steps; rw [if_pos c5_1, if_pos c15_2, if_pos c47_3]; exact ⟨rfl, rfl⟩)
    · skip
      refine v_bipush (v := -3) C dX0_stepsTo_18 (by decide) ?_
      exact v_iret C dX0_stepsTo_20 (Nat.le_of_ble_eq_true rfl) (Nat.le_of_ble_eq_true rfl) (by unfold x_steps; rw [if_pos c5_1, if_neg c15_2]; exact ⟨rfl, rfl⟩)
  · skip
    refine v_bipush (v := -2) C dX0_stepsTo_8 (by decide) ?_
    exact v_iret C dX0_stepsTo_10 (Nat.le_of_ble_eq_true rfl) (Nat.le_of_ble_eq_true rfl) (by unfold x_steps; rw [if_neg c5_1]; exact ⟨rfl, rfl⟩)
