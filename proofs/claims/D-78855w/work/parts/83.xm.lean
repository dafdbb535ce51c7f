/-! back -/
set_option maxRecDepth 100000
theorem perm_blk {α : Type} {L : List (List α)} {n : Nat} (ks : List Nat) (hn : L.length = n) (h : ks.isPerm (List.range n) = true) : ((ks.filterMap (fun i => L[i]?)).flatten).Perm L.flatten := (perm_ix ks hn h).flatten
section BK
variable {g : GT} {a A0 A : Nat → Nat} {nb nl nc : Nat} {r : Nat → Int32} {b : Nat → Int64} {od : Nat → Int32} {us : Int32} {tk : Nat → Int32} {bn : Int32} {Jm J2 : Nat → Nat} {mb' ml' mc' : Nat} {r' : Nat → Int32} {b' : Nat → Int64} {X2 D S P : va_W} {x : Nat × va_E}
theorem pl8 {α : Type} (e o s d S x j X : List α) : (e ++ (o ++ (s ++ (d ++ (S ++ (x ++ (j ++ X))))))).Perm (x ++ (e ++ (j ++ (X ++ (o ++ (s ++ (d ++ S))))))) := by
  have h := perm_blk (L := [x, e, j, X, o, s, d, S]) (n := 8) [1, 4, 5, 6, 7, 0, 2, 3] rfl (by decide)
  simpa using h
theorem pl9 {α : Type} (e o s d S x j X P : List α) : (x ++ (e ++ (s ++ (j ++ (X ++ (o ++ (P ++ (d ++ S)))))))).Perm ((e ++ (o ++ (s ++ (d ++ (S ++ (x ++ (j ++ X))))))) ++ P) := by
  have h := perm_blk (L := [x, e, s, j, X, o, P, d, S]) (n := 9) [1, 5, 2, 7, 8, 0, 3, 4, 6] rfl (by decide)
  simpa using h.symm
theorem bk_in : (cw g a A nb nl nc r b od us tk bn (D ++ (S ++ (x :: sw g Jm mb' ml' mc' r' b' X2)))).Perm (x :: (a 0, .inr (0, elF a us bn (A 0))) :: sw g Jm mb' ml' mc' r' b' (X2 ++ ([(a 1, .inl (g.2 0, 8, .inl od)), (a 2, .inl (g.2 0, 8, .inl tk))] ++ (sw g A nb nl nc r b [] ++ (D ++ S))))) := by
  unfold cw
  rw [sw_suf g A nb nl nc r b (D ++ _), sw_suf g Jm mb' ml' mc' r' b' X2, sw_suf g Jm mb' ml' mc' r' b' (X2 ++ _)]
  exact pl8 [(a 0, (.inr (0, elF a us bn (A 0)) : va_E))] [(a 1, .inl (g.2 0, 8, .inl od)), (a 2, .inl (g.2 0, 8, .inl tk))] (sw g A nb nl nc r b []) D S [x] (sw g Jm mb' ml' mc' r' b' []) X2
theorem bk_out : (x :: (a 0, .inr (0, elF a us bn (J2 0))) :: sw g J2 mb' ml' mc' r' b' (sw g Jm mb' ml' mc' r' b' (X2 ++ ([(a 1, .inl (g.2 0, 8, .inl od)), (a 2, .inl (g.2 0, 8, .inl tk))] ++ (P ++ (D ++ S)))))).Perm (cw g a J2 mb' ml' mc' r' b' od us tk bn (D ++ (S ++ (x :: sw g Jm mb' ml' mc' r' b' X2))) ++ P) := by
  unfold cw
  rw [sw_suf g J2 mb' ml' mc' r' b' (D ++ _), sw_suf g Jm mb' ml' mc' r' b' X2, sw_suf g Jm mb' ml' mc' r' b' (X2 ++ _), sw_suf g J2 mb' ml' mc' r' b' (sw g Jm mb' ml' mc' r' b' [] ++ _)]
  exact pl9 [(a 0, (.inr (0, elF a us bn (J2 0)) : va_E))] [(a 1, .inl (g.2 0, 8, .inl od)), (a 2, .inl (g.2 0, 8, .inl tk))] (sw g J2 mb' ml' mc' r' b' []) D S [x] (sw g Jm mb' ml' mc' r' b' []) X2 P
end BK
def M_X0_back : Md := (yX0_back, cX0_back, 2, (some .int), 7, 163, 50, 328)
theorem ok_X0_back : MOKv M_X0_back 1 := ⟨q1146, q1147, q89, q1148, ⟨by decide +kernel, by decide +kernel, by decide +kernel⟩⟩
set_option maxHeartbeats 4000000 in
theorem x_back0 (l : Launch) (g : GT) (a : Nat → Nat) (us bn : Int32) (s0 : Nat) (im : Nat → Option Nat) (X : va_W) (x : Int32) (him : 0 ≤ x ∧ x ≤ 1 → im x.toNatClampNeg = none) : Ct l g M_X0_back [.ref (a 0), .int x] ((a 4, .inl (g.2 5, 2, .inr (.inr (.inr (.inr im))))) :: (a 0, .inr (0, elF a us bn s0)) :: X) (fun rv w => rv = some (.int (if 0 ≤ x ∧ x ≤ 1 then -4 else -2)) ∧ w = ((a 4, .inl (g.2 5, 2, .inr (.inr (.inr (.inr im))))) :: (a 0, .inr (0, elF a us bn s0)) :: X)) := by
  refine Ct.start2 (M := M_X0_back) rfl [(0, .ref (a 0)), (1, .int x)] rfl (by decide +kernel) (Nat.le_of_ble_eq_true rfl) ?_
  intro p e s m args below meth c A9 C
  refine v_iload_n C dX0_back_0 1 rfl ?_
  refine v_callSp C (x_isImage l g _) ok_X0_isImage rfl q1142 rfl (Nat.le_of_ble_eq_true rfl) dX0_back_1 (roomL rfl rfl) ⟨rfl, rfl⟩ ?_
  refine v_if_neB C 10 dX0_back_4 (by decide) (fun c4_1 => ?_) (fun c4_1 => ?_)
  · skip
    obtain ⟨ex, hx⟩ := in_c (n := 1) rfl (by decide) c4_1
    have him := him c4_1
    refine v_aload_n C dX0_back_10 0 rfl ?_
    refine v_get C in_X0 rfl 1 rfl 2 (by decide) q485 (fun _ h => h) rfl dX0_back_11 ?_
    refine v_iload_n C dX0_back_14 1 rfl ?_
    refine v_eqi ex ?_
    refine v_aald C 5 dX0_back_15 0 rfl rfl (ixn (by omega) (by decide)) ?_
    rw [him]
    refine v_st (st' := [.null]) rfl ?_
    refine v_ifnonnullN C dX0_back_16 ?_
    refine v_bipush (v := -4) C dX0_back_19 (by decide) ?_
    exact v_iret C dX0_back_21 (Nat.le_of_ble_eq_true rfl) (Nat.le_of_ble_eq_true rfl) (by rw [if_pos c4_1]; exact ⟨rfl, rfl⟩)
  · skip
    refine v_bipush (v := -2) C dX0_back_7 (by decide) ?_
    exact v_iret C dX0_back_9 (Nat.le_of_ble_eq_true rfl) (Nat.le_of_ble_eq_true rfl) (by rw [if_neg c4_1]; exact ⟨rfl, rfl⟩)
set_option maxHeartbeats 4000000 in
theorem x_back1 (l : Launch) (g : GT) (a A0 : Nat → Nat) (nb nl nc : Nat) (r : Nat → Int32) (b : Nat → Int64) (od : Nat → Int32) (us : Int32) (tk : Nat → Int32) (bn : Int32) (hnb : nb ≤ 8) (hnl : nl ≤ 3) (hnc : nc ≤ 6) (d1 hd tl : Nat) (f : Nat → Option Nat) (hh : hd < 6) (ht : tl < 6) (hf : (tl + 6 - hd) % 6 = 5 → ∃ x, f hd = some x) (im : Nat → Option Nat) (Jm : Nat → Nat) (mb' ml' mc' : Nat) (r' : Nat → Int32) (b' : Nat → Int64) (hmb : mb' ≤ 8) (hml : ml' ≤ 3) (hmc : mc' ≤ 6) (X2 : va_W) (x : Int32) (hx01 : 0 ≤ x ∧ x ≤ 1) (him : im x.toNatClampNeg = some (Jm 0)) : Ct l g M_X0_back [.ref (a 0), .int x] (cw g a A0 nb nl nc r b od us tk bn (dqW g (a 3) d1 hd tl f ++ ((a 4, .inl (g.2 5, 2, .inr (.inr (.inr (.inr im))))) :: sw g Jm mb' ml' mc' r' b' X2))) (fun rv w => rv = some (.int (r' 0)) ∧ Rec g a A0 nb nl nc r b d1 hd tl f ((a 4, .inl (g.2 5, 2, .inr (.inr (.inr (.inr im))))) :: sw g Jm mb' ml' mc' r' b' X2) (true, (mb', ml', mc'), r', b') w) := by
  refine Ct.start2 (M := M_X0_back) rfl [(0, .ref (a 0)), (1, .int x)] rfl (by decide +kernel) (Nat.le_of_ble_eq_true rfl) ?_
  intro p e s m args below meth c A9 C
  obtain ⟨ex, hx⟩ := in_c (n := 1) rfl (by decide) hx01
  refine v_perm (ws' := ((a 4, .inl (g.2 5, 2, .inr (.inr (.inr (.inr im))))) :: (a 0, .inr (0, elF a us bn (A0 0))) :: sw g Jm mb' ml' mc' r' b' (X2 ++ ([(a 1, .inl (g.2 0, 8, .inl od)), (a 2, .inl (g.2 0, 8, .inl tk))] ++ (sw g A0 nb nl nc r b [] ++ (dqW g (a 3) d1 hd tl f ++ [])))))) (bk_in (S := [])) ?_
  refine v_iload_n C dX0_back_0 1 rfl ?_
  refine v_eqi ex ?_
  refine v_callSp C (x_isImage l g _) ok_X0_isImage rfl q1142 rfl (Nat.le_of_ble_eq_true rfl) dX0_back_1 (roomL rfl rfl) ⟨rfl, rfl⟩ ?_
  refine v_if_neB C 10 dX0_back_4 (by decide) (fun c4_1 => ?_) (fun c4_1 => ?_)
  · skip
    refine v_aload_n C dX0_back_10 0 rfl ?_
    refine v_get C in_X0 rfl 1 rfl 2 (by decide) q485 (fun _ h => h) rfl dX0_back_11 ?_
    refine v_iload_n C dX0_back_14 1 rfl ?_
    refine v_eqi ex ?_
    refine v_aald C 5 dX0_back_15 0 rfl rfl (ixn (by omega) (by decide)) ?_
    refine v_eqr him ?_
    refine v_ifnonnull C 22 dX0_back_16 (by decide) ?_
    refine v_aload_n C dX0_back_22 0 rfl ?_
    refine v_perm (ws' := cw g a A0 nb nl nc r b od us tk bn (dqW g (a 3) d1 hd tl f ++ ((a 4, .inl (g.2 5, 2, .inr (.inr (.inr (.inr im))))) :: sw g Jm mb' ml' mc' r' b' X2))) (bk_in (S := [])).symm ?_
    refine v_rec C hnb hnl hnc hh ht hf q517 (Nat.le_of_ble_eq_true rfl) dX0_back_23 (roomL rfl rfl) ?_
    intro A
    refine v_perm (ws' := ((_, .inl (_, _, .inr (.inr (.inr (.inr _))))) :: (_, .inr (0, [_, _, _, _, _, _, _, _, _])) :: sw g Jm mb' ml' mc' r' b' (X2 ++ ([(a 1, .inl (g.2 0, 8, .inl od)), (a 2, .inl (g.2 0, 8, .inl tk))] ++ (sw g A nb nl nc r b [] ++ (dqW g (a 3) d1 (dqH hd tl) ((tl + 1) % 6) (dqF hd tl f (A0 0)) ++ sw g A0 nb nl nc r b [])))))) bk_in ?_
    refine v_aload_n C dX0_back_26 0 rfl ?_
    refine v_new (ci := 1) (fs := [.null, .null, .null, .null, .int 0, .int 0, .int 0, .int 0, .int 0, .int 0, .long 0, .long 0, .long 0]) C in_X1 tyX1 tyX1_ok q120 q121 q90 rfl (by decide +kernel) (Nat.le_of_ble_eq_true rfl) (Nat.le_of_ble_eq_true rfl) dX0_back_27 (fun q27 => ?_)
    refine v_perm (ws' := (q27, .inr (1, [.null, .null, .null, .null, .int 0, .int 0, .int 0, .int 0, .int 0, .int 0, .long 0, .long 0, .long 0])) :: ((_, .inl (_, _, .inr (.inr (.inr (.inr _))))) :: (_, .inr (0, [_, _, _, _, _, _, _, _, _])) :: sw g Jm mb' ml' mc' r' b' (X2 ++ ([(a 1, .inl (g.2 0, 8, .inl od)), (a 2, .inl (g.2 0, 8, .inl tk))] ++ (sw g A nb nl nc r b [] ++ (dqW g (a 3) d1 (dqH hd tl) ((tl + 1) % 6) (dqF hd tl f (A0 0)) ++ sw g A0 nb nl nc r b [])))))) (List.perm_append_comm (l₂ := [_])) ?_
    refine v_dup C dX0_back_30 rfl ?_
    refine v_aload_n C dX0_back_31 0 rfl ?_
    refine v_get C in_X0 rfl 2 rfl 2 (by decide) q485 (fun _ h => h) rfl dX0_back_32 ?_
    refine v_iload_n C dX0_back_35 1 rfl ?_
    refine v_eqi ex ?_
    refine v_aald C 5 dX0_back_36 1 rfl rfl (ixn (by omega) (by decide)) ?_
    refine v_eqr him ?_
    refine v_callI (wr := [_, _]) C (x_scopy l g q27 Jm mb' ml' mc' r' b' (X2 ++ ([(a 1, .inl (g.2 0, 8, .inl od)), (a 2, .inl (g.2 0, 8, .inl tk))] ++ (sw g A nb nl nc r b [] ++ (dqW g (a 3) d1 (dqH hd tl) ((tl + 1) % 6) (dqF hd tl f (A0 0)) ++ sw g A0 nb nl nc r b [])))) hmb hml hmc) ok_X1_init_2 rfl q583 rfl (Nat.le_of_ble_eq_true rfl) dX0_back_37 (roomL rfl rfl) (perm_news _ [_, _] _) ?_
    rintro _ _ ⟨rfl, J2, hJ2, hpJ2⟩
    refine v_perm (ws' := ((_, .inl (_, _, .inr (.inr (.inr (.inr _))))) :: (_, .inr (0, [_, _, _, _, _, _, _, _, _])) :: sw g J2 mb' ml' mc' r' b' (sw g Jm mb' ml' mc' r' b' (X2 ++ ([(a 1, .inl (g.2 0, 8, .inl od)), (a 2, .inl (g.2 0, 8, .inl tk))] ++ (sw g A nb nl nc r b [] ++ (dqW g (a 3) d1 (dqH hd tl) ((tl + 1) % 6) (dqF hd tl f (A0 0)) ++ sw g A0 nb nl nc r b []))))))) ((hpJ2.append_right _).trans List.perm_append_comm) ?_
    subst hJ2
    refine v_st (st' := [_, _]) rfl ?_
    refine v_put (ws' := ((_, .inl (_, _, .inr (.inr (.inr (.inr _))))) :: (_, .inr (0, [_, _, _, _, _, _, _, _, _])) :: sw g J2 mb' ml' mc' r' b' (sw g Jm mb' ml' mc' r' b' (X2 ++ ([(a 1, .inl (g.2 0, 8, .inl od)), (a 2, .inl (g.2 0, 8, .inl tk))] ++ (sw g A nb nl nc r b [] ++ (dqW g (a 3) d1 (dqH hd tl) ((tl + 1) % 6) (dqF hd tl f (A0 0)) ++ sw g A0 nb nl nc r b []))))))) C in_X0 tyX0 tyX0_ok nmX0 rfl 1 rfl 0 (by decide) q483 (fun _ h => h) rfl rfl rfl (Nat.le_of_ble_eq_true rfl) dX0_back_40 rfl ?_
    refine v_aload_n C dX0_back_43 0 rfl ?_
    refine v_get C in_X0 rfl 1 rfl 0 (by decide) q483 (fun _ h => h) rfl dX0_back_44 ?_
    refine v_getN C in_X1 rfl 2 rfl 4 (by decide) q163 (fun _ h => h) rfl dX0_back_47 ?_
    refine v_drop (ws' := cw g a J2 mb' ml' mc' r' b' od us tk bn (dqW g (a 3) d1 (dqH hd tl) ((tl + 1) % 6) (dqF hd tl f (A0 0)) ++ (sw g A0 nb nl nc r b [] ++ ((a 4, .inl (g.2 5, 2, .inr (.inr (.inr (.inr im))))) :: sw g Jm mb' ml' mc' r' b' X2)))) (wd := sw g A nb nl nc r b []) bk_out ?_
    exact v_iret C dX0_back_50 (Nat.le_of_ble_eq_true rfl) (Nat.le_of_ble_eq_true rfl) ⟨rfl, J2, od, us, tk, bn, List.Perm.refl _⟩
  · exact absurd (by rw [← ex]; exact hx01) c4_1
