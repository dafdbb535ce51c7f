/-! the elevator's core: itself, order, takes, its state -/
set_option maxRecDepth 100000
def cw (g : GT) (a A : Nat → Nat) (nb nl nc : Nat) (r : Nat → Int32) (b : Nat → Int64) (od : Nat → Int32) (us : Int32) (tk : Nat → Int32) (bn : Int32) (suf : va_W) : va_W :=
  (a 0, .inr (0, [.ref (A 0), .ref (a 3), .ref (a 4), .ref (a 1), .int us, .ref (a 2), .int bn, .ref (a 5), .ref (a 6)])) :: (a 1, .inl (g.2 0, 8, .inl od)) :: (a 2, .inl (g.2 0, 8, .inl tk)) :: sw g A nb nl nc r b suf
theorem gv_upd {r : Nat → Int32} {i k : Nat} {x : Int32} (hk : k < 4) : ∀ j, j < 4 → upd (gv r i) k x j = upd r (82 + 4 * i + k) x (82 + 4 * i + j) := by
  intro j _
  unfold upd
  by_cases q : j = k
  · rw [if_pos q, if_pos (by omega)]
  · rw [if_neg q, if_neg (by omega)]
theorem tv_upd {r : Nat → Int32} {i k : Nat} {x : Int32} (hk : k < 6) : ∀ j, j < 6 → upd (tv r i) k x j = upd r (94 + 6 * i + k) x (94 + 6 * i + j) := by
  intro j _
  unfold upd
  by_cases q : j = k
  · rw [if_pos q, if_pos (by omega)]
  · rw [if_neg q, if_neg (by omega)]
abbrev q_n (n : Nat) (x : Int32) : Prop := 0 ≤ x ∧ x ≤ nI n - 1
section CW
variable {g : GT} {a A : Nat → Nat} {nb nl nc : Nat} {r r' : Nat → Int32} {b : Nat → Int64} {od : Nat → Int32} {us : Int32} {tk : Nat → Int32} {bn : Int32} {suf : va_W} {i : Nat} {v : Nat → Int32}
theorem cw_bin (h : i < nb) : (cw g a A nb nl nc r b od us tk bn suf)[i + 11]? = some (bnC (A (10 + i)) (bv r i)) := sw_bin (g := g) (b := b) h
theorem cw_leg (h : i < nl) : (cw g a A nb nl nc r b od us tk bn suf)[nb + i + 11]? = some (lgC (A (20 + i)) (gv r i)) := sw_leg (g := g) (b := b) h
theorem cw_con (h : i < nc) : (cw g a A nb nl nc r b od us tk bn suf)[nb + nl + i + 11]? = some (cnC (A (30 + i)) (tv r i)) := sw_con (g := g) (b := b) h
theorem cw_setB (hi : i < nb) (hnb : nb ≤ 8) (hv : ∀ j, j < 9 → v j = r' (10 + 9 * i + j)) (hr : ∀ j, j < 10 + 9 * i ∨ 10 + 9 * i + 9 ≤ j → r' j = r j) : (cw g a A nb nl nc r b od us tk bn suf).set (i + 11) (bnC (A (10 + i)) v) = cw g a A nb nl nc r' b od us tk bn suf :=
  congrArg (fun L => (a 0, (.inr (0, [.ref (A 0), .ref (a 3), .ref (a 4), .ref (a 1), .int us, .ref (a 2), .int bn, .ref (a 5), .ref (a 6)]) : va_E)) :: (a 1, .inl (g.2 0, 8, .inl od)) :: (a 2, .inl (g.2 0, 8, .inl tk)) :: L) (sw_setB hi hnb hv hr)
theorem cw_setG (hi : i < nl) (hnb : nb ≤ 8) (hnl : nl ≤ 3) (hv : ∀ j, j < 4 → v j = r' (82 + 4 * i + j)) (hr : ∀ j, j < 82 + 4 * i ∨ 82 + 4 * i + 4 ≤ j → r' j = r j) : (cw g a A nb nl nc r b od us tk bn suf).set (nb + i + 11) (lgC (A (20 + i)) v) = cw g a A nb nl nc r' b od us tk bn suf :=
  congrArg (fun L => (a 0, (.inr (0, [.ref (A 0), .ref (a 3), .ref (a 4), .ref (a 1), .int us, .ref (a 2), .int bn, .ref (a 5), .ref (a 6)]) : va_E)) :: (a 1, .inl (g.2 0, 8, .inl od)) :: (a 2, .inl (g.2 0, 8, .inl tk)) :: L) (sw_setG hi hnb hnl hv hr)
theorem cw_setC (hi : i < nc) (hnb : nb ≤ 8) (hnl : nl ≤ 3) (hv : ∀ j, j < 6 → j ≠ 4 → v j = r' (94 + 6 * i + j)) (hr : ∀ j, j < 94 + 6 * i ∨ 94 + 6 * i + 6 ≤ j → r' j = r j) : (cw g a A nb nl nc r b od us tk bn suf).set (nb + nl + i + 11) (cnC (A (30 + i)) v) = cw g a A nb nl nc r' b od us tk bn suf :=
  congrArg (fun L => (a 0, (.inr (0, [.ref (A 0), .ref (a 3), .ref (a 4), .ref (a 1), .int us, .ref (a 2), .int bn, .ref (a 5), .ref (a 6)]) : va_E)) :: (a 1, .inl (g.2 0, 8, .inl od)) :: (a 2, .inl (g.2 0, 8, .inl tk)) :: L) (sw_setC hi hnb hnl hv hr)
theorem cw_setB1 {k : Nat} (hi : i < nb) (hnb : nb ≤ 8) (hk : k < 9) (x : Int32) : (cw g a A nb nl nc r b od us tk bn suf).set (i + 11) (bnC (A (10 + i)) (upd (bv r i) k x)) = cw g a A nb nl nc (upd r (10 + 9 * i + k) x) b od us tk bn suf := cw_setB hi hnb (bv_upd hk) (fun j hj => pk_un (by omega))
theorem cw_setG1 {k : Nat} (hi : i < nl) (hnb : nb ≤ 8) (hnl : nl ≤ 3) (hk : k < 4) (x : Int32) : (cw g a A nb nl nc r b od us tk bn suf).set (nb + i + 11) (lgC (A (20 + i)) (upd (gv r i) k x)) = cw g a A nb nl nc (upd r (82 + 4 * i + k) x) b od us tk bn suf := cw_setG hi hnb hnl (gv_upd hk) (fun j hj => pk_un (by omega))
theorem cw_clock (x : Int32) : (cw g a A nb nl nc r b od us tk bn suf).set 3 (A 0, .inr (1, (stF A r b).set 4 (.int x))) = cw g a A nb nl nc (upd r 0 x) b od us tk bn suf := congrArg (fun L => (a 0, (.inr (0, [.ref (A 0), .ref (a 3), .ref (a 4), .ref (a 1), .int us, .ref (a 2), .int bn, .ref (a 5), .ref (a 6)]) : va_E)) :: (a 1, .inl (g.2 0, 8, .inl od)) :: (a 2, .inl (g.2 0, 8, .inl tk)) :: L) (sw_clock x)
theorem cw_limit (x : Int32) : (cw g a A nb nl nc r b od us tk bn suf).set 3 (A 0, .inr (1, (stF A r b).set 5 (.int x))) = cw g a A nb nl nc (upd r 1 x) b od us tk bn suf := congrArg (fun L => (a 0, (.inr (0, [.ref (A 0), .ref (a 3), .ref (a 4), .ref (a 1), .int us, .ref (a 2), .int bn, .ref (a 5), .ref (a 6)]) : va_E)) :: (a 1, .inl (g.2 0, 8, .inl od)) :: (a 2, .inl (g.2 0, 8, .inl tk)) :: L) (sw_limit x)
theorem cw_reason (x : Int32) : (cw g a A nb nl nc r b od us tk bn suf).set 3 (A 0, .inr (1, (stF A r b).set 6 (.int x))) = cw g a A nb nl nc (upd r 5 x) b od us tk bn suf := congrArg (fun L => (a 0, (.inr (0, [.ref (A 0), .ref (a 3), .ref (a 4), .ref (a 1), .int us, .ref (a 2), .int bn, .ref (a 5), .ref (a 6)]) : va_E)) :: (a 1, .inl (g.2 0, 8, .inl od)) :: (a 2, .inl (g.2 0, 8, .inl tk)) :: L) (sw_reason x)
theorem cw_b0 {z : Int32} (x : Int64) (h : z = x.toInt32) : (cw g a A nb nl nc r b od us tk bn suf).set 3 (A 0, .inr (1, (stF A r b).set 7 (.int z))) = cw g a A nb nl nc r (vp_updL b 0 x) od us tk bn suf := congrArg (fun L => (a 0, (.inr (0, [.ref (A 0), .ref (a 3), .ref (a 4), .ref (a 1), .int us, .ref (a 2), .int bn, .ref (a 5), .ref (a 6)]) : va_E)) :: (a 1, .inl (g.2 0, 8, .inl od)) :: (a 2, .inl (g.2 0, 8, .inl tk)) :: L) (sw_b0 x h)
theorem cw_b1 {z : Int32} (x : Int64) (h : z = x.toInt32) : (cw g a A nb nl nc r b od us tk bn suf).set 3 (A 0, .inr (1, (stF A r b).set 8 (.int z))) = cw g a A nb nl nc r (vp_updL b 1 x) od us tk bn suf := congrArg (fun L => (a 0, (.inr (0, [.ref (A 0), .ref (a 3), .ref (a 4), .ref (a 1), .int us, .ref (a 2), .int bn, .ref (a 5), .ref (a 6)]) : va_E)) :: (a 1, .inl (g.2 0, 8, .inl od)) :: (a 2, .inl (g.2 0, 8, .inl tk)) :: L) (sw_b1 x h)
theorem cw_b2 {z : Int32} (x : Int64) (h : z = x.toInt32) : (cw g a A nb nl nc r b od us tk bn suf).set 3 (A 0, .inr (1, (stF A r b).set 9 (.int z))) = cw g a A nb nl nc r (vp_updL b 2 x) od us tk bn suf := congrArg (fun L => (a 0, (.inr (0, [.ref (A 0), .ref (a 3), .ref (a 4), .ref (a 1), .int us, .ref (a 2), .int bn, .ref (a 5), .ref (a 6)]) : va_E)) :: (a 1, .inl (g.2 0, 8, .inl od)) :: (a 2, .inl (g.2 0, 8, .inl tk)) :: L) (sw_b2 x h)
theorem cw_b3 (x : Int64) : (cw g a A nb nl nc r b od us tk bn suf).set 3 (A 0, .inr (1, (stF A r b).set 10 (.long x))) = cw g a A nb nl nc r (vp_updL b 3 x) od us tk bn suf := rfl
theorem cw_b4 (x : Int64) : (cw g a A nb nl nc r b od us tk bn suf).set 3 (A 0, .inr (1, (stF A r b).set 11 (.long x))) = cw g a A nb nl nc r (vp_updL b 4 x) od us tk bn suf := rfl
theorem cw_b5 (x : Int64) : (cw g a A nb nl nc r b od us tk bn suf).set 3 (A 0, .inr (1, (stF A r b).set 12 (.long x))) = cw g a A nb nl nc r (vp_updL b 5 x) od us tk bn suf := rfl
theorem cw_price {k : Nat} (hk : k < 4) (x : Int32) : (cw g a A nb nl nc r b od us tk bn suf).set 10 (A 7, .inl (g.2 0, 4, .inl (upd (prF r) k x))) = cw g a A nb nl nc (upd r (6 + k) x) b od us tk bn suf := congrArg (fun L => (a 0, (.inr (0, [.ref (A 0), .ref (a 3), .ref (a 4), .ref (a 1), .int us, .ref (a 2), .int bn, .ref (a 5), .ref (a 6)]) : va_E)) :: (a 1, .inl (g.2 0, 8, .inl od)) :: (a 2, .inl (g.2 0, 8, .inl tk)) :: L) (sw_price hk x)
end CW
def x_open (r : Nat → Int32) : Nat → Int32
  | 0 => 0
  | k + 1 => x_open r k + bI (r (94 + 6 * k + 5) = -1)
def x_count (r : Nat → Int32) (nb nl nc : Nat) (what : Int32) : Int32 :=
  if what = 0 then nI nb else if what = 1 then nI nl else if what = 2 then nI nc else if what = 3 then x_open r nc else if what = 4 then r 0 else if what = 5 then r 1
  else if what = 6 then (s_unit r nb).toInt32 else if what = 7 then sumF r 4 nb else if what = 8 then r 5 else if what = 9 then sumS r nb else -3
def x_legP (r : Nat → Int32) (le : Nat) (what : Int32) : Int32 :=
  if what = 0 then r (82 + 4 * le + 0) else if what = 1 then r (82 + 4 * le + 1) else if what = 2 then r (82 + 4 * le + 2) else if what = 3 then (if q_stands r le then 1 else 0) else if what = 4 then r (82 + 4 * le + 3) else -3
def x_bookW (b : Nat → Int64) (what : Int32) : Int64 :=
  if what = 0 then (b 0).toInt32.toInt64 else if what = 1 then (b 1).toInt32.toInt64 else if what = 2 then (b 2).toInt32.toInt64 else if what = 3 then b 3 else if what = 4 then b 4 else if what = 5 then b 5 else if what = 6 then b 4 - b 3 - b 5 else -3
def x_au (z : Int32) (r : Nat → Int32) : Nat → Int32
  | 0 => z
  | k + 1 => x_au z r k &&& bI (r (10 + 9 * k + 7) - r (10 + 9 * k + 8) = r (10 + 9 * k + 3))
def x_auW (r : Nat → Int32) (b : Nat → Int64) (nb : Nat) : Int32 := if x_au (bI (lg_cmp ((b 0).toInt32 - (b 1).toInt32 - (b 2).toInt32).toInt64 (s_unit r nb) = 0)) r nb = 0 then 0 else 1
def M_X0_refuse : Md := (yX0_refuse, cX0_refuse, 2, (some .int), 1, 40, 0, 0)
theorem ok_X0_refuse : MOKv M_X0_refuse 1 := ⟨q316, qs2, q89, q317, ⟨by decide +kernel, by decide +kernel, by decide +kernel⟩⟩
set_option maxHeartbeats 4000000 in
theorem x_refuse (l : Launch) (g : GT) (a A : Nat → Nat) (nb nl nc : Nat) (r : Nat → Int32) (b : Nat → Int64) (od : Nat → Int32) (us : Int32) (tk : Nat → Int32) (bn : Int32) (suf : va_W) (hnb : nb ≤ 8) (hnl : nl ≤ 3) (hnc : nc ≤ 6) (x : Int32) : CtE l g M_X0_refuse [.ref (a 0), .int x] (cw g a A nb nl nc r b od us tk bn suf) (some (.int (-4))) (cw g a A nb nl nc (upd r 5 x) b od us tk bn suf) := by
  refine Ct.start2 (M := M_X0_refuse) rfl [(0, .ref (a 0)), (1, .int x)] rfl (by decide +kernel) (Nat.le_of_ble_eq_true rfl) ?_
  intro p e s m args below meth c A9 C
  refine v_aload_n C dX0_refuse_0 0 rfl ?_
  refine v_get C in_X0 rfl 0 rfl 0 (by decide) q483 (fun _ h => h) rfl dX0_refuse_1 ?_
  refine v_iload_n C dX0_refuse_4 1 rfl ?_
  refine v_putN (ws' := (cw g a A nb nl nc (upd r 5 x) b od us tk bn suf)) C in_X1 tyX1 tyX1_ok nmX1 rfl 3 rfl 6 (by decide) q167 (fun _ h => h) rfl rfl rfl (Nat.le_of_ble_eq_true rfl) dX0_refuse_5 (cw_reason _) ?_
  refine v_bipush (v := -4) C dX0_refuse_8 (by decide) ?_
  exact v_iret C dX0_refuse_10 (Nat.le_of_ble_eq_true rfl) (Nat.le_of_ble_eq_true rfl) ⟨rfl, rfl⟩
def M_X0_hasTime : Md := (yX0_hasTime, cX0_hasTime, 3, (some .boolean), 1, 40, 0, 0)
theorem ok_X0_hasTime : MOKv M_X0_hasTime 1 := ⟨q327, qs3, q89, q328, ⟨by decide +kernel, by decide +kernel, by decide +kernel⟩⟩
set_option maxHeartbeats 4000000 in
theorem x_hasTime (l : Launch) (g : GT) (a A : Nat → Nat) (nb nl nc : Nat) (r : Nat → Int32) (b : Nat → Int64) (od : Nat → Int32) (us : Int32) (tk : Nat → Int32) (bn : Int32) (suf : va_W) (hnb : nb ≤ 8) (hnl : nl ≤ 3) (hnc : nc ≤ 6) (mi : Int64) : CtE l g M_X0_hasTime [.ref (a 0), .long mi] (cw g a A nb nl nc r b od us tk bn suf) (some (.int (bI (¬ 0 < lg_cmp ((r 0).toInt64 + mi) 1000000)))) (cw g a A nb nl nc r b od us tk bn suf) := by
  refine Ct.start2 (M := M_X0_hasTime) rfl [(0, .ref (a 0)), (1, .long mi)] rfl (by decide +kernel) (Nat.le_of_ble_eq_true rfl) ?_
  intro p e s m args below meth c A9 C
  refine v_aload_n C dX0_hasTime_0 0 rfl ?_
  refine v_get C in_X0 rfl 0 rfl 0 (by decide) q483 (fun _ h => h) rfl dX0_hasTime_1 ?_
  refine v_getN C in_X1 rfl 3 rfl 4 (by decide) q163 (fun _ h => h) rfl dX0_hasTime_4 ?_
  refine v_i2l C dX0_hasTime_7 ?_
  refine v_lload_n C dX0_hasTime_8 1 rfl ?_
  refine v_ladd C dX0_hasTime_9 ?_
  refine v_ldc2 C dX0_hasTime_10 q329 ?_
  refine v_lcmp C dX0_hasTime_13 ?_
  refine v_ternI C 21 22 dX0_hasTime_17 dX0_hasTime_18 dX0_hasTime_21 (by decide) rfl (fun ht hf => v_if_gt C 21 dX0_hasTime_14 (by decide) (fun q => ht (fun n => n q)) (fun q => hf q)) ?_
  exact v_zret C (bI_nar _) dX0_hasTime_22 (Nat.le_of_ble_eq_true rfl) (Nat.le_of_ble_eq_true rfl) ⟨rfl, rfl⟩
def M_X0_isBin : Md := (yX0_isBin, cX0_isBin, 2, (some .boolean), 2, 62, 0, 0)
theorem ok_X0_isBin : MOKv M_X0_isBin 1 := ⟨q465, qs19, q89, q466, ⟨by decide +kernel, by decide +kernel, by decide +kernel⟩⟩
set_option maxHeartbeats 4000000 in
theorem x_isBin (l : Launch) (g : GT) (a A : Nat → Nat) (nb nl nc : Nat) (r : Nat → Int32) (b : Nat → Int64) (od : Nat → Int32) (us : Int32) (tk : Nat → Int32) (bn : Int32) (suf : va_W) (hnb : nb ≤ 8) (hnl : nl ≤ 3) (hnc : nc ≤ 6) (x : Int32) : CtE l g M_X0_isBin [.ref (a 0), .int x] (cw g a A nb nl nc r b od us tk bn suf) (some (.int (bI (q_n nb x)))) (cw g a A nb nl nc r b od us tk bn suf) := by
  refine Ct.start2 (M := M_X0_isBin) rfl [(0, .ref (a 0)), (1, .int x)] rfl (by decide +kernel) (Nat.le_of_ble_eq_true rfl) ?_
  intro p e s m args below meth c A9 C
  refine v_iload_n C dX0_isBin_0 1 rfl ?_
  refine v_iconst (v := 0) C dX0_isBin_1 (by decide) ?_
  refine v_aload_n C dX0_isBin_2 0 rfl ?_
  refine v_get C in_X0 rfl 0 rfl 0 (by decide) q483 (fun _ h => h) rfl dX0_isBin_3 ?_
  refine v_getN C in_X1 rfl 3 rfl 0 (by decide) q155 (fun _ h => h) rfl dX0_isBin_6 ?_
  refine v_zMV (ws' := (cw g a A nb nl nc r b od us tk bn suf)) C (j_size l g (A 1) (A 2) 8 (nI nb) nb (rfs A 10 nb)) [_, _, _, _] rfl ok_J2_size rfl q269 rfl (Nat.le_of_ble_eq_true rfl) 0 rfl rfl rfl dX0_isBin_9 (roomL rfl rfl) ⟨rfl, rfl⟩ rfl ?_
  refine v_iconst (v := 1) C dX0_isBin_12 (by decide) ?_
  refine v_isub C dX0_isBin_13 ?_
  refine v_callSp C (x_isIn l g _ _ _) ok_X0_isIn rfl q276 rfl (Nat.le_of_ble_eq_true rfl) dX0_isBin_14 (roomL rfl rfl) ⟨rfl, rfl⟩ ?_
  exact v_zret C (bI_nar _) dX0_isBin_17 (Nat.le_of_ble_eq_true rfl) (Nat.le_of_ble_eq_true rfl) ⟨rfl, rfl⟩
def M_X0_isLeg : Md := (yX0_isLeg, cX0_isLeg, 2, (some .boolean), 2, 62, 0, 0)
theorem ok_X0_isLeg : MOKv M_X0_isLeg 1 := ⟨q446, qs14, q89, q447, ⟨by decide +kernel, by decide +kernel, by decide +kernel⟩⟩
set_option maxHeartbeats 4000000 in
theorem x_isLeg (l : Launch) (g : GT) (a A : Nat → Nat) (nb nl nc : Nat) (r : Nat → Int32) (b : Nat → Int64) (od : Nat → Int32) (us : Int32) (tk : Nat → Int32) (bn : Int32) (suf : va_W) (hnb : nb ≤ 8) (hnl : nl ≤ 3) (hnc : nc ≤ 6) (x : Int32) : CtE l g M_X0_isLeg [.ref (a 0), .int x] (cw g a A nb nl nc r b od us tk bn suf) (some (.int (bI (q_n nl x)))) (cw g a A nb nl nc r b od us tk bn suf) := by
  refine Ct.start2 (M := M_X0_isLeg) rfl [(0, .ref (a 0)), (1, .int x)] rfl (by decide +kernel) (Nat.le_of_ble_eq_true rfl) ?_
  intro p e s m args below meth c A9 C
  refine v_iload_n C dX0_isLeg_0 1 rfl ?_
  refine v_iconst (v := 0) C dX0_isLeg_1 (by decide) ?_
  refine v_aload_n C dX0_isLeg_2 0 rfl ?_
  refine v_get C in_X0 rfl 0 rfl 0 (by decide) q483 (fun _ h => h) rfl dX0_isLeg_3 ?_
  refine v_getN C in_X1 rfl 3 rfl 1 (by decide) q157 (fun _ h => h) rfl dX0_isLeg_6 ?_
  refine v_zMV (ws' := (cw g a A nb nl nc r b od us tk bn suf)) C (j_size l g (A 3) (A 4) 3 (nI nl) nl (rfs A 20 nl)) [_, _, _, _, _, _] rfl ok_J2_size rfl q269 rfl (Nat.le_of_ble_eq_true rfl) 0 rfl rfl rfl dX0_isLeg_9 (roomL rfl rfl) ⟨rfl, rfl⟩ rfl ?_
  refine v_iconst (v := 1) C dX0_isLeg_12 (by decide) ?_
  refine v_isub C dX0_isLeg_13 ?_
  refine v_callSp C (x_isIn l g _ _ _) ok_X0_isIn rfl q276 rfl (Nat.le_of_ble_eq_true rfl) dX0_isLeg_14 (roomL rfl rfl) ⟨rfl, rfl⟩ ?_
  exact v_zret C (bI_nar _) dX0_isLeg_17 (Nat.le_of_ble_eq_true rfl) (Nat.le_of_ble_eq_true rfl) ⟨rfl, rfl⟩
def M_X0_isContract : Md := (yX0_isContract, cX0_isContract, 2, (some .boolean), 2, 62, 0, 0)
theorem ok_X0_isContract : MOKv M_X0_isContract 1 := ⟨q848, qs31, q89, q849, ⟨by decide +kernel, by decide +kernel, by decide +kernel⟩⟩
set_option maxHeartbeats 4000000 in
theorem x_isCon (l : Launch) (g : GT) (a A : Nat → Nat) (nb nl nc : Nat) (r : Nat → Int32) (b : Nat → Int64) (od : Nat → Int32) (us : Int32) (tk : Nat → Int32) (bn : Int32) (suf : va_W) (hnb : nb ≤ 8) (hnl : nl ≤ 3) (hnc : nc ≤ 6) (x : Int32) : CtE l g M_X0_isContract [.ref (a 0), .int x] (cw g a A nb nl nc r b od us tk bn suf) (some (.int (bI (q_n nc x)))) (cw g a A nb nl nc r b od us tk bn suf) := by
  refine Ct.start2 (M := M_X0_isContract) rfl [(0, .ref (a 0)), (1, .int x)] rfl (by decide +kernel) (Nat.le_of_ble_eq_true rfl) ?_
  intro p e s m args below meth c A9 C
  refine v_iload_n C dX0_isContract_0 1 rfl ?_
  refine v_iconst (v := 0) C dX0_isContract_1 (by decide) ?_
  refine v_aload_n C dX0_isContract_2 0 rfl ?_
  refine v_get C in_X0 rfl 0 rfl 0 (by decide) q483 (fun _ h => h) rfl dX0_isContract_3 ?_
  refine v_getN C in_X1 rfl 3 rfl 2 (by decide) q159 (fun _ h => h) rfl dX0_isContract_6 ?_
  refine v_zMV (ws' := (cw g a A nb nl nc r b od us tk bn suf)) C (j_size l g (A 5) (A 6) 6 (nI nc) nc (rfs A 30 nc)) [_, _, _, _, _, _, _, _] rfl ok_J2_size rfl q269 rfl (Nat.le_of_ble_eq_true rfl) 0 rfl rfl rfl dX0_isContract_9 (roomL rfl rfl) ⟨rfl, rfl⟩ rfl ?_
  refine v_iconst (v := 1) C dX0_isContract_12 (by decide) ?_
  refine v_isub C dX0_isContract_13 ?_
  refine v_callSp C (x_isIn l g _ _ _) ok_X0_isIn rfl q276 rfl (Nat.le_of_ble_eq_true rfl) dX0_isContract_14 (roomL rfl rfl) ⟨rfl, rfl⟩ ?_
  exact v_zret C (bI_nar _) dX0_isContract_17 (Nat.le_of_ble_eq_true rfl) (Nat.le_of_ble_eq_true rfl) ⟨rfl, rfl⟩
def M_X0_openContracts : Md := (yX0_openContracts, cX0_openContracts, 3, (some .int), 4, 104, 0, 0)
theorem ok_X0_openContracts : MOKv M_X0_openContracts 0 := ⟨q759, qs28, q89, q760, ⟨by decide +kernel, by decide +kernel, by decide +kernel⟩⟩
set_option maxHeartbeats 4000000 in
theorem x_openC (l : Launch) (g : GT) (a A : Nat → Nat) (nb nl nc : Nat) (r : Nat → Int32) (b : Nat → Int64) (od : Nat → Int32) (us : Int32) (tk : Nat → Int32) (bn : Int32) (suf : va_W) (hnb : nb ≤ 8) (hnl : nl ≤ 3) (hnc : nc ≤ 6)  : CtE l g M_X0_openContracts [.ref (a 0)] (cw g a A nb nl nc r b od us tk bn suf) (some (.int (x_open r nc))) (cw g a A nb nl nc r b od us tk bn suf) := by
  refine Ct.start2 (M := M_X0_openContracts) rfl [(0, .ref (a 0))] rfl (by decide +kernel) (Nat.le_of_ble_eq_true rfl) ?_
  intro p e s m args below meth c A9 C
  refine v_iconst (v := 0) C dX0_openContracts_0 (by decide) ?_
  refine v_istore_n (lv' := [(1, _), (0, _)]) C dX0_openContracts_1 rfl (by decide) rfl ?_
  refine v_iconst (v := 0) C dX0_openContracts_2 (by decide) ?_
  refine v_istore_n (lv' := [(2, _), (1, _), (0, _)]) C dX0_openContracts_3 rfl (by decide) rfl ?_
  refine v_loop 0 nc (fun k => [(2, .int (nI k)), (1, .int (x_open r k)), (0, .ref (a 0))]) (fun k => (cw g a A nb nl nc r b od us tk bn suf)) rfl rfl (by omega) ?_ ?_
  · skip
    refine v_iload_n C dX0_openContracts_4 0 rfl ?_
    refine v_aload_n C dX0_openContracts_5 2 rfl ?_
    refine v_get C in_X0 rfl 0 rfl 0 (by decide) q483 (fun _ h => h) rfl dX0_openContracts_6 ?_
    refine v_getN C in_X1 rfl 3 rfl 2 (by decide) q159 (fun _ h => h) rfl dX0_openContracts_9 ?_
    refine v_zMV (ws' := (cw g a A nb nl nc r b od us tk bn suf)) C (j_size l g (A 5) (A 6) 6 (nI nc) nc (rfs A 30 nc)) [_, _, _, _, _, _, _, _] rfl ok_J2_size rfl q269 rfl (Nat.le_of_ble_eq_true rfl) 0 rfl rfl rfl dX0_openContracts_12 (roomL rfl rfl) ⟨rfl, rfl⟩ rfl ?_
    refine v_icmp_ge C 52 dX0_openContracts_15 (by decide) (fun c15_1 => ?_) (fun c15_1 => ?_)
    · skip
      refine v_iload_n C dX0_openContracts_52 1 rfl ?_
      exact v_iret C dX0_openContracts_53 (Nat.le_of_ble_eq_true rfl) (Nat.le_of_ble_eq_true rfl) ⟨rfl, rfl⟩
    · exact absurd (Int32.le_refl _) c15_1
  · intro k hk hk0 hback
    refine v_iload_n C dX0_openContracts_4 0 rfl ?_
    refine v_aload_n C dX0_openContracts_5 2 rfl ?_
    refine v_get C in_X0 rfl 0 rfl 0 (by decide) q483 (fun _ h => h) rfl dX0_openContracts_6 ?_
    refine v_getN C in_X1 rfl 3 rfl 2 (by decide) q159 (fun _ h => h) rfl dX0_openContracts_9 ?_
    refine v_zMV (ws' := (cw g a A nb nl nc r b od us tk bn suf)) C (j_size l g (A 5) (A 6) 6 (nI nc) nc (rfs A 30 nc)) [_, _, _, _, _, _, _, _] rfl ok_J2_size rfl q269 rfl (Nat.le_of_ble_eq_true rfl) 0 rfl rfl rfl dX0_openContracts_12 (roomL rfl rfl) ⟨rfl, rfl⟩ rfl ?_
    refine v_icmp_ge C 52 dX0_openContracts_15 (by decide) (fun c15_2 => ?_) (fun c15_2 => ?_)
    · exact absurd c15_2 (nI_ge hk (by first | decide | omega))
    · skip
      refine v_iload_n C dX0_openContracts_18 1 rfl ?_
      refine v_aload_n C dX0_openContracts_19 2 rfl ?_
      refine v_get C in_X0 rfl 0 rfl 0 (by decide) q483 (fun _ h => h) rfl dX0_openContracts_20 ?_
      refine v_getN C in_X1 rfl 3 rfl 2 (by decide) q159 (fun _ h => h) rfl dX0_openContracts_23 ?_
      refine v_iload_n C dX0_openContracts_26 0 rfl ?_
      refine v_zMV (ws' := (cw g a A nb nl nc r b od us tk bn suf)) C (j_get l g (A 5) (A 6) 6 (nI nc) nc (rfs A 30 nc) k (A (30 + k)) hk hnc (by decide) (rfs_at A 30 hk)) [_, _, _, _, _, _, _, _] rfl ok_J2_get rfl q359 rfl (Nat.le_of_ble_eq_true rfl) 0 rfl rfl rfl dX0_openContracts_27 (roomL rfl rfl) ⟨rfl, rfl⟩ rfl ?_
      refine v_castS (r := (RX6, TX6, 5)) C q761 (nb + nl + k + 11) (cw_con hk) rfl dX0_openContracts_30 ?_
      refine v_zFV (ws' := (cw g a A nb nl nc r b od us tk bn suf)) C (x_isOpen l g _ (tv r k)) ok_X6_isOpen rfl q762 rfl (Nat.le_of_ble_eq_true rfl) (nb + nl + k + 11) (cw_con hk) rfl rfl dX0_openContracts_33 (roomL rfl rfl) ⟨rfl, rfl⟩ (set_same (cw_con hk)) ?_
      refine v_ternB C 43 44 dX0_openContracts_36 dX0_openContracts_39 dX0_openContracts_40 dX0_openContracts_43 (by decide) (by decide) rfl ?_
      refine v_iadd C dX0_openContracts_44 ?_
      refine v_istore_n (lv' := [(1, _), (2, _), (0, _)]) C dX0_openContracts_45 rfl (by decide) rfl ?_
      refine v_iinc (lv' := [(2, _), (1, _), (0, _)]) C dX0_openContracts_46 1 rfl (nI_1 k) (by decide) rfl ?_
      refine v_goto C 4 dX0_openContracts_49 (by decide) ?_
      exact hback
def M_X0_spoiltBins : Md := (yX0_spoiltBins, cX0_spoiltBins, 3, (some .int), 4, 104, 0, 0)
theorem ok_X0_spoiltBins : MOKv M_X0_spoiltBins 0 := ⟨q776, qs29, q89, q777, ⟨by decide +kernel, by decide +kernel, by decide +kernel⟩⟩
set_option maxHeartbeats 4000000 in
theorem x_spoiltB (l : Launch) (g : GT) (a A : Nat → Nat) (nb nl nc : Nat) (r : Nat → Int32) (b : Nat → Int64) (od : Nat → Int32) (us : Int32) (tk : Nat → Int32) (bn : Int32) (suf : va_W) (hnb : nb ≤ 8) (hnl : nl ≤ 3) (hnc : nc ≤ 6)  : CtE l g M_X0_spoiltBins [.ref (a 0)] (cw g a A nb nl nc r b od us tk bn suf) (some (.int (sumS r nb))) (cw g a A nb nl nc r b od us tk bn suf) := by
  refine Ct.start2 (M := M_X0_spoiltBins) rfl [(0, .ref (a 0))] rfl (by decide +kernel) (Nat.le_of_ble_eq_true rfl) ?_
  intro p e s m args below meth c A9 C
  refine v_iconst (v := 0) C dX0_spoiltBins_0 (by decide) ?_
  refine v_istore_n (lv' := [(1, _), (0, _)]) C dX0_spoiltBins_1 rfl (by decide) rfl ?_
  refine v_iconst (v := 0) C dX0_spoiltBins_2 (by decide) ?_
  refine v_istore_n (lv' := [(2, _), (1, _), (0, _)]) C dX0_spoiltBins_3 rfl (by decide) rfl ?_
  refine v_loop 0 nb (fun k => [(2, .int (nI k)), (1, .int (sumS r k)), (0, .ref (a 0))]) (fun k => (cw g a A nb nl nc r b od us tk bn suf)) rfl rfl (by omega) ?_ ?_
  · skip
    refine v_iload_n C dX0_spoiltBins_4 0 rfl ?_
    refine v_aload_n C dX0_spoiltBins_5 2 rfl ?_
    refine v_get C in_X0 rfl 0 rfl 0 (by decide) q483 (fun _ h => h) rfl dX0_spoiltBins_6 ?_
    refine v_getN C in_X1 rfl 3 rfl 0 (by decide) q155 (fun _ h => h) rfl dX0_spoiltBins_9 ?_
    refine v_zMV (ws' := (cw g a A nb nl nc r b od us tk bn suf)) C (j_size l g (A 1) (A 2) 8 (nI nb) nb (rfs A 10 nb)) [_, _, _, _] rfl ok_J2_size rfl q269 rfl (Nat.le_of_ble_eq_true rfl) 0 rfl rfl rfl dX0_spoiltBins_12 (roomL rfl rfl) ⟨rfl, rfl⟩ rfl ?_
    refine v_icmp_ge C 52 dX0_spoiltBins_15 (by decide) (fun c15_1 => ?_) (fun c15_1 => ?_)
    · skip
      refine v_iload_n C dX0_spoiltBins_52 1 rfl ?_
      exact v_iret C dX0_spoiltBins_53 (Nat.le_of_ble_eq_true rfl) (Nat.le_of_ble_eq_true rfl) ⟨rfl, rfl⟩
    · exact absurd (Int32.le_refl _) c15_1
  · intro k hk hk0 hback
    refine v_iload_n C dX0_spoiltBins_4 0 rfl ?_
    refine v_aload_n C dX0_spoiltBins_5 2 rfl ?_
    refine v_get C in_X0 rfl 0 rfl 0 (by decide) q483 (fun _ h => h) rfl dX0_spoiltBins_6 ?_
    refine v_getN C in_X1 rfl 3 rfl 0 (by decide) q155 (fun _ h => h) rfl dX0_spoiltBins_9 ?_
    refine v_zMV (ws' := (cw g a A nb nl nc r b od us tk bn suf)) C (j_size l g (A 1) (A 2) 8 (nI nb) nb (rfs A 10 nb)) [_, _, _, _] rfl ok_J2_size rfl q269 rfl (Nat.le_of_ble_eq_true rfl) 0 rfl rfl rfl dX0_spoiltBins_12 (roomL rfl rfl) ⟨rfl, rfl⟩ rfl ?_
    refine v_icmp_ge C 52 dX0_spoiltBins_15 (by decide) (fun c15_2 => ?_) (fun c15_2 => ?_)
    · exact absurd c15_2 (nI_ge hk (by first | decide | omega))
    · skip
      refine v_iload_n C dX0_spoiltBins_18 1 rfl ?_
      refine v_aload_n C dX0_spoiltBins_19 2 rfl ?_
      refine v_get C in_X0 rfl 0 rfl 0 (by decide) q483 (fun _ h => h) rfl dX0_spoiltBins_20 ?_
      refine v_getN C in_X1 rfl 3 rfl 0 (by decide) q155 (fun _ h => h) rfl dX0_spoiltBins_23 ?_
      refine v_iload_n C dX0_spoiltBins_26 0 rfl ?_
      refine v_zMV (ws' := (cw g a A nb nl nc r b od us tk bn suf)) C (j_get l g (A 1) (A 2) 8 (nI nb) nb (rfs A 10 nb) k (A (10 + k)) hk hnb (by decide) (rfs_at A 10 hk)) [_, _, _, _] rfl ok_J2_get rfl q359 rfl (Nat.le_of_ble_eq_true rfl) 0 rfl rfl rfl dX0_spoiltBins_27 (roomL rfl rfl) ⟨rfl, rfl⟩ rfl ?_
      refine v_castS (r := (RX4, TX4, 9)) C q360 (k + 11) (cw_bin hk) rfl dX0_spoiltBins_30 ?_
      refine v_zFV (ws' := (cw g a A nb nl nc r b od us tk bn suf)) C (x_isSpoilt l g _ (bv r k)) ok_X4_isSpoilt rfl q778 rfl (Nat.le_of_ble_eq_true rfl) (k + 11) (cw_bin hk) rfl rfl dX0_spoiltBins_33 (roomL rfl rfl) ⟨rfl, rfl⟩ (set_same (cw_bin hk)) ?_
      refine v_ternB C 43 44 dX0_spoiltBins_36 dX0_spoiltBins_39 dX0_spoiltBins_40 dX0_spoiltBins_43 (by decide) (by decide) rfl ?_
      refine v_iadd C dX0_spoiltBins_44 ?_
      refine v_istore_n (lv' := [(1, _), (2, _), (0, _)]) C dX0_spoiltBins_45 rfl (by decide) rfl ?_
      refine v_iinc (lv' := [(2, _), (1, _), (0, _)]) C dX0_spoiltBins_46 1 rfl (nI_1 k) (by decide) rfl ?_
      refine v_goto C 4 dX0_spoiltBins_49 (by decide) ?_
      exact hback
def M_X0_count : Md := (yX0_count, cX0_count, 2, (some .int), 5, 127, 0, 0)
theorem ok_X0_count : MOKv M_X0_count 1 := ⟨q754, q755, q89, q756, ⟨by decide +kernel, by decide +kernel, by decide +kernel⟩⟩
set_option maxHeartbeats 4000000 in
theorem x_cnt (l : Launch) (g : GT) (a A : Nat → Nat) (nb nl nc : Nat) (r : Nat → Int32) (b : Nat → Int64) (od : Nat → Int32) (us : Int32) (tk : Nat → Int32) (bn : Int32) (suf : va_W) (hnb : nb ≤ 8) (hnl : nl ≤ 3) (hnc : nc ≤ 6) (x : Int32) : CtE l g M_X0_count [.ref (a 0), .int x] (cw g a A nb nl nc r b od us tk bn suf) (some (.int (x_count r nb nl nc x))) (cw g a A nb nl nc r b od us tk bn suf) := by
  refine Ct.start2 (M := M_X0_count) rfl [(0, .ref (a 0)), (1, .int x)] rfl (by decide +kernel) (Nat.le_of_ble_eq_true rfl) ?_
  intro p e s m args below meth c A9 C
  refine v_iload_n C dX0_count_0 1 rfl ?_
  by_cases w0 : x = 0
  · refine v_tableIn C 56 dX0_count_1 (by rw [w0]; decide) (by rw [w0]; decide) (by rw [w0]; rfl) (by decide) ?_
    refine v_aload_n C dX0_count_56 0 rfl ?_
    refine v_get C in_X0 rfl 0 rfl 0 (by decide) q483 (fun _ h => h) rfl dX0_count_57 ?_
    refine v_getN C in_X1 rfl 3 rfl 0 (by decide) q155 (fun _ h => h) rfl dX0_count_60 ?_
    refine v_zMV (ws' := (cw g a A nb nl nc r b od us tk bn suf)) C (j_size l g (A 1) (A 2) 8 (nI nb) nb (rfs A 10 nb)) [_, _, _, _] rfl ok_J2_size rfl q269 rfl (Nat.le_of_ble_eq_true rfl) 0 rfl rfl rfl dX0_count_63 (roomL rfl rfl) ⟨rfl, rfl⟩ rfl ?_
    refine v_goto C 162 dX0_count_66 (by decide) ?_
    exact v_iret C dX0_count_162 (Nat.le_of_ble_eq_true rfl) (Nat.le_of_ble_eq_true rfl) (by unfold x_count; rw [if_pos w0]; exact ⟨rfl, rfl⟩)
  by_cases w1 : x = 1
  · refine v_tableIn C 69 dX0_count_1 (by rw [w1]; decide) (by rw [w1]; decide) (by rw [w1]; rfl) (by decide) ?_
    refine v_aload_n C dX0_count_69 0 rfl ?_
    refine v_get C in_X0 rfl 0 rfl 0 (by decide) q483 (fun _ h => h) rfl dX0_count_70 ?_
    refine v_getN C in_X1 rfl 3 rfl 1 (by decide) q157 (fun _ h => h) rfl dX0_count_73 ?_
    refine v_zMV (ws' := (cw g a A nb nl nc r b od us tk bn suf)) C (j_size l g (A 3) (A 4) 3 (nI nl) nl (rfs A 20 nl)) [_, _, _, _, _, _] rfl ok_J2_size rfl q269 rfl (Nat.le_of_ble_eq_true rfl) 0 rfl rfl rfl dX0_count_76 (roomL rfl rfl) ⟨rfl, rfl⟩ rfl ?_
    refine v_goto C 162 dX0_count_79 (by decide) ?_
    exact v_iret C dX0_count_162 (Nat.le_of_ble_eq_true rfl) (Nat.le_of_ble_eq_true rfl) (by unfold x_count; rw [if_neg w0, if_pos w1]; exact ⟨rfl, rfl⟩)
  by_cases w2 : x = 2
  · refine v_tableIn C 82 dX0_count_1 (by rw [w2]; decide) (by rw [w2]; decide) (by rw [w2]; rfl) (by decide) ?_
    refine v_aload_n C dX0_count_82 0 rfl ?_
    refine v_get C in_X0 rfl 0 rfl 0 (by decide) q483 (fun _ h => h) rfl dX0_count_83 ?_
    refine v_getN C in_X1 rfl 3 rfl 2 (by decide) q159 (fun _ h => h) rfl dX0_count_86 ?_
    refine v_zMV (ws' := (cw g a A nb nl nc r b od us tk bn suf)) C (j_size l g (A 5) (A 6) 6 (nI nc) nc (rfs A 30 nc)) [_, _, _, _, _, _, _, _] rfl ok_J2_size rfl q269 rfl (Nat.le_of_ble_eq_true rfl) 0 rfl rfl rfl dX0_count_89 (roomL rfl rfl) ⟨rfl, rfl⟩ rfl ?_
    refine v_goto C 162 dX0_count_92 (by decide) ?_
    exact v_iret C dX0_count_162 (Nat.le_of_ble_eq_true rfl) (Nat.le_of_ble_eq_true rfl) (by unfold x_count; rw [if_neg w0, if_neg w1, if_pos w2]; exact ⟨rfl, rfl⟩)
  by_cases w3 : x = 3
  · refine v_tableIn C 95 dX0_count_1 (by rw [w3]; decide) (by rw [w3]; decide) (by rw [w3]; rfl) (by decide) ?_
    refine v_aload_n C dX0_count_95 0 rfl ?_
    refine v_callVw C (x_openC l g a A nb nl nc r b od us tk bn suf hnb hnl hnc) ok_X0_openContracts rfl q757 rfl (Nat.le_of_ble_eq_true rfl) 0 rfl rfl rfl dX0_count_96 (roomL rfl rfl) ⟨rfl, rfl⟩ ?_
    refine v_goto C 162 dX0_count_99 (by decide) ?_
    exact v_iret C dX0_count_162 (Nat.le_of_ble_eq_true rfl) (Nat.le_of_ble_eq_true rfl) (by unfold x_count; rw [if_neg w0, if_neg w1, if_neg w2, if_pos w3]; exact ⟨rfl, rfl⟩)
  by_cases w4 : x = 4
  · refine v_tableIn C 102 dX0_count_1 (by rw [w4]; decide) (by rw [w4]; decide) (by rw [w4]; rfl) (by decide) ?_
    refine v_aload_n C dX0_count_102 0 rfl ?_
    refine v_get C in_X0 rfl 0 rfl 0 (by decide) q483 (fun _ h => h) rfl dX0_count_103 ?_
    refine v_getN C in_X1 rfl 3 rfl 4 (by decide) q163 (fun _ h => h) rfl dX0_count_106 ?_
    refine v_goto C 162 dX0_count_109 (by decide) ?_
    exact v_iret C dX0_count_162 (Nat.le_of_ble_eq_true rfl) (Nat.le_of_ble_eq_true rfl) (by unfold x_count; rw [if_neg w0, if_neg w1, if_neg w2, if_neg w3, if_pos w4]; exact ⟨rfl, rfl⟩)
  by_cases w5 : x = 5
  · refine v_tableIn C 112 dX0_count_1 (by rw [w5]; decide) (by rw [w5]; decide) (by rw [w5]; rfl) (by decide) ?_
    refine v_aload_n C dX0_count_112 0 rfl ?_
    refine v_get C in_X0 rfl 0 rfl 0 (by decide) q483 (fun _ h => h) rfl dX0_count_113 ?_
    refine v_getN C in_X1 rfl 3 rfl 5 (by decide) q165 (fun _ h => h) rfl dX0_count_116 ?_
    refine v_goto C 162 dX0_count_119 (by decide) ?_
    exact v_iret C dX0_count_162 (Nat.le_of_ble_eq_true rfl) (Nat.le_of_ble_eq_true rfl) (by unfold x_count; rw [if_neg w0, if_neg w1, if_neg w2, if_neg w3, if_neg w4, if_pos w5]; exact ⟨rfl, rfl⟩)
  by_cases w6 : x = 6
  · refine v_tableIn C 122 dX0_count_1 (by rw [w6]; decide) (by rw [w6]; decide) (by rw [w6]; rfl) (by decide) ?_
    refine v_aload_n C dX0_count_122 0 rfl ?_
    refine v_get C in_X0 rfl 0 rfl 0 (by decide) q483 (fun _ h => h) rfl dX0_count_123 ?_
    refine v_zTV (ws' := (cw g a A nb nl nc r b od us tk bn suf)) C (x_units l g A nb nl nc r b suf hnb hnl hnc) [_, _, _] rfl ok_X1_units rfl q766 rfl (Nat.le_of_ble_eq_true rfl) 0 rfl rfl rfl dX0_count_126 (roomL rfl rfl) ⟨rfl, rfl⟩ rfl ?_
    refine v_l2i C dX0_count_129 ?_
    refine v_goto C 162 dX0_count_130 (by decide) ?_
    exact v_iret C dX0_count_162 (Nat.le_of_ble_eq_true rfl) (Nat.le_of_ble_eq_true rfl) (by unfold x_count; rw [if_neg w0, if_neg w1, if_neg w2, if_neg w3, if_neg w4, if_neg w5, if_pos w6]; exact ⟨rfl, rfl⟩)
  by_cases w7 : x = 7
  · refine v_tableIn C 133 dX0_count_1 (by rw [w7]; decide) (by rw [w7]; decide) (by rw [w7]; rfl) (by decide) ?_
    refine v_aload_n C dX0_count_133 0 rfl ?_
    refine v_get C in_X0 rfl 0 rfl 0 (by decide) q483 (fun _ h => h) rfl dX0_count_134 ?_
    refine v_zTV (ws' := (cw g a A nb nl nc r b od us tk bn suf)) C (x_points l g A nb nl nc r b suf hnb hnl hnc) [_, _, _] rfl ok_X1_points rfl q770 rfl (Nat.le_of_ble_eq_true rfl) 0 rfl rfl rfl dX0_count_137 (roomL rfl rfl) ⟨rfl, rfl⟩ rfl ?_
    refine v_goto C 162 dX0_count_140 (by decide) ?_
    exact v_iret C dX0_count_162 (Nat.le_of_ble_eq_true rfl) (Nat.le_of_ble_eq_true rfl) (by unfold x_count; rw [if_neg w0, if_neg w1, if_neg w2, if_neg w3, if_neg w4, if_neg w5, if_neg w6, if_pos w7]; exact ⟨rfl, rfl⟩)
  by_cases w8 : x = 8
  · refine v_tableIn C 143 dX0_count_1 (by rw [w8]; decide) (by rw [w8]; decide) (by rw [w8]; rfl) (by decide) ?_
    refine v_aload_n C dX0_count_143 0 rfl ?_
    refine v_get C in_X0 rfl 0 rfl 0 (by decide) q483 (fun _ h => h) rfl dX0_count_144 ?_
    refine v_getN C in_X1 rfl 3 rfl 6 (by decide) q167 (fun _ h => h) rfl dX0_count_147 ?_
    refine v_goto C 162 dX0_count_150 (by decide) ?_
    exact v_iret C dX0_count_162 (Nat.le_of_ble_eq_true rfl) (Nat.le_of_ble_eq_true rfl) (by unfold x_count; rw [if_neg w0, if_neg w1, if_neg w2, if_neg w3, if_neg w4, if_neg w5, if_neg w6, if_neg w7, if_pos w8]; exact ⟨rfl, rfl⟩)
  by_cases w9 : x = 9
  · refine v_tableIn C 153 dX0_count_1 (by rw [w9]; decide) (by rw [w9]; decide) (by rw [w9]; rfl) (by decide) ?_
    refine v_aload_n C dX0_count_153 0 rfl ?_
    refine v_callVw C (x_spoiltB l g a A nb nl nc r b od us tk bn suf hnb hnl hnc) ok_X0_spoiltBins rfl q774 rfl (Nat.le_of_ble_eq_true rfl) 0 rfl rfl rfl dX0_count_154 (roomL rfl rfl) ⟨rfl, rfl⟩ ?_
    refine v_goto C 162 dX0_count_157 (by decide) ?_
    exact v_iret C dX0_count_162 (Nat.le_of_ble_eq_true rfl) (Nat.le_of_ble_eq_true rfl) (by unfold x_count; rw [if_neg w0, if_neg w1, if_neg w2, if_neg w3, if_neg w4, if_neg w5, if_neg w6, if_neg w7, if_neg w8, if_pos w9]; exact ⟨rfl, rfl⟩)
  refine v_tableOut C 160 dX0_count_1 (sw_out (x := x) (n := 10) (by decide) (by decide) (by intro i hi; rcases (show i = 0 ∨ i = 1 ∨ i = 2 ∨ i = 3 ∨ i = 4 ∨ i = 5 ∨ i = 6 ∨ i = 7 ∨ i = 8 ∨ i = 9 by omega) with rfl | rfl | rfl | rfl | rfl | rfl | rfl | rfl | rfl | rfl <;> first | exact w0 | exact w1 | exact w2 | exact w3 | exact w4 | exact w5 | exact w6 | exact w7 | exact w8 | exact w9)) (by decide) ?_
  refine v_bipush (v := -3) C dX0_count_160 (by decide) ?_
  exact v_iret C dX0_count_162 (Nat.le_of_ble_eq_true rfl) (Nat.le_of_ble_eq_true rfl) (by unfold x_count; rw [if_neg w0, if_neg w1, if_neg w2, if_neg w3, if_neg w4, if_neg w5, if_neg w6, if_neg w7, if_neg w8, if_neg w9]; exact ⟨rfl, rfl⟩)
def x_binW (r : Nat → Int32) (nb : Nat) (x what : Int32) : Int32 := if q_n nb x then b_prop (bv r x.toNatClampNeg) what else -2
def M_X0_bin : Md := (yX0_bin, cX0_bin, 3, (some .int), 4, 104, 0, 0)
theorem ok_X0_bin : MOKv M_X0_bin 2 := ⟨q780, q781, q89, q782, ⟨by decide +kernel, by decide +kernel, by decide +kernel⟩⟩
set_option maxHeartbeats 4000000 in
theorem x_bin (l : Launch) (g : GT) (a A : Nat → Nat) (nb nl nc : Nat) (r : Nat → Int32) (b : Nat → Int64) (od : Nat → Int32) (us : Int32) (tk : Nat → Int32) (bn : Int32) (suf : va_W) (hnb : nb ≤ 8) (hnl : nl ≤ 3) (hnc : nc ≤ 6) (x what : Int32) : CtE l g M_X0_bin [.ref (a 0), .int x, .int what] (cw g a A nb nl nc r b od us tk bn suf) (some (.int (x_binW r nb x what))) (cw g a A nb nl nc r b od us tk bn suf) := by
  refine Ct.start2 (M := M_X0_bin) rfl [(0, .ref (a 0)), (1, .int x), (2, .int what)] rfl (by decide +kernel) (Nat.le_of_ble_eq_true rfl) ?_
  intro p e s m args below meth c A9 C
  refine v_aload_n C dX0_bin_0 0 rfl ?_
  refine v_iload_n C dX0_bin_1 1 rfl ?_
  refine v_callVw C (x_isBin l g a A nb nl nc r b od us tk bn suf hnb hnl hnc _) ok_X0_isBin rfl q463 rfl (Nat.le_of_ble_eq_true rfl) 0 rfl rfl rfl dX0_bin_2 (roomL rfl rfl) ⟨rfl, rfl⟩ ?_
  refine v_if_eqB C 29 dX0_bin_5 (by decide) (fun c5_1 => ?_) (fun c5_1 => ?_)
  · skip
    refine v_bipush (v := -2) C dX0_bin_29 (by decide) ?_
    exact v_iret C dX0_bin_31 (Nat.le_of_ble_eq_true rfl) (Nat.le_of_ble_eq_true rfl) (by unfold x_binW; rw [if_neg c5_1]; exact ⟨rfl, rfl⟩)
  · skip
    obtain ⟨ex, hx⟩ := isB_c (n := nb) rfl (by omega) c5_1
    refine v_aload_n C dX0_bin_8 0 rfl ?_
    refine v_get C in_X0 rfl 0 rfl 0 (by decide) q483 (fun _ h => h) rfl dX0_bin_9 ?_
    refine v_getN C in_X1 rfl 3 rfl 0 (by decide) q155 (fun _ h => h) rfl dX0_bin_12 ?_
    refine v_iload_n C dX0_bin_15 1 rfl ?_
    refine v_eqi ex ?_
    refine v_zMV (ws' := (cw g a A nb nl nc r b od us tk bn suf)) C (j_get l g (A 1) (A 2) 8 (nI nb) nb (rfs A 10 nb) x.toNatClampNeg (A (10 + x.toNatClampNeg)) hx hnb (by decide) (rfs_at A 10 hx)) [_, _, _, _] rfl ok_J2_get rfl q359 rfl (Nat.le_of_ble_eq_true rfl) 0 rfl rfl rfl dX0_bin_16 (roomL rfl rfl) ⟨rfl, rfl⟩ rfl ?_
    refine v_castS (r := (RX4, TX4, 9)) C q360 (x.toNatClampNeg + 11) (cw_bin hx) rfl dX0_bin_19 ?_
    refine v_iload_n C dX0_bin_22 2 rfl ?_
    refine v_zFV (ws' := (cw g a A nb nl nc r b od us tk bn suf)) C (x_bprop l g _ (bv r x.toNatClampNeg) _) ok_X4_property rfl q783 rfl (Nat.le_of_ble_eq_true rfl) (x.toNatClampNeg + 11) (cw_bin hx) rfl rfl dX0_bin_23 (roomL rfl rfl) ⟨rfl, rfl⟩ (set_same (cw_bin hx)) ?_
    refine v_goto C 31 dX0_bin_26 (by decide) ?_
    exact v_iret C dX0_bin_31 (Nat.le_of_ble_eq_true rfl) (Nat.le_of_ble_eq_true rfl) (by unfold x_binW; rw [if_pos c5_1]; exact ⟨rfl, rfl⟩)
def M_X0_legProperty : Md := (yX0_legProperty, cX0_legProperty, 4, (some .int), 5, 125, 0, 0)
theorem ok_X0_legProperty : MOKv M_X0_legProperty 2 := ⟨q793, qs30, q89, q794, ⟨by decide +kernel, by decide +kernel, by decide +kernel⟩⟩
set_option maxHeartbeats 4000000 in
theorem x_legProp (l : Launch) (g : GT) (a A : Nat → Nat) (nb nl nc : Nat) (r : Nat → Int32) (b : Nat → Int64) (od : Nat → Int32) (us : Int32) (tk : Nat → Int32) (bn : Int32) (suf : va_W) (hnb : nb ≤ 8) (hnl : nl ≤ 3) (hnc : nc ≤ 6) (le : Nat) (hl : le < nl) (x : Int32) : CtE l g M_X0_legProperty [.ref (a 0), .int (nI le), .int x] (cw g a A nb nl nc r b od us tk bn suf) (some (.int (x_legP r le x))) (cw g a A nb nl nc r b od us tk bn suf) := by
  refine Ct.start2 (M := M_X0_legProperty) rfl [(0, .ref (a 0)), (1, .int (nI le)), (2, .int x)] rfl (by decide +kernel) (Nat.le_of_ble_eq_true rfl) ?_
  intro p e s m args below meth c A9 C
  refine v_aload_n C dX0_legProperty_0 0 rfl ?_
  refine v_get C in_X0 rfl 0 rfl 0 (by decide) q483 (fun _ h => h) rfl dX0_legProperty_1 ?_
  refine v_getN C in_X1 rfl 3 rfl 1 (by decide) q157 (fun _ h => h) rfl dX0_legProperty_4 ?_
  refine v_iload_n C dX0_legProperty_7 1 rfl ?_
  refine v_zMV (ws' := (cw g a A nb nl nc r b od us tk bn suf)) C (j_get l g (A 3) (A 4) 3 (nI nl) nl (rfs A 20 nl) le (A (20 + le)) hl hnl (by decide) (rfs_at A 20 hl)) [_, _, _, _, _, _] rfl ok_J2_get rfl q359 rfl (Nat.le_of_ble_eq_true rfl) 0 rfl rfl rfl dX0_legProperty_8 (roomL rfl rfl) ⟨rfl, rfl⟩ rfl ?_
  refine v_castS (r := (RX5, TX5, 4)) C q365 (nb + le + 11) (cw_leg hl) rfl dX0_legProperty_11 ?_
  refine v_astore_n (lv' := [(3, _), (0, _), (1, _), (2, _)]) C dX0_legProperty_14 rfl (by decide) rfl ?_
  refine v_iload_n C dX0_legProperty_15 3 rfl ?_
  by_cases w0 : x = 0
  · refine v_tableIn C 52 dX0_legProperty_16 (by rw [w0]; decide) (by rw [w0]; decide) (by rw [w0]; rfl) (by decide) ?_
    refine v_aload_n C dX0_legProperty_52 0 rfl ?_
    refine v_getN C in_X5 rfl (nb + le + 11) (cw_leg hl) 0 (by decide) q674 (fun _ h => h) rfl dX0_legProperty_53 ?_
    refine v_eqi (show _ = r (82 + 4 * le + 0) from rfl) ?_
    refine v_goto C 101 dX0_legProperty_56 (by decide) ?_
    exact v_iret C dX0_legProperty_101 (Nat.le_of_ble_eq_true rfl) (Nat.le_of_ble_eq_true rfl) (by unfold x_legP; rw [if_pos w0]; exact ⟨rfl, rfl⟩)
  by_cases w1 : x = 1
  · refine v_tableIn C 59 dX0_legProperty_16 (by rw [w1]; decide) (by rw [w1]; decide) (by rw [w1]; rfl) (by decide) ?_
    refine v_aload_n C dX0_legProperty_59 0 rfl ?_
    refine v_getN C in_X5 rfl (nb + le + 11) (cw_leg hl) 1 (by decide) q677 (fun _ h => h) rfl dX0_legProperty_60 ?_
    refine v_eqi (show _ = r (82 + 4 * le + 1) from rfl) ?_
    refine v_goto C 101 dX0_legProperty_63 (by decide) ?_
    exact v_iret C dX0_legProperty_101 (Nat.le_of_ble_eq_true rfl) (Nat.le_of_ble_eq_true rfl) (by unfold x_legP; rw [if_neg w0, if_pos w1]; exact ⟨rfl, rfl⟩)
  by_cases w2 : x = 2
  · refine v_tableIn C 66 dX0_legProperty_16 (by rw [w2]; decide) (by rw [w2]; decide) (by rw [w2]; rfl) (by decide) ?_
    refine v_aload_n C dX0_legProperty_66 0 rfl ?_
    refine v_getN C in_X5 rfl (nb + le + 11) (cw_leg hl) 2 (by decide) q680 (fun _ h => h) rfl dX0_legProperty_67 ?_
    refine v_eqi (show _ = r (82 + 4 * le + 2) from rfl) ?_
    refine v_goto C 101 dX0_legProperty_70 (by decide) ?_
    exact v_iret C dX0_legProperty_101 (Nat.le_of_ble_eq_true rfl) (Nat.le_of_ble_eq_true rfl) (by unfold x_legP; rw [if_neg w0, if_neg w1, if_pos w2]; exact ⟨rfl, rfl⟩)
  by_cases w3 : x = 3
  · refine v_tableIn C 73 dX0_legProperty_16 (by rw [w3]; decide) (by rw [w3]; decide) (by rw [w3]; rfl) (by decide) ?_
    refine v_aload_n C dX0_legProperty_73 1 rfl ?_
    refine v_get C in_X0 rfl 0 rfl 0 (by decide) q483 (fun _ h => h) rfl dX0_legProperty_74 ?_
    refine v_iload_n C dX0_legProperty_77 2 rfl ?_
    refine v_zTV (ws' := (cw g a A nb nl nc r b od us tk bn suf)) C (x_stands l g A nb nl nc r b suf hnb hnl hnc le hl) [_, _, _] rfl ok_X1_stands rfl q795 rfl (Nat.le_of_ble_eq_true rfl) 0 rfl rfl rfl dX0_legProperty_78 (roomL rfl rfl) ⟨rfl, rfl⟩ rfl ?_
    refine v_if_eqB C 88 dX0_legProperty_81 (by decide) (fun c81_1 => ?_) (fun c81_1 => ?_)
    · skip
      refine v_iconst (v := 0) C dX0_legProperty_88 (by decide) ?_
      refine v_goto C 101 dX0_legProperty_89 (by decide) ?_
      exact v_iret C dX0_legProperty_101 (Nat.le_of_ble_eq_true rfl) (Nat.le_of_ble_eq_true rfl) (by unfold x_legP; rw [if_neg w0, if_neg w1, if_neg w2, if_pos w3, if_neg c81_1]; exact ⟨rfl, rfl⟩)
    · skip
      refine v_iconst (v := 1) C dX0_legProperty_84 (by decide) ?_
      refine v_goto C 101 dX0_legProperty_85 (by decide) ?_
      exact v_iret C dX0_legProperty_101 (Nat.le_of_ble_eq_true rfl) (Nat.le_of_ble_eq_true rfl) (by unfold x_legP; rw [if_neg w0, if_neg w1, if_neg w2, if_pos w3, if_pos c81_1]; exact ⟨rfl, rfl⟩)
  by_cases w4 : x = 4
  · refine v_tableIn C 92 dX0_legProperty_16 (by rw [w4]; decide) (by rw [w4]; decide) (by rw [w4]; rfl) (by decide) ?_
    refine v_aload_n C dX0_legProperty_92 0 rfl ?_
    refine v_getN C in_X5 rfl (nb + le + 11) (cw_leg hl) 3 (by decide) q682 (fun _ h => h) rfl dX0_legProperty_93 ?_
    refine v_eqi (show _ = r (82 + 4 * le + 3) from rfl) ?_
    refine v_goto C 101 dX0_legProperty_96 (by decide) ?_
    exact v_iret C dX0_legProperty_101 (Nat.le_of_ble_eq_true rfl) (Nat.le_of_ble_eq_true rfl) (by unfold x_legP; rw [if_neg w0, if_neg w1, if_neg w2, if_neg w3, if_pos w4]; exact ⟨rfl, rfl⟩)
  refine v_tableOut C 99 dX0_legProperty_16 (sw_out (x := x) (n := 5) (by decide) (by decide) (by intro i hi; rcases (show i = 0 ∨ i = 1 ∨ i = 2 ∨ i = 3 ∨ i = 4 by omega) with rfl | rfl | rfl | rfl | rfl <;> first | exact w0 | exact w1 | exact w2 | exact w3 | exact w4)) (by decide) ?_
  refine v_bipush (v := -3) C dX0_legProperty_99 (by decide) ?_
  exact v_iret C dX0_legProperty_101 (Nat.le_of_ble_eq_true rfl) (Nat.le_of_ble_eq_true rfl) (by unfold x_legP; rw [if_neg w0, if_neg w1, if_neg w2, if_neg w3, if_neg w4]; exact ⟨rfl, rfl⟩)
def x_legW (r : Nat → Int32) (nl : Nat) (x what : Int32) : Int32 := if q_n nl x then x_legP r x.toNatClampNeg what else -2
def M_X0_leg : Md := (yX0_leg, cX0_leg, 3, (some .int), 6, 148, 0, 0)
theorem ok_X0_leg : MOKv M_X0_leg 2 := ⟨q788, q789, q89, q790, ⟨by decide +kernel, by decide +kernel, by decide +kernel⟩⟩
set_option maxHeartbeats 4000000 in
theorem x_leg (l : Launch) (g : GT) (a A : Nat → Nat) (nb nl nc : Nat) (r : Nat → Int32) (b : Nat → Int64) (od : Nat → Int32) (us : Int32) (tk : Nat → Int32) (bn : Int32) (suf : va_W) (hnb : nb ≤ 8) (hnl : nl ≤ 3) (hnc : nc ≤ 6) (x what : Int32) : CtE l g M_X0_leg [.ref (a 0), .int x, .int what] (cw g a A nb nl nc r b od us tk bn suf) (some (.int (x_legW r nl x what))) (cw g a A nb nl nc r b od us tk bn suf) := by
  refine Ct.start2 (M := M_X0_leg) rfl [(0, .ref (a 0)), (1, .int x), (2, .int what)] rfl (by decide +kernel) (Nat.le_of_ble_eq_true rfl) ?_
  intro p e s m args below meth c A9 C
  refine v_aload_n C dX0_leg_0 0 rfl ?_
  refine v_iload_n C dX0_leg_1 1 rfl ?_
  refine v_callVw C (x_isLeg l g a A nb nl nc r b od us tk bn suf hnb hnl hnc _) ok_X0_isLeg rfl q444 rfl (Nat.le_of_ble_eq_true rfl) 0 rfl rfl rfl dX0_leg_2 (roomL rfl rfl) ⟨rfl, rfl⟩ ?_
  refine v_if_eqB C 17 dX0_leg_5 (by decide) (fun c5_1 => ?_) (fun c5_1 => ?_)
  · skip
    refine v_bipush (v := -2) C dX0_leg_17 (by decide) ?_
    exact v_iret C dX0_leg_19 (Nat.le_of_ble_eq_true rfl) (Nat.le_of_ble_eq_true rfl) (by unfold x_legW; rw [if_neg c5_1]; exact ⟨rfl, rfl⟩)
  · skip
    obtain ⟨ex, hx⟩ := isB_c (n := nl) rfl (by omega) c5_1
    refine v_aload_n C dX0_leg_8 0 rfl ?_
    refine v_iload_n C dX0_leg_9 1 rfl ?_
    refine v_eqi ex ?_
    refine v_iload_n C dX0_leg_10 2 rfl ?_
    refine v_callVw C (x_legProp l g a A nb nl nc r b od us tk bn suf hnb hnl hnc x.toNatClampNeg hx _) ok_X0_legProperty rfl q791 rfl (Nat.le_of_ble_eq_true rfl) 0 rfl rfl rfl dX0_leg_11 (roomL rfl rfl) ⟨rfl, rfl⟩ ?_
    refine v_goto C 19 dX0_leg_14 (by decide) ?_
    exact v_iret C dX0_leg_19 (Nat.le_of_ble_eq_true rfl) (Nat.le_of_ble_eq_true rfl) (by unfold x_legW; rw [if_pos c5_1]; exact ⟨rfl, rfl⟩)
def x_conW (r : Nat → Int32) (nc : Nat) (x what : Int32) : Int32 := if q_n nc x then c_prop (tv r x.toNatClampNeg) what else -2
def M_X0_contract : Md := (yX0_contract, cX0_contract, 3, (some .int), 4, 104, 0, 0)
theorem ok_X0_contract : MOKv M_X0_contract 2 := ⟨q843, q844, q89, q845, ⟨by decide +kernel, by decide +kernel, by decide +kernel⟩⟩
set_option maxHeartbeats 4000000 in
theorem x_contract (l : Launch) (g : GT) (a A : Nat → Nat) (nb nl nc : Nat) (r : Nat → Int32) (b : Nat → Int64) (od : Nat → Int32) (us : Int32) (tk : Nat → Int32) (bn : Int32) (suf : va_W) (hnb : nb ≤ 8) (hnl : nl ≤ 3) (hnc : nc ≤ 6) (x what : Int32) : CtE l g M_X0_contract [.ref (a 0), .int x, .int what] (cw g a A nb nl nc r b od us tk bn suf) (some (.int (x_conW r nc x what))) (cw g a A nb nl nc r b od us tk bn suf) := by
  refine Ct.start2 (M := M_X0_contract) rfl [(0, .ref (a 0)), (1, .int x), (2, .int what)] rfl (by decide +kernel) (Nat.le_of_ble_eq_true rfl) ?_
  intro p e s m args below meth c A9 C
  refine v_aload_n C dX0_contract_0 0 rfl ?_
  refine v_iload_n C dX0_contract_1 1 rfl ?_
  refine v_callVw C (x_isCon l g a A nb nl nc r b od us tk bn suf hnb hnl hnc _) ok_X0_isContract rfl q846 rfl (Nat.le_of_ble_eq_true rfl) 0 rfl rfl rfl dX0_contract_2 (roomL rfl rfl) ⟨rfl, rfl⟩ ?_
  refine v_if_eqB C 29 dX0_contract_5 (by decide) (fun c5_1 => ?_) (fun c5_1 => ?_)
  · skip
    refine v_bipush (v := -2) C dX0_contract_29 (by decide) ?_
    exact v_iret C dX0_contract_31 (Nat.le_of_ble_eq_true rfl) (Nat.le_of_ble_eq_true rfl) (by unfold x_conW; rw [if_neg c5_1]; exact ⟨rfl, rfl⟩)
  · skip
    obtain ⟨ex, hx⟩ := isB_c (n := nc) rfl (by omega) c5_1
    refine v_aload_n C dX0_contract_8 0 rfl ?_
    refine v_get C in_X0 rfl 0 rfl 0 (by decide) q483 (fun _ h => h) rfl dX0_contract_9 ?_
    refine v_getN C in_X1 rfl 3 rfl 2 (by decide) q159 (fun _ h => h) rfl dX0_contract_12 ?_
    refine v_iload_n C dX0_contract_15 1 rfl ?_
    refine v_eqi ex ?_
    refine v_zMV (ws' := (cw g a A nb nl nc r b od us tk bn suf)) C (j_get l g (A 5) (A 6) 6 (nI nc) nc (rfs A 30 nc) x.toNatClampNeg (A (30 + x.toNatClampNeg)) hx hnc (by decide) (rfs_at A 30 hx)) [_, _, _, _, _, _, _, _] rfl ok_J2_get rfl q359 rfl (Nat.le_of_ble_eq_true rfl) 0 rfl rfl rfl dX0_contract_16 (roomL rfl rfl) ⟨rfl, rfl⟩ rfl ?_
    refine v_castS (r := (RX6, TX6, 5)) C q761 (nb + nl + x.toNatClampNeg + 11) (cw_con hx) rfl dX0_contract_19 ?_
    refine v_iload_n C dX0_contract_22 2 rfl ?_
    refine v_zFV (ws' := (cw g a A nb nl nc r b od us tk bn suf)) C (x_cprop l g _ (tv r x.toNatClampNeg) _) ok_X6_property rfl q850 rfl (Nat.le_of_ble_eq_true rfl) (nb + nl + x.toNatClampNeg + 11) (cw_con hx) rfl rfl dX0_contract_23 (roomL rfl rfl) ⟨rfl, rfl⟩ (set_same (cw_con hx)) ?_
    refine v_goto C 31 dX0_contract_26 (by decide) ?_
    exact v_iret C dX0_contract_31 (Nat.le_of_ble_eq_true rfl) (Nat.le_of_ble_eq_true rfl) (by unfold x_conW; rw [if_pos c5_1]; exact ⟨rfl, rfl⟩)
def M_X0_price : Md := (yX0_price, cX0_price, 2, (some .int), 3, 82, 0, 0)
theorem ok_X0_price : MOKv M_X0_price 1 := ⟨q797, q798, q89, q799, ⟨by decide +kernel, by decide +kernel, by decide +kernel⟩⟩
set_option maxHeartbeats 4000000 in
theorem x_price (l : Launch) (g : GT) (a A : Nat → Nat) (nb nl nc : Nat) (r : Nat → Int32) (b : Nat → Int64) (od : Nat → Int32) (us : Int32) (tk : Nat → Int32) (bn : Int32) (suf : va_W) (hnb : nb ≤ 8) (hnl : nl ≤ 3) (hnc : nc ≤ 6) (x : Int32) : CtE l g M_X0_price [.ref (a 0), .int x] (cw g a A nb nl nc r b od us tk bn suf) (some (.int (p_price r x))) (cw g a A nb nl nc r b od us tk bn suf) := by
  refine Ct.start2 (M := M_X0_price) rfl [(0, .ref (a 0)), (1, .int x)] rfl (by decide +kernel) (Nat.le_of_ble_eq_true rfl) ?_
  intro p e s m args below meth c A9 C
  refine v_iload_n C dX0_price_0 1 rfl ?_
  refine v_callSp C (x_isKind l g _) ok_X0_isKind rfl q746 rfl (Nat.le_of_ble_eq_true rfl) dX0_price_1 (roomL rfl rfl) ⟨rfl, rfl⟩ ?_
  refine v_if_eqB C 19 dX0_price_4 (by decide) (fun c4_1 => ?_) (fun c4_1 => ?_)
  · skip
    refine v_bipush (v := -2) C dX0_price_19 (by decide) ?_
    exact v_iret C dX0_price_21 (Nat.le_of_ble_eq_true rfl) (Nat.le_of_ble_eq_true rfl) (by unfold p_price; rw [if_neg c4_1]; exact ⟨rfl, rfl⟩)
  · skip
    obtain ⟨ex, hx⟩ := in_c (n := 3) rfl (by decide) c4_1
    refine v_aload_n C dX0_price_7 0 rfl ?_
    refine v_get C in_X0 rfl 0 rfl 0 (by decide) q483 (fun _ h => h) rfl dX0_price_8 ?_
    refine v_getN C in_X1 rfl 3 rfl 3 (by decide) q161 (fun _ h => h) rfl dX0_price_11 ?_
    refine v_iload_n C dX0_price_14 1 rfl ?_
    refine v_eqi ex ?_
    refine v_iald C dX0_price_15 10 rfl (ixn (by omega) (by decide)) ?_
    refine v_eqi (prF_at r (by omega)) ?_
    refine v_goto C 21 dX0_price_16 (by decide) ?_
    exact v_iret C dX0_price_21 (Nat.le_of_ble_eq_true rfl) (Nat.le_of_ble_eq_true rfl) (by unfold p_price; rw [if_pos c4_1]; exact ⟨rfl, rfl⟩)
def M_X0_book : Md := (yX0_book, cX0_book, 2, (some .long), 1, 40, 0, 0)
theorem ok_X0_book : MOKv M_X0_book 1 := ⟨q801, q802, q89, q803, ⟨by decide +kernel, by decide +kernel, by decide +kernel⟩⟩
set_option maxHeartbeats 4000000 in
theorem x_book (l : Launch) (g : GT) (a A : Nat → Nat) (nb nl nc : Nat) (r : Nat → Int32) (b : Nat → Int64) (od : Nat → Int32) (us : Int32) (tk : Nat → Int32) (bn : Int32) (suf : va_W) (hnb : nb ≤ 8) (hnl : nl ≤ 3) (hnc : nc ≤ 6) (x : Int32) : CtE l g M_X0_book [.ref (a 0), .int x] (cw g a A nb nl nc r b od us tk bn suf) (some (.long (x_bookW b x))) (cw g a A nb nl nc r b od us tk bn suf) := by
  refine Ct.start2 (M := M_X0_book) rfl [(0, .ref (a 0)), (1, .int x)] rfl (by decide +kernel) (Nat.le_of_ble_eq_true rfl) ?_
  intro p e s m args below meth c A9 C
  refine v_iload_n C dX0_book_0 1 rfl ?_
  by_cases w0 : x = 0
  · refine v_tableIn C 44 dX0_book_1 (by rw [w0]; decide) (by rw [w0]; decide) (by rw [w0]; rfl) (by decide) ?_
    refine v_aload_n C dX0_book_44 0 rfl ?_
    refine v_get C in_X0 rfl 0 rfl 0 (by decide) q483 (fun _ h => h) rfl dX0_book_45 ?_
    refine v_getN C in_X1 rfl 3 rfl 7 (by decide) q169 (fun _ h => h) rfl dX0_book_48 ?_
    refine v_i2l C dX0_book_51 ?_
    refine v_goto C 136 dX0_book_52 (by decide) ?_
    exact v_lret C dX0_book_136 (Nat.le_of_ble_eq_true rfl) (Nat.le_of_ble_eq_true rfl) (by unfold x_bookW; rw [if_pos w0]; exact ⟨rfl, rfl⟩)
  by_cases w1 : x = 1
  · refine v_tableIn C 55 dX0_book_1 (by rw [w1]; decide) (by rw [w1]; decide) (by rw [w1]; rfl) (by decide) ?_
    refine v_aload_n C dX0_book_55 0 rfl ?_
    refine v_get C in_X0 rfl 0 rfl 0 (by decide) q483 (fun _ h => h) rfl dX0_book_56 ?_
    refine v_getN C in_X1 rfl 3 rfl 8 (by decide) q171 (fun _ h => h) rfl dX0_book_59 ?_
    refine v_i2l C dX0_book_62 ?_
    refine v_goto C 136 dX0_book_63 (by decide) ?_
    exact v_lret C dX0_book_136 (Nat.le_of_ble_eq_true rfl) (Nat.le_of_ble_eq_true rfl) (by unfold x_bookW; rw [if_neg w0, if_pos w1]; exact ⟨rfl, rfl⟩)
  by_cases w2 : x = 2
  · refine v_tableIn C 66 dX0_book_1 (by rw [w2]; decide) (by rw [w2]; decide) (by rw [w2]; rfl) (by decide) ?_
    refine v_aload_n C dX0_book_66 0 rfl ?_
    refine v_get C in_X0 rfl 0 rfl 0 (by decide) q483 (fun _ h => h) rfl dX0_book_67 ?_
    refine v_getN C in_X1 rfl 3 rfl 9 (by decide) q173 (fun _ h => h) rfl dX0_book_70 ?_
    refine v_i2l C dX0_book_73 ?_
    refine v_goto C 136 dX0_book_74 (by decide) ?_
    exact v_lret C dX0_book_136 (Nat.le_of_ble_eq_true rfl) (Nat.le_of_ble_eq_true rfl) (by unfold x_bookW; rw [if_neg w0, if_neg w1, if_pos w2]; exact ⟨rfl, rfl⟩)
  by_cases w3 : x = 3
  · refine v_tableIn C 77 dX0_book_1 (by rw [w3]; decide) (by rw [w3]; decide) (by rw [w3]; rfl) (by decide) ?_
    refine v_aload_n C dX0_book_77 0 rfl ?_
    refine v_get C in_X0 rfl 0 rfl 0 (by decide) q483 (fun _ h => h) rfl dX0_book_78 ?_
    refine v_getN C in_X1 rfl 3 rfl 10 (by decide) q175 (fun _ h => h) rfl dX0_book_81 ?_
    refine v_goto C 136 dX0_book_84 (by decide) ?_
    exact v_lret C dX0_book_136 (Nat.le_of_ble_eq_true rfl) (Nat.le_of_ble_eq_true rfl) (by unfold x_bookW; rw [if_neg w0, if_neg w1, if_neg w2, if_pos w3]; exact ⟨rfl, rfl⟩)
  by_cases w4 : x = 4
  · refine v_tableIn C 87 dX0_book_1 (by rw [w4]; decide) (by rw [w4]; decide) (by rw [w4]; rfl) (by decide) ?_
    refine v_aload_n C dX0_book_87 0 rfl ?_
    refine v_get C in_X0 rfl 0 rfl 0 (by decide) q483 (fun _ h => h) rfl dX0_book_88 ?_
    refine v_getN C in_X1 rfl 3 rfl 11 (by decide) q177 (fun _ h => h) rfl dX0_book_91 ?_
    refine v_goto C 136 dX0_book_94 (by decide) ?_
    exact v_lret C dX0_book_136 (Nat.le_of_ble_eq_true rfl) (Nat.le_of_ble_eq_true rfl) (by unfold x_bookW; rw [if_neg w0, if_neg w1, if_neg w2, if_neg w3, if_pos w4]; exact ⟨rfl, rfl⟩)
  by_cases w5 : x = 5
  · refine v_tableIn C 97 dX0_book_1 (by rw [w5]; decide) (by rw [w5]; decide) (by rw [w5]; rfl) (by decide) ?_
    refine v_aload_n C dX0_book_97 0 rfl ?_
    refine v_get C in_X0 rfl 0 rfl 0 (by decide) q483 (fun _ h => h) rfl dX0_book_98 ?_
    refine v_getN C in_X1 rfl 3 rfl 12 (by decide) q179 (fun _ h => h) rfl dX0_book_101 ?_
    refine v_goto C 136 dX0_book_104 (by decide) ?_
    exact v_lret C dX0_book_136 (Nat.le_of_ble_eq_true rfl) (Nat.le_of_ble_eq_true rfl) (by unfold x_bookW; rw [if_neg w0, if_neg w1, if_neg w2, if_neg w3, if_neg w4, if_pos w5]; exact ⟨rfl, rfl⟩)
  by_cases w6 : x = 6
  · refine v_tableIn C 107 dX0_book_1 (by rw [w6]; decide) (by rw [w6]; decide) (by rw [w6]; rfl) (by decide) ?_
    refine v_aload_n C dX0_book_107 0 rfl ?_
    refine v_get C in_X0 rfl 0 rfl 0 (by decide) q483 (fun _ h => h) rfl dX0_book_108 ?_
    refine v_getN C in_X1 rfl 3 rfl 11 (by decide) q177 (fun _ h => h) rfl dX0_book_111 ?_
    refine v_aload_n C dX0_book_114 0 rfl ?_
    refine v_get C in_X0 rfl 0 rfl 0 (by decide) q483 (fun _ h => h) rfl dX0_book_115 ?_
    refine v_getN C in_X1 rfl 3 rfl 10 (by decide) q175 (fun _ h => h) rfl dX0_book_118 ?_
    refine v_lsub C dX0_book_121 ?_
    refine v_aload_n C dX0_book_122 0 rfl ?_
    refine v_get C in_X0 rfl 0 rfl 0 (by decide) q483 (fun _ h => h) rfl dX0_book_123 ?_
    refine v_getN C in_X1 rfl 3 rfl 12 (by decide) q179 (fun _ h => h) rfl dX0_book_126 ?_
    refine v_lsub C dX0_book_129 ?_
    refine v_goto C 136 dX0_book_130 (by decide) ?_
    exact v_lret C dX0_book_136 (Nat.le_of_ble_eq_true rfl) (Nat.le_of_ble_eq_true rfl) (by unfold x_bookW; rw [if_neg w0, if_neg w1, if_neg w2, if_neg w3, if_neg w4, if_neg w5, if_pos w6]; exact ⟨rfl, rfl⟩)
  refine v_tableOut C 133 dX0_book_1 (sw_out (x := x) (n := 7) (by decide) (by decide) (by intro i hi; rcases (show i = 0 ∨ i = 1 ∨ i = 2 ∨ i = 3 ∨ i = 4 ∨ i = 5 ∨ i = 6 by omega) with rfl | rfl | rfl | rfl | rfl | rfl | rfl <;> first | exact w0 | exact w1 | exact w2 | exact w3 | exact w4 | exact w5 | exact w6)) (by decide) ?_
  refine v_ldc2 C dX0_book_133 q804 ?_
  exact v_lret C dX0_book_136 (Nat.le_of_ble_eq_true rfl) (Nat.le_of_ble_eq_true rfl) (by unfold x_bookW; rw [if_neg w0, if_neg w1, if_neg w2, if_neg w3, if_neg w4, if_neg w5, if_neg w6]; exact ⟨rfl, rfl⟩)
def M_X0_audit : Md := (yX0_audit, cX0_audit, 4, (some .int), 5, 127, 0, 0)
theorem ok_X0_audit : MOKv M_X0_audit 0 := ⟨q806, q807, q89, q808, ⟨by decide +kernel, by decide +kernel, by decide +kernel⟩⟩
set_option maxHeartbeats 4000000 in
theorem x_audit (l : Launch) (g : GT) (a A : Nat → Nat) (nb nl nc : Nat) (r : Nat → Int32) (b : Nat → Int64) (od : Nat → Int32) (us : Int32) (tk : Nat → Int32) (bn : Int32) (suf : va_W) (hnb : nb ≤ 8) (hnl : nl ≤ 3) (hnc : nc ≤ 6)  : CtE l g M_X0_audit [.ref (a 0)] (cw g a A nb nl nc r b od us tk bn suf) (some (.int (x_auW r b nb))) (cw g a A nb nl nc r b od us tk bn suf) := by
  refine Ct.start2 (M := M_X0_audit) rfl [(0, .ref (a 0))] rfl (by decide +kernel) (Nat.le_of_ble_eq_true rfl) ?_
  intro p e s m args below meth c A9 C
  refine v_aload_n C dX0_audit_0 0 rfl ?_
  refine v_get C in_X0 rfl 0 rfl 0 (by decide) q483 (fun _ h => h) rfl dX0_audit_1 ?_
  refine v_getN C in_X1 rfl 3 rfl 7 (by decide) q169 (fun _ h => h) rfl dX0_audit_4 ?_
  refine v_aload_n C dX0_audit_7 0 rfl ?_
  refine v_get C in_X0 rfl 0 rfl 0 (by decide) q483 (fun _ h => h) rfl dX0_audit_8 ?_
  refine v_getN C in_X1 rfl 3 rfl 8 (by decide) q171 (fun _ h => h) rfl dX0_audit_11 ?_
  refine v_isub C dX0_audit_14 ?_
  refine v_aload_n C dX0_audit_15 0 rfl ?_
  refine v_get C in_X0 rfl 0 rfl 0 (by decide) q483 (fun _ h => h) rfl dX0_audit_16 ?_
  refine v_getN C in_X1 rfl 3 rfl 9 (by decide) q173 (fun _ h => h) rfl dX0_audit_19 ?_
  refine v_isub C dX0_audit_22 ?_
  refine v_i2l C dX0_audit_23 ?_
  refine v_aload_n C dX0_audit_24 0 rfl ?_
  refine v_get C in_X0 rfl 0 rfl 0 (by decide) q483 (fun _ h => h) rfl dX0_audit_25 ?_
  refine v_zTV (ws' := (cw g a A nb nl nc r b od us tk bn suf)) C (x_units l g A nb nl nc r b suf hnb hnl hnc) [_, _, _] rfl ok_X1_units rfl q766 rfl (Nat.le_of_ble_eq_true rfl) 0 rfl rfl rfl dX0_audit_28 (roomL rfl rfl) ⟨rfl, rfl⟩ rfl ?_
  refine v_lcmp C dX0_audit_31 ?_
  refine v_ternI C 39 40 dX0_audit_35 dX0_audit_36 dX0_audit_39 (by decide) rfl (fun ht hf => v_if_ne C 39 dX0_audit_32 (by decide) (fun q => ht q) (fun q => hf q)) ?_
  refine v_istore_n (lv' := [(1, _), (0, _)]) C dX0_audit_40 rfl (by decide) rfl ?_
  refine v_iconst (v := 0) C dX0_audit_41 (by decide) ?_
  refine v_istore_n (lv' := [(2, _), (1, _), (0, _)]) C dX0_audit_42 rfl (by decide) rfl ?_
  refine v_loop 0 nb (fun k => [(2, .int (nI k)), (1, .int (x_au (bI (lg_cmp ((b 0).toInt32 - (b 1).toInt32 - (b 2).toInt32).toInt64 (s_unit r nb) = 0)) r k)), (0, .ref (a 0))]) (fun k => (cw g a A nb nl nc r b od us tk bn suf)) rfl rfl (by omega) ?_ ?_
  · skip
    refine v_iload_n C dX0_audit_43 0 rfl ?_
    refine v_aload_n C dX0_audit_44 2 rfl ?_
    refine v_get C in_X0 rfl 0 rfl 0 (by decide) q483 (fun _ h => h) rfl dX0_audit_45 ?_
    refine v_getN C in_X1 rfl 3 rfl 0 (by decide) q155 (fun _ h => h) rfl dX0_audit_48 ?_
    refine v_zMV (ws' := (cw g a A nb nl nc r b od us tk bn suf)) C (j_size l g (A 1) (A 2) 8 (nI nb) nb (rfs A 10 nb)) [_, _, _, _] rfl ok_J2_size rfl q269 rfl (Nat.le_of_ble_eq_true rfl) 0 rfl rfl rfl dX0_audit_51 (roomL rfl rfl) ⟨rfl, rfl⟩ rfl ?_
    refine v_icmp_ge C 102 dX0_audit_54 (by decide) (fun c54_1 => ?_) (fun c54_1 => ?_)
    · skip
      refine v_iload_n C dX0_audit_102 1 rfl ?_
      refine v_if_eq C 110 dX0_audit_103 (by decide) (fun c103_2 => ?_) (fun c103_2 => ?_)
      · skip
        refine v_iconst (v := 0) C dX0_audit_110 (by decide) ?_
        exact v_iret C dX0_audit_111 (Nat.le_of_ble_eq_true rfl) (Nat.le_of_ble_eq_true rfl) (by unfold x_auW; rw [if_pos c103_2]; exact ⟨rfl, rfl⟩)
      · skip
        refine v_iconst (v := 1) C dX0_audit_106 (by decide) ?_
        refine v_goto C 111 dX0_audit_107 (by decide) ?_
        exact v_iret C dX0_audit_111 (Nat.le_of_ble_eq_true rfl) (Nat.le_of_ble_eq_true rfl) (by unfold x_auW; rw [if_neg c103_2]; exact ⟨rfl, rfl⟩)
    · exact absurd (Int32.le_refl _) c54_1
  · intro k hk hk0 hback
    refine v_iload_n C dX0_audit_43 0 rfl ?_
    refine v_aload_n C dX0_audit_44 2 rfl ?_
    refine v_get C in_X0 rfl 0 rfl 0 (by decide) q483 (fun _ h => h) rfl dX0_audit_45 ?_
    refine v_getN C in_X1 rfl 3 rfl 0 (by decide) q155 (fun _ h => h) rfl dX0_audit_48 ?_
    refine v_zMV (ws' := (cw g a A nb nl nc r b od us tk bn suf)) C (j_size l g (A 1) (A 2) 8 (nI nb) nb (rfs A 10 nb)) [_, _, _, _] rfl ok_J2_size rfl q269 rfl (Nat.le_of_ble_eq_true rfl) 0 rfl rfl rfl dX0_audit_51 (roomL rfl rfl) ⟨rfl, rfl⟩ rfl ?_
    refine v_icmp_ge C 102 dX0_audit_54 (by decide) (fun c54_3 => ?_) (fun c54_3 => ?_)
    · exact absurd c54_3 (nI_ge hk (by first | decide | omega))
    · skip
      refine v_aload_n C dX0_audit_57 2 rfl ?_
      refine v_get C in_X0 rfl 0 rfl 0 (by decide) q483 (fun _ h => h) rfl dX0_audit_58 ?_
      refine v_getN C in_X1 rfl 3 rfl 0 (by decide) q155 (fun _ h => h) rfl dX0_audit_61 ?_
      refine v_iload_n C dX0_audit_64 0 rfl ?_
      refine v_zMV (ws' := (cw g a A nb nl nc r b od us tk bn suf)) C (j_get l g (A 1) (A 2) 8 (nI nb) nb (rfs A 10 nb) k (A (10 + k)) hk hnb (by decide) (rfs_at A 10 hk)) [_, _, _, _] rfl ok_J2_get rfl q359 rfl (Nat.le_of_ble_eq_true rfl) 0 rfl rfl rfl dX0_audit_65 (roomL rfl rfl) ⟨rfl, rfl⟩ rfl ?_
      refine v_castS (r := (RX4, TX4, 9)) C q360 (k + 11) (cw_bin hk) rfl dX0_audit_68 ?_
      refine v_astore_n (lv' := [(3, _), (2, _), (1, _), (0, _)]) C dX0_audit_71 rfl (by decide) rfl ?_
      refine v_iload_n C dX0_audit_72 2 rfl ?_
      refine v_aload_n C dX0_audit_73 0 rfl ?_
      refine v_getN C in_X4 rfl (k + 11) (cw_bin hk) 7 (by decide) q614 (fun _ h => h) rfl dX0_audit_74 ?_
      refine v_eqi (show _ = r (10 + 9 * k + 7) from rfl) ?_
      refine v_aload_n C dX0_audit_77 0 rfl ?_
      refine v_getN C in_X4 rfl (k + 11) (cw_bin hk) 8 (by decide) q616 (fun _ h => h) rfl dX0_audit_78 ?_
      refine v_eqi (show _ = r (10 + 9 * k + 8) from rfl) ?_
      refine v_isub C dX0_audit_81 ?_
      refine v_aload_n C dX0_audit_82 0 rfl ?_
      refine v_getN C in_X4 rfl (k + 11) (cw_bin hk) 3 (by decide) q605 (fun _ h => h) rfl dX0_audit_83 ?_
      refine v_eqi (show _ = r (10 + 9 * k + 3) from rfl) ?_
      refine v_ternI C 93 94 dX0_audit_89 dX0_audit_90 dX0_audit_93 (by decide) rfl (fun ht hf => v_icmp_ne C 93 dX0_audit_86 (by decide) (fun q => ht q) (fun q => hf q)) ?_
      refine v_iand C dX0_audit_94 ?_
      refine v_istore_n (lv' := [(1, _), (3, _), (2, _), (0, _)]) C dX0_audit_95 rfl (by decide) rfl ?_
      refine v_iinc (lv' := [(2, _), (1, _), (3, _), (0, _)]) C dX0_audit_96 2 rfl (nI_1 k) (by decide) rfl ?_
      refine v_goto C 43 dX0_audit_99 (by decide) ?_
      refine v_lvp (lv' := [(2, _), (1, _), (0, _)]) [0, 1, 3] rfl ?_
      exact hback
