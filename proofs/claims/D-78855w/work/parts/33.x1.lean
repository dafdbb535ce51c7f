/-! helper rows for the class's side -/
set_option maxRecDepth 100000
theorem perm_mid {α : Type} (a b c : List α) : (a ++ (b ++ c)).Perm (b ++ (a ++ c)) := by
  rw [← List.append_assoc, ← List.append_assoc]
  exact List.Perm.append_right c List.perm_append_comm
theorem perm_at {α : Type} {L : List α} {i : Nat} {x : α} (h : L[i]? = some x) : L.Perm ([x] ++ L.eraseIdx i) := by
  induction L generalizing i with
  | nil => simp at h
  | cons a L ih =>
    cases i with
    | zero => simp at h; subst h; exact List.Perm.refl _
    | succ i => exact ((ih (i := i) (by simpa using h)).cons a).trans (List.Perm.swap x a _)
theorem perm_set {α : Type} {L : List α} {i : Nat} {x z : α} (h : L[i]? = some x) : ([z] ++ L.eraseIdx i).Perm (L.set i z) := by
  induction L generalizing i with
  | nil => simp at h
  | cons a L ih =>
    cases i with
    | zero => exact List.Perm.refl _
    | succ i => exact (List.Perm.swap a z _).trans ((ih (i := i) (by simpa using h)).cons a)
section VX
variable {p : Program} {l : Launch} {e : Env} {R : Room} {s : State} {m : MethodId} {args : Array Value} {below : List Frame} {meth : Method} {c : Code} {g : GT} {A : Nat → Prop} {nL cells slots : Nat} {Q : State → Prop} {y : MethodName} {cc : ByteArray} {ret : Option FieldType} {pc : Nat} {lv : List (Nat × Value)} {st : List Value} {ws : va_W}
theorem v_drop {ws' wd : va_W} (hp : ws.Perm (ws' ++ wd)) (k : V p l e R s m args below meth c g A nL cells slots Q pc lv st ws') : V p l e R s m args below meth c g A nL cells slots Q pc lv st ws := fun H locs ls hP hD hS hl =>
  k H locs ls (va_P_mem.mpr fun q hq => va_P_mem.mp (hP.perm hp) q (List.mem_append_left _ hq)) (by
    have h := va_D_iff.mp (hD.perm hp)
    refine va_D_iff.mpr ⟨?_, fun q hq => h.2 q (List.mem_append_left _ hq)⟩
    have h1 := h.1
    rw [List.map_append, List.nodup_append] at h1
    exact h1.1) hS hl
section VXC
variable {M : Md} {wc wr w pre suf ws' : va_W} {As st0 : List Value} {index b n : Nat} {r : Option Value}
theorem v_cMV (C : Cx p s m args meth c g A y cc nL ret) (hM : CtE l g M (.ref b :: As) wc r w) (pre : va_W) (hw : ws = pre ++ (wc ++ suf)) (ok : MOKv M n) (hn : As.length = n) (hlk : Cond.methodLink y.cls index M.1 ∈ lw_all) (hst : st0 = As.reverse ++ .ref b :: st) (h8 : (st.map fun v => v.category).sum ≤ 8) {ci : Nat} {r0 : vw_C} {fs : List Value} (q0 : Nat) (he : wc[q0]? = some (b, .inr (ci, fs))) (hc : vwCl[ci]? = some r0) (hrc : r0.1 = M.1.cls) (d : decode cc pc = .ok (.invokevirtual index, 3)) (hR : roomOk M R cells slots) (hw' : pre ++ (w ++ suf) = ws')
    (k : V p l e R s m args below meth c g A nL (cells + M.2.2.2.2.2.2.1) (slots + M.2.2.2.2.2.2.2) Q (pc + 3) lv (r.toList ++ st) ws') : V p l e R s m args below meth c g A nL cells slots Q pc lv st0 ws := by
  subst hw'
  exact v_callV C hM ok hn hlk hst h8 q0 he hc hrc d hR (by rw [hw]; exact perm_mid pre wc suf) (fun rv w' h => by obtain ⟨rfl, rfl⟩ := h; exact v_perm (perm_mid _ pre suf) k)
theorem v_cMS (C : Cx p s m args meth c g A y cc nL ret) (hM : CtE l g M As wc r w) (pre : va_W) (hw : ws = pre ++ (wc ++ suf)) (ok : MOKs M n) (hn : As.length = n) (hlk : Cond.methodLink y.cls index M.1 ∈ lw_all) (hst : st0 = As.reverse ++ st) (h8 : (st.map fun v => v.category).sum ≤ 8) (d : decode cc pc = .ok (.invokestatic index, 3)) (hR : roomOk M R cells slots) (hw' : pre ++ (w ++ suf) = ws')
    (k : V p l e R s m args below meth c g A nL (cells + M.2.2.2.2.2.2.1) (slots + M.2.2.2.2.2.2.2) Q (pc + 3) lv (r.toList ++ st) ws') : V p l e R s m args below meth c g A nL cells slots Q pc lv st0 ws := by
  subst hw'
  exact v_callS C hM ok hn hlk hst h8 d hR (by rw [hw]; exact perm_mid pre wc suf) (fun rv w' h => by obtain ⟨rfl, rfl⟩ := h; exact v_perm (perm_mid _ pre suf) k)
theorem v_cMSN (C : Cx p s m args meth c g A y cc nL ret) {host : String} (hM : CtE l g M As wc r w) (pre : va_W) (hw : ws = pre ++ (wc ++ suf)) (ok : MOKs M n) (hn : As.length = n) (hlk : Cond.methodLinkNest y.cls index M.1 host ∈ lw_tbl) (hst : st0 = As.reverse ++ st) (h8 : (st.map fun v => v.category).sum ≤ 8) (d : decode cc pc = .ok (.invokestatic index, 3)) (hR : roomOk M R cells slots) (hw' : pre ++ (w ++ suf) = ws')
    (k : V p l e R s m args below meth c g A nL (cells + M.2.2.2.2.2.2.1) (slots + M.2.2.2.2.2.2.2) Q (pc + 3) lv (r.toList ++ st) ws') : V p l e R s m args below meth c g A nL cells slots Q pc lv st0 ws := by
  subst hw'
  exact v_callSN C hM ok hn hlk hst h8 d hR (by rw [hw]; exact perm_mid pre wc suf) (fun rv w' h => by obtain ⟨rfl, rfl⟩ := h; exact v_perm (perm_mid _ pre suf) k)
theorem v_cMI (C : Cx p s m args meth c g A y cc nL ret) (hM : CtE l g M (.ref b :: As) wc r w) (pre : va_W) (hw : ws = pre ++ (wc ++ suf)) (ok : MOKi M n) (hn : As.length = n) (hlk : Cond.methodLink y.cls index M.1 ∈ lw_all) (hst : st0 = As.reverse ++ .ref b :: st) (h8 : (st.map fun v => v.category).sum ≤ 8) (d : decode cc pc = .ok (.invokespecial index, 3)) (hR : roomOk M R cells slots) (hw' : pre ++ (w ++ suf) = ws')
    (k : V p l e R s m args below meth c g A nL (cells + M.2.2.2.2.2.2.1) (slots + M.2.2.2.2.2.2.2) Q (pc + 3) lv (r.toList ++ st) ws') : V p l e R s m args below meth c g A nL cells slots Q pc lv st0 ws := by
  subst hw'
  exact v_callI C hM ok hn hlk hst h8 d hR (by rw [hw]; exact perm_mid pre wc suf) (fun rv w' h => by obtain ⟨rfl, rfl⟩ := h; exact v_perm (perm_mid _ pre suf) k)
theorem v_cMIN (C : Cx p s m args meth c g A y cc nL ret) {host : String} (hM : CtE l g M (.ref b :: As) wc r w) (pre : va_W) (hw : ws = pre ++ (wc ++ suf)) (ok : MOKi M n) (hn : As.length = n) (hlk : Cond.methodLinkNest y.cls index M.1 host ∈ lw_tbl) (hst : st0 = As.reverse ++ .ref b :: st) (h8 : (st.map fun v => v.category).sum ≤ 8) (d : decode cc pc = .ok (.invokespecial index, 3)) (hR : roomOk M R cells slots) (hw' : pre ++ (w ++ suf) = ws')
    (k : V p l e R s m args below meth c g A nL (cells + M.2.2.2.2.2.2.1) (slots + M.2.2.2.2.2.2.2) Q (pc + 3) lv (r.toList ++ st) ws') : V p l e R s m args below meth c g A nL cells slots Q pc lv st0 ws := by
  subst hw'
  exact v_callIN C hM ok hn hlk hst h8 d hR (by rw [hw]; exact perm_mid pre wc suf) (fun rv w' h => by obtain ⟨rfl, rfl⟩ := h; exact v_perm (perm_mid _ pre suf) k)
theorem v_cFV (C : Cx p s m args meth c g A y cc nL ret) {ci : Nat} {r0 : vw_C} {fs fs' : List Value} (hM : CtE l g M (.ref b :: As) [(b, .inr (ci, fs))] r [(b, .inr (ci, fs'))]) (ok : MOKv M n) (hn : As.length = n) (hlk : Cond.methodLink y.cls index M.1 ∈ lw_all) (hst : st0 = As.reverse ++ .ref b :: st) (h8 : (st.map fun v => v.category).sum ≤ 8) (q0 : Nat) (he : ws[q0]? = some (b, .inr (ci, fs))) (hc : vwCl[ci]? = some r0) (hrc : r0.1 = M.1.cls) (d : decode cc pc = .ok (.invokevirtual index, 3)) (hR : roomOk M R cells slots) (hw : ws.set q0 (b, .inr (ci, fs')) = ws')
    (k : V p l e R s m args below meth c g A nL (cells + M.2.2.2.2.2.2.1) (slots + M.2.2.2.2.2.2.2) Q (pc + 3) lv (r.toList ++ st) ws') : V p l e R s m args below meth c g A nL cells slots Q pc lv st0 ws := by
  subst hw
  exact v_callV C hM ok hn hlk hst h8 0 rfl hc hrc d hR (perm_at he) (fun rv w' h => by obtain ⟨rfl, rfl⟩ := h; exact v_perm (perm_set he) k)
end VXC
end VX

/-! Bin, Leg, Contract: the words over a cell's numbers -/
abbrev bnF (v : Nat → Int32) : List Value := [.int (v 0), .int (v 1), .int (v 2), .int (v 3), .int (v 4), .int (v 5), .int (v 6), .int (v 7), .int (v 8)]
abbrev lgF (v : Nat → Int32) : List Value := [.int (v 0), .int (v 1), .int (v 2), .int (v 3)]
abbrev cnF (v : Nat → Int32) : List Value := [.int (v 0), .int (v 1), .int (v 2), .int (v 3), .int (v 5)]
abbrev bnC (q : Nat) (v : Nat → Int32) : Nat × va_E := (q, .inr (4, bnF v))
abbrev lgC (q : Nat) (v : Nat → Int32) : Nat × va_E := (q, .inr (5, lgF v))
abbrev cnC (q : Nat) (v : Nat → Int32) : Nat × va_E := (q, .inr (6, cnF v))
def b_moist (v : Nat → Int32) : Int32 := if v 3 = 0 then -1 else v 4 / v 3
abbrev b_sp (v : Nat → Int32) : Prop := v 6 = 10000
def b_pass (m : Int32) (v : Nat → Int32) : Nat → Int32 :=
  if v 3 = 0 then v else
  if b_moist v ≤ 150 then
    if b_sp v then v else upd v 6 (if (v 6).toInt64 - m.toInt64 * 20 < 0 then (0 : Int64) else (v 6).toInt64 - m.toInt64 * 20).toInt32
  else upd v 6 (if (v 6).toInt64 + m.toInt64 * (b_moist v - 150).toInt64 < 10000 then (v 6).toInt64 + m.toInt64 * (b_moist v - 150).toInt64 else 10000).toInt32
def b_share (v : Nat → Int32) (u : Int32) : Int32 := if u = v 3 then v 4 else ((v 4).toInt64 * u.toInt64 / (v 3).toInt64).toInt32
def b_emp (v : Nat → Int32) : Nat → Int32 := if v 3 = 0 then upd (upd (upd v 4 0) 5 (-1)) 6 0 else v
def b_take (v : Nat → Int32) (u : Int32) : Nat → Int32 := b_emp (upd (upd (upd v 3 (v 3 - u)) 4 (v 4 - b_share v u)) 8 (v 8 + u))
def b_put (v : Nat → Int32) (u pts kind : Int32) : Nat → Int32 := upd (upd (upd (upd v 3 (v 3 + u)) 4 (v 4 + pts)) 5 kind) 7 (v 7 + u)
def b_lost (v : Nat → Int32) : Int32 := if v 3 - 1 < v 4 / 20 / 1000 then v 3 - 1 else v 4 / 20 / 1000
def b_dry (v : Nat → Int32) : Nat → Int32 := upd (upd (upd v 4 (v 4 - v 4 / 20)) 3 (v 3 - b_lost v)) 8 (v 8 + b_lost v)
def b_new (cap : Int32) : Nat → Int32 := upd (upd (upd (fun _ => 0) 2 400) 5 (-1)) 0 cap
def b_prop (v : Nat → Int32) (what : Int32) : Int32 :=
  if what = 0 then v 0 else if what = 1 then v 1 else if what = 2 then v 2 else if what = 3 then v 3 else if what = 4 then v 4 else if what = 5 then v 5 else if what = 6 then b_moist v else if what = 7 then v 6 else if what = 8 then v 7 else if what = 9 then v 8 else -3
def l_lift (v : Nat → Int32) (amt moist : Int32) : Nat → Int32 := upd (upd v 2 (v 2 + (amt.toInt64 * (v 0).toInt64 * (400 - moist).toInt64 / 100000).toInt32)) 3 (v 3 + amt)
def l_new (sp : Int32) : Nat → Int32 := upd (fun _ => 0) 0 sp
abbrev c_open (v : Nat → Int32) : Prop := v 5 = -1
def c_new (a b c d : Int32) : Nat → Int32 := upd (upd (upd (upd (upd (upd (fun _ => 0) 0 a) 1 b) 2 c) 3 d) 4 1) 5 (-1)
def c_prop (v : Nat → Int32) (what : Int32) : Int32 :=
  if what = 0 then v 0 else if what = 1 then v 1 else if what = 2 then v 2 else if what = 3 then v 3 else if what = 4 then (if c_open v then 1 else 0) else if what = 5 then v 5 else -3

def M_X4_moisture : Md := (yX4_moisture, cX4_moisture, 1, (some .int), 1, 40, 0, 0)
theorem ok_X4_moisture : MOKv M_X4_moisture 0 := ⟨q347, q348, q106, q349, ⟨by decide +kernel, by decide +kernel, by decide +kernel⟩⟩
set_option maxHeartbeats 4000000 in
theorem x_moisture (l : Launch) (g : GT) (q : Nat) (v : Nat → Int32)  : CtE l g M_X4_moisture [.ref q] [bnC q v] (some (.int (b_moist v))) [bnC q v] := by
  refine Ct.start2 (M := M_X4_moisture) rfl [(0, .ref q)] rfl (by decide +kernel) (Nat.le_of_ble_eq_true rfl) ?_
  intro p e s m args below meth c A C
  refine v_aload_n C dX4_moisture_0 0 rfl ?_
  refine v_get C in_X4 rfl 0 rfl 3 (by decide) q603 (fun _ h => h) rfl dX4_moisture_1 ?_
  refine v_if_ne C 11 dX4_moisture_4 (by decide) (fun c4_1 => ?_) (fun c4_1 => ?_)
  · skip
    have hz4 := c4_1
    refine v_aload_n C dX4_moisture_11 0 rfl ?_
    refine v_get C in_X4 rfl 0 rfl 4 (by decide) q606 (fun _ h => h) rfl dX4_moisture_12 ?_
    refine v_aload_n C dX4_moisture_15 0 rfl ?_
    refine v_get C in_X4 rfl 0 rfl 3 (by decide) q603 (fun _ h => h) rfl dX4_moisture_16 ?_
    refine v_idiv C dX4_moisture_19 hz4 ?_
    exact v_iret C dX4_moisture_20 (Nat.le_of_ble_eq_true rfl) (Nat.le_of_ble_eq_true rfl) (by unfold b_moist; rw [if_neg c4_1]; exact ⟨rfl, rfl⟩)
  · skip
    refine v_iconst (v := -1) C dX4_moisture_7 (by decide) ?_
    refine v_goto C 20 dX4_moisture_8 (by decide) ?_
    exact v_iret C dX4_moisture_20 (Nat.le_of_ble_eq_true rfl) (Nat.le_of_ble_eq_true rfl) (by unfold b_moist; rw [if_pos c4_1]; exact ⟨rfl, rfl⟩)
def M_X4_isSpoilt : Md := (yX4_isSpoilt, cX4_isSpoilt, 1, (some .boolean), 1, 40, 0, 0)
theorem ok_X4_isSpoilt : MOKv M_X4_isSpoilt 0 := ⟨q311, q312, q106, q313, ⟨by decide +kernel, by decide +kernel, by decide +kernel⟩⟩
set_option maxHeartbeats 4000000 in
theorem x_isSpoilt (l : Launch) (g : GT) (q : Nat) (v : Nat → Int32)  : CtE l g M_X4_isSpoilt [.ref q] [bnC q v] (some (.int (bI (b_sp v)))) [bnC q v] := by
  refine Ct.start2 (M := M_X4_isSpoilt) rfl [(0, .ref q)] rfl (by decide +kernel) (Nat.le_of_ble_eq_true rfl) ?_
  intro p e s m args below meth c A C
  refine v_aload_n C dX4_isSpoilt_0 0 rfl ?_
  refine v_get C in_X4 rfl 0 rfl 6 (by decide) q611 (fun _ h => h) rfl dX4_isSpoilt_1 ?_
  refine v_sipush (v := 10000) C dX4_isSpoilt_4 (by decide) ?_
  refine v_ternI C 14 15 dX4_isSpoilt_10 dX4_isSpoilt_11 dX4_isSpoilt_14 (by decide) rfl (fun ht hf => v_icmp_ne C 14 dX4_isSpoilt_7 (by decide) (fun q => ht q) (fun q => hf q)) ?_
  exact v_zret C (bI_nar _) dX4_isSpoilt_15 (Nat.le_of_ble_eq_true rfl) (Nat.le_of_ble_eq_true rfl) ⟨rfl, rfl⟩
def M_X4_pass : Md := (yX4_pass, cX4_pass, 4, none, 2, 60, 0, 0)
theorem ok_X4_pass : MOKv M_X4_pass 1 := ⟨q343, q344, q106, q345, ⟨by decide +kernel, by decide +kernel, by decide +kernel⟩⟩
set_option maxHeartbeats 4000000 in
theorem x_bpass (l : Launch) (g : GT) (q : Nat) (v : Nat → Int32) (mi : Int32) : CtE l g M_X4_pass [.ref q, .int mi] [bnC q v] none [bnC q (b_pass mi v)] := by
  refine Ct.start2 (M := M_X4_pass) rfl [(0, .ref q), (1, .int mi)] rfl (by decide +kernel) (Nat.le_of_ble_eq_true rfl) ?_
  intro p e s m args below meth c A C
  refine v_aload_n C dX4_pass_0 0 rfl ?_
  refine v_get C in_X4 rfl 0 rfl 3 (by decide) q603 (fun _ h => h) rfl dX4_pass_1 ?_
  refine v_if_ne C 8 dX4_pass_4 (by decide) (fun c4_1 => ?_) (fun c4_1 => ?_)
  · skip
    refine v_aload_n C dX4_pass_8 0 rfl ?_
    refine v_callVw C (x_moisture l g _ _) ok_X4_moisture rfl q346 rfl (Nat.le_of_ble_eq_true rfl) 0 rfl rfl rfl dX4_pass_9 (roomL rfl rfl) ⟨rfl, rfl⟩ ?_
    refine v_sipush (v := 150) C dX4_pass_12 (by decide) ?_
    refine v_icmp_le C 52 dX4_pass_15 (by decide) (fun c15_2 => ?_) (fun c15_2 => ?_)
    · skip
      refine v_aload_n C dX4_pass_52 0 rfl ?_
      refine v_callVw C (x_isSpoilt l g _ _) ok_X4_isSpoilt rfl q354 rfl (Nat.le_of_ble_eq_true rfl) 0 rfl rfl rfl dX4_pass_53 (roomL rfl rfl) ⟨rfl, rfl⟩ ?_
      refine v_if_neB C 80 dX4_pass_56 (by decide) (fun c56_3 => ?_) (fun c56_3 => ?_)
      · skip
        exact v_vret C dX4_pass_80 (Nat.le_of_ble_eq_true rfl) (Nat.le_of_ble_eq_true rfl) (by unfold b_pass; rw [if_neg c4_1, if_pos c15_2, if_pos c56_3]; exact ⟨rfl, rfl⟩)
      · skip
        refine v_aload_n C dX4_pass_59 0 rfl ?_
        refine v_lconst (v := 0) C dX4_pass_60 (by decide) ?_
        refine v_aload_n C dX4_pass_61 0 rfl ?_
        refine v_get C in_X4 rfl 0 rfl 6 (by decide) q611 (fun _ h => h) rfl dX4_pass_62 ?_
        refine v_i2l C dX4_pass_65 ?_
        refine v_iload_n C dX4_pass_66 1 rfl ?_
        refine v_i2l C dX4_pass_67 ?_
        refine v_ldc2 C dX4_pass_68 q355 ?_
        refine v_lmul C dX4_pass_71 ?_
        refine v_lsub C dX4_pass_72 ?_
        refine v_mmaxL C q356 q357 q102 q358 dX4_pass_73 (Nat.le_of_ble_eq_true rfl) (Nat.le_of_ble_eq_true rfl) (Nat.le_of_ble_eq_true rfl) (Nat.le_of_ble_eq_true rfl) ?_
        refine v_l2i C dX4_pass_76 ?_
        refine v_put (ws' := [(_, .inr (4, [_, _, _, _, _, _, _, _, _]))]) C in_X4 tyX4 tyX4_ok nmX4 rfl 0 rfl 6 (by decide) q611 (fun _ h => h) rfl rfl rfl (Nat.le_of_ble_eq_true rfl) dX4_pass_77 rfl ?_
        exact v_vret C dX4_pass_80 (Nat.le_of_ble_eq_true rfl) (Nat.le_of_ble_eq_true rfl) (by unfold b_pass; rw [if_neg c4_1, if_pos c15_2, if_neg c56_3]; exact ⟨rfl, rfl⟩)
    · skip
      refine v_aload_n C dX4_pass_18 0 rfl ?_
      refine v_get C in_X4 rfl 0 rfl 6 (by decide) q611 (fun _ h => h) rfl dX4_pass_19 ?_
      refine v_i2l C dX4_pass_22 ?_
      refine v_iload_n C dX4_pass_23 1 rfl ?_
      refine v_i2l C dX4_pass_24 ?_
      refine v_aload_n C dX4_pass_25 0 rfl ?_
      refine v_callVw C (x_moisture l g _ _) ok_X4_moisture rfl q346 rfl (Nat.le_of_ble_eq_true rfl) 0 rfl rfl rfl dX4_pass_26 (roomL rfl rfl) ⟨rfl, rfl⟩ ?_
      refine v_sipush (v := 150) C dX4_pass_29 (by decide) ?_
      refine v_isub C dX4_pass_32 ?_
      refine v_i2l C dX4_pass_33 ?_
      refine v_lmul C dX4_pass_34 ?_
      refine v_ladd C dX4_pass_35 ?_
      refine v_lstore_n (lv' := [(2, _), (0, _), (1, _)]) C dX4_pass_36 rfl (by decide) rfl ?_
      refine v_aload_n C dX4_pass_37 1 rfl ?_
      refine v_ldc2 C dX4_pass_38 q350 ?_
      refine v_lload_n C dX4_pass_41 0 rfl ?_
      refine v_mminL C q351 q352 q102 q353 dX4_pass_42 (Nat.le_of_ble_eq_true rfl) (Nat.le_of_ble_eq_true rfl) (Nat.le_of_ble_eq_true rfl) (Nat.le_of_ble_eq_true rfl) ?_
      refine v_l2i C dX4_pass_45 ?_
      refine v_put (ws' := [(_, .inr (4, [_, _, _, _, _, _, _, _, _]))]) C in_X4 tyX4 tyX4_ok nmX4 rfl 0 rfl 6 (by decide) q611 (fun _ h => h) rfl rfl rfl (Nat.le_of_ble_eq_true rfl) dX4_pass_46 rfl ?_
      refine v_goto C 80 dX4_pass_49 (by decide) ?_
      exact v_vret C dX4_pass_80 (Nat.le_of_ble_eq_true rfl) (Nat.le_of_ble_eq_true rfl) (by unfold b_pass; rw [if_neg c4_1, if_neg c15_2]; exact ⟨rfl, rfl⟩)
  · skip
    exact v_vret C dX4_pass_7 (Nat.le_of_ble_eq_true rfl) (Nat.le_of_ble_eq_true rfl) (by unfold b_pass; rw [if_pos c4_1]; exact ⟨rfl, rfl⟩)
def M_X4_pointsOf : Md := (yX4_pointsOf, cX4_pointsOf, 2, (some .int), 1, 40, 0, 0)
theorem ok_X4_pointsOf : MOKv M_X4_pointsOf 1 := ⟨q416, q417, q106, q418, ⟨by decide +kernel, by decide +kernel, by decide +kernel⟩⟩
set_option maxHeartbeats 4000000 in
theorem x_pointsOf (l : Launch) (g : GT) (q : Nat) (v : Nat → Int32) (u : Int32) (hz : ¬ u = v 3 → ¬ v 3 = 0) : CtE l g M_X4_pointsOf [.ref q, .int u] [bnC q v] (some (.int (b_share v u))) [bnC q v] := by
  refine Ct.start2 (M := M_X4_pointsOf) rfl [(0, .ref q), (1, .int u)] rfl (by decide +kernel) (Nat.le_of_ble_eq_true rfl) ?_
  intro p e s m args below meth c A C
  refine v_iload_n C dX4_pointsOf_0 1 rfl ?_
  refine v_aload_n C dX4_pointsOf_1 0 rfl ?_
  refine v_get C in_X4 rfl 0 rfl 3 (by decide) q603 (fun _ h => h) rfl dX4_pointsOf_2 ?_
  refine v_icmp_ne C 15 dX4_pointsOf_5 (by decide) (fun c5_1 => ?_) (fun c5_1 => ?_)
  · skip
    refine v_aload_n C dX4_pointsOf_15 0 rfl ?_
    refine v_get C in_X4 rfl 0 rfl 4 (by decide) q606 (fun _ h => h) rfl dX4_pointsOf_16 ?_
    refine v_i2l C dX4_pointsOf_19 ?_
    refine v_iload_n C dX4_pointsOf_20 1 rfl ?_
    refine v_i2l C dX4_pointsOf_21 ?_
    refine v_lmul C dX4_pointsOf_22 ?_
    refine v_aload_n C dX4_pointsOf_23 0 rfl ?_
    refine v_get C in_X4 rfl 0 rfl 3 (by decide) q603 (fun _ h => h) rfl dX4_pointsOf_24 ?_
    refine v_i2l C dX4_pointsOf_27 ?_
    refine v_ldiv C dX4_pointsOf_28 (ne0_l (hz c5_1)) ?_
    refine v_l2i C dX4_pointsOf_29 ?_
    exact v_iret C dX4_pointsOf_30 (Nat.le_of_ble_eq_true rfl) (Nat.le_of_ble_eq_true rfl) (by unfold b_share; rw [if_neg c5_1]; exact ⟨rfl, rfl⟩)
  · skip
    refine v_aload_n C dX4_pointsOf_8 0 rfl ?_
    refine v_get C in_X4 rfl 0 rfl 4 (by decide) q606 (fun _ h => h) rfl dX4_pointsOf_9 ?_
    refine v_goto C 30 dX4_pointsOf_12 (by decide) ?_
    exact v_iret C dX4_pointsOf_30 (Nat.le_of_ble_eq_true rfl) (Nat.le_of_ble_eq_true rfl) (by unfold b_share; rw [if_pos c5_1]; exact ⟨rfl, rfl⟩)
def M_X4_emptyIfSo : Md := (yX4_emptyIfSo, cX4_emptyIfSo, 1, none, 1, 40, 0, 0)
theorem ok_X4_emptyIfSo : MOKv M_X4_emptyIfSo 0 := ⟨q434, qs11, q106, q436, ⟨by decide +kernel, by decide +kernel, by decide +kernel⟩⟩
set_option maxHeartbeats 4000000 in
theorem x_emptyIfSo (l : Launch) (g : GT) (q : Nat) (v : Nat → Int32)  : CtE l g M_X4_emptyIfSo [.ref q] [bnC q v] none [bnC q (b_emp v)] := by
  refine Ct.start2 (M := M_X4_emptyIfSo) rfl [(0, .ref q)] rfl (by decide +kernel) (Nat.le_of_ble_eq_true rfl) ?_
  intro p e s m args below meth c A C
  refine v_aload_n C dX4_emptyIfSo_0 0 rfl ?_
  refine v_get C in_X4 rfl 0 rfl 3 (by decide) q603 (fun _ h => h) rfl dX4_emptyIfSo_1 ?_
  refine v_if_ne C 22 dX4_emptyIfSo_4 (by decide) (fun c4_1 => ?_) (fun c4_1 => ?_)
  · skip
    exact v_vret C dX4_emptyIfSo_22 (Nat.le_of_ble_eq_true rfl) (Nat.le_of_ble_eq_true rfl) (by unfold b_emp; rw [if_neg c4_1]; exact ⟨rfl, rfl⟩)
  · skip
    refine v_aload_n C dX4_emptyIfSo_7 0 rfl ?_
    refine v_iconst (v := 0) C dX4_emptyIfSo_8 (by decide) ?_
    refine v_put (ws' := [(_, .inr (4, [_, _, _, _, _, _, _, _, _]))]) C in_X4 tyX4 tyX4_ok nmX4 rfl 0 rfl 4 (by decide) q606 (fun _ h => h) rfl rfl rfl (Nat.le_of_ble_eq_true rfl) dX4_emptyIfSo_9 rfl ?_
    refine v_aload_n C dX4_emptyIfSo_12 0 rfl ?_
    refine v_iconst (v := -1) C dX4_emptyIfSo_13 (by decide) ?_
    refine v_put (ws' := [(_, .inr (4, [_, _, _, _, _, _, _, _, _]))]) C in_X4 tyX4 tyX4_ok nmX4 rfl 0 rfl 5 (by decide) q608 (fun _ h => h) rfl rfl rfl (Nat.le_of_ble_eq_true rfl) dX4_emptyIfSo_14 rfl ?_
    refine v_aload_n C dX4_emptyIfSo_17 0 rfl ?_
    refine v_iconst (v := 0) C dX4_emptyIfSo_18 (by decide) ?_
    refine v_put (ws' := [(_, .inr (4, [_, _, _, _, _, _, _, _, _]))]) C in_X4 tyX4 tyX4_ok nmX4 rfl 0 rfl 6 (by decide) q611 (fun _ h => h) rfl rfl rfl (Nat.le_of_ble_eq_true rfl) dX4_emptyIfSo_19 rfl ?_
    exact v_vret C dX4_emptyIfSo_22 (Nat.le_of_ble_eq_true rfl) (Nat.le_of_ble_eq_true rfl) (by unfold b_emp; rw [if_pos c4_1]; exact ⟨rfl, rfl⟩)
def M_X4_take : Md := (yX4_take, cX4_take, 3, (some .int), 2, 61, 0, 0)
theorem ok_X4_take : MOKv M_X4_take 1 := ⟨q428, q429, q106, q430, ⟨by decide +kernel, by decide +kernel, by decide +kernel⟩⟩
set_option maxHeartbeats 4000000 in
theorem x_take (l : Launch) (g : GT) (q : Nat) (v : Nat → Int32) (u : Int32) (hz : ¬ u = v 3 → ¬ v 3 = 0) : CtE l g M_X4_take [.ref q, .int u] [bnC q v] (some (.int (b_share v u))) [bnC q (b_take v u)] := by
  refine Ct.start2 (M := M_X4_take) rfl [(0, .ref q), (1, .int u)] rfl (by decide +kernel) (Nat.le_of_ble_eq_true rfl) ?_
  intro p e s m args below meth c A C
  refine v_aload_n C dX4_take_0 0 rfl ?_
  refine v_iload_n C dX4_take_1 1 rfl ?_
  refine v_callVw C (x_pointsOf l g _ _ _ hz) ok_X4_pointsOf rfl q431 rfl (Nat.le_of_ble_eq_true rfl) 0 rfl rfl rfl dX4_take_2 (roomL rfl rfl) ⟨rfl, rfl⟩ ?_
  refine v_istore_n (lv' := [(2, _), (0, _), (1, _)]) C dX4_take_5 rfl (by decide) rfl ?_
  refine v_aload_n C dX4_take_6 1 rfl ?_
  refine v_dup C dX4_take_7 rfl ?_
  refine v_get C in_X4 rfl 0 rfl 3 (by decide) q603 (fun _ h => h) rfl dX4_take_8 ?_
  refine v_iload_n C dX4_take_11 2 rfl ?_
  refine v_isub C dX4_take_12 ?_
  refine v_put (ws' := [(_, .inr (4, [_, _, _, _, _, _, _, _, _]))]) C in_X4 tyX4 tyX4_ok nmX4 rfl 0 rfl 3 (by decide) q603 (fun _ h => h) rfl rfl rfl (Nat.le_of_ble_eq_true rfl) dX4_take_13 rfl ?_
  refine v_aload_n C dX4_take_16 1 rfl ?_
  refine v_dup C dX4_take_17 rfl ?_
  refine v_get C in_X4 rfl 0 rfl 4 (by decide) q606 (fun _ h => h) rfl dX4_take_18 ?_
  refine v_iload_n C dX4_take_21 0 rfl ?_
  refine v_isub C dX4_take_22 ?_
  refine v_put (ws' := [(_, .inr (4, [_, _, _, _, _, _, _, _, _]))]) C in_X4 tyX4 tyX4_ok nmX4 rfl 0 rfl 4 (by decide) q606 (fun _ h => h) rfl rfl rfl (Nat.le_of_ble_eq_true rfl) dX4_take_23 rfl ?_
  refine v_aload_n C dX4_take_26 1 rfl ?_
  refine v_dup C dX4_take_27 rfl ?_
  refine v_get C in_X4 rfl 0 rfl 8 (by decide) q615 (fun _ h => h) rfl dX4_take_28 ?_
  refine v_iload_n C dX4_take_31 2 rfl ?_
  refine v_iadd C dX4_take_32 ?_
  refine v_put (ws' := [(_, .inr (4, [_, _, _, _, _, _, _, _, _]))]) C in_X4 tyX4 tyX4_ok nmX4 rfl 0 rfl 8 (by decide) q615 (fun _ h => h) rfl rfl rfl (Nat.le_of_ble_eq_true rfl) dX4_take_33 rfl ?_
  refine v_aload_n C dX4_take_36 1 rfl ?_
  refine v_callVv C (x_emptyIfSo l g q (upd (upd (upd v 3 (v 3 - u)) 4 (v 4 - b_share v u)) 8 (v 8 + u))) ok_X4_emptyIfSo rfl q432 rfl (Nat.le_of_ble_eq_true rfl) 0 rfl rfl rfl dX4_take_37 (roomL rfl rfl) ⟨rfl, rfl⟩ ?_
  refine v_iload_n C dX4_take_40 0 rfl ?_
  exact v_iret C dX4_take_41 (Nat.le_of_ble_eq_true rfl) (Nat.le_of_ble_eq_true rfl) ⟨rfl, rfl⟩
def M_X4_put : Md := (yX4_put, cX4_put, 4, none, 1, 40, 0, 0)
theorem ok_X4_put : MOKv M_X4_put 3 := ⟨q362, q363, q106, q364, ⟨by decide +kernel, by decide +kernel, by decide +kernel⟩⟩
set_option maxHeartbeats 4000000 in
theorem x_put (l : Launch) (g : GT) (q : Nat) (v : Nat → Int32) (u pts kind : Int32) : CtE l g M_X4_put [.ref q, .int u, .int pts, .int kind] [bnC q v] none [bnC q (b_put v u pts kind)] := by
  refine Ct.start2 (M := M_X4_put) rfl [(0, .ref q), (1, .int u), (2, .int pts), (3, .int kind)] rfl (by decide +kernel) (Nat.le_of_ble_eq_true rfl) ?_
  intro p e s m args below meth c A C
  refine v_aload_n C dX4_put_0 0 rfl ?_
  refine v_dup C dX4_put_1 rfl ?_
  refine v_get C in_X4 rfl 0 rfl 3 (by decide) q603 (fun _ h => h) rfl dX4_put_2 ?_
  refine v_iload_n C dX4_put_5 1 rfl ?_
  refine v_iadd C dX4_put_6 ?_
  refine v_put (ws' := [(_, .inr (4, [_, _, _, _, _, _, _, _, _]))]) C in_X4 tyX4 tyX4_ok nmX4 rfl 0 rfl 3 (by decide) q603 (fun _ h => h) rfl rfl rfl (Nat.le_of_ble_eq_true rfl) dX4_put_7 rfl ?_
  refine v_aload_n C dX4_put_10 0 rfl ?_
  refine v_dup C dX4_put_11 rfl ?_
  refine v_get C in_X4 rfl 0 rfl 4 (by decide) q606 (fun _ h => h) rfl dX4_put_12 ?_
  refine v_iload_n C dX4_put_15 2 rfl ?_
  refine v_iadd C dX4_put_16 ?_
  refine v_put (ws' := [(_, .inr (4, [_, _, _, _, _, _, _, _, _]))]) C in_X4 tyX4 tyX4_ok nmX4 rfl 0 rfl 4 (by decide) q606 (fun _ h => h) rfl rfl rfl (Nat.le_of_ble_eq_true rfl) dX4_put_17 rfl ?_
  refine v_aload_n C dX4_put_20 0 rfl ?_
  refine v_iload_n C dX4_put_21 3 rfl ?_
  refine v_put (ws' := [(_, .inr (4, [_, _, _, _, _, _, _, _, _]))]) C in_X4 tyX4 tyX4_ok nmX4 rfl 0 rfl 5 (by decide) q608 (fun _ h => h) rfl rfl rfl (Nat.le_of_ble_eq_true rfl) dX4_put_22 rfl ?_
  refine v_aload_n C dX4_put_25 0 rfl ?_
  refine v_dup C dX4_put_26 rfl ?_
  refine v_get C in_X4 rfl 0 rfl 7 (by decide) q613 (fun _ h => h) rfl dX4_put_27 ?_
  refine v_iload_n C dX4_put_30 1 rfl ?_
  refine v_iadd C dX4_put_31 ?_
  refine v_put (ws' := [(_, .inr (4, [_, _, _, _, _, _, _, _, _]))]) C in_X4 tyX4 tyX4_ok nmX4 rfl 0 rfl 7 (by decide) q613 (fun _ h => h) rfl rfl rfl (Nat.le_of_ble_eq_true rfl) dX4_put_32 rfl ?_
  exact v_vret C dX4_put_35 (Nat.le_of_ble_eq_true rfl) (Nat.le_of_ble_eq_true rfl) ⟨rfl, rfl⟩
def M_X4_dry : Md := (yX4_dry, cX4_dry, 3, (some .int), 1, 40, 0, 0)
theorem ok_X4_dry : MOKv M_X4_dry 0 := ⟨q476, q477, q106, q478, ⟨by decide +kernel, by decide +kernel, by decide +kernel⟩⟩
set_option maxHeartbeats 4000000 in
theorem x_dry (l : Launch) (g : GT) (q : Nat) (v : Nat → Int32)  : CtE l g M_X4_dry [.ref q] [bnC q v] (some (.int (b_lost v))) [bnC q (b_dry v)] := by
  refine Ct.start2 (M := M_X4_dry) rfl [(0, .ref q)] rfl (by decide +kernel) (Nat.le_of_ble_eq_true rfl) ?_
  intro p e s m args below meth c A C
  refine v_aload_n C dX4_dry_0 0 rfl ?_
  refine v_get C in_X4 rfl 0 rfl 4 (by decide) q606 (fun _ h => h) rfl dX4_dry_1 ?_
  refine v_bipush (v := 20) C dX4_dry_4 (by decide) ?_
  refine v_idiv C dX4_dry_6 (by decide) ?_
  refine v_istore_n (lv' := [(1, _), (0, _)]) C dX4_dry_7 rfl (by decide) rfl ?_
  refine v_iload_n C dX4_dry_8 0 rfl ?_
  refine v_sipush (v := 1000) C dX4_dry_9 (by decide) ?_
  refine v_idiv C dX4_dry_12 (by decide) ?_
  refine v_aload_n C dX4_dry_13 1 rfl ?_
  refine v_get C in_X4 rfl 0 rfl 3 (by decide) q603 (fun _ h => h) rfl dX4_dry_14 ?_
  refine v_iconst (v := 1) C dX4_dry_17 (by decide) ?_
  refine v_isub C dX4_dry_18 ?_
  refine v_mmin C q479 q480 q102 q481 dX4_dry_19 (Nat.le_of_ble_eq_true rfl) (Nat.le_of_ble_eq_true rfl) (Nat.le_of_ble_eq_true rfl) (Nat.le_of_ble_eq_true rfl) ?_
  refine v_istore_n (lv' := [(2, _), (1, _), (0, _)]) C dX4_dry_22 rfl (by decide) rfl ?_
  refine v_aload_n C dX4_dry_23 2 rfl ?_
  refine v_dup C dX4_dry_24 rfl ?_
  refine v_get C in_X4 rfl 0 rfl 4 (by decide) q606 (fun _ h => h) rfl dX4_dry_25 ?_
  refine v_iload_n C dX4_dry_28 1 rfl ?_
  refine v_isub C dX4_dry_29 ?_
  refine v_put (ws' := [(_, .inr (4, [_, _, _, _, _, _, _, _, _]))]) C in_X4 tyX4 tyX4_ok nmX4 rfl 0 rfl 4 (by decide) q606 (fun _ h => h) rfl rfl rfl (Nat.le_of_ble_eq_true rfl) dX4_dry_30 rfl ?_
  refine v_aload_n C dX4_dry_33 2 rfl ?_
  refine v_dup C dX4_dry_34 rfl ?_
  refine v_get C in_X4 rfl 0 rfl 3 (by decide) q603 (fun _ h => h) rfl dX4_dry_35 ?_
  refine v_iload_n C dX4_dry_38 0 rfl ?_
  refine v_isub C dX4_dry_39 ?_
  refine v_put (ws' := [(_, .inr (4, [_, _, _, _, _, _, _, _, _]))]) C in_X4 tyX4 tyX4_ok nmX4 rfl 0 rfl 3 (by decide) q603 (fun _ h => h) rfl rfl rfl (Nat.le_of_ble_eq_true rfl) dX4_dry_40 rfl ?_
  refine v_aload_n C dX4_dry_43 2 rfl ?_
  refine v_dup C dX4_dry_44 rfl ?_
  refine v_get C in_X4 rfl 0 rfl 8 (by decide) q615 (fun _ h => h) rfl dX4_dry_45 ?_
  refine v_iload_n C dX4_dry_48 0 rfl ?_
  refine v_iadd C dX4_dry_49 ?_
  refine v_put (ws' := [(_, .inr (4, [_, _, _, _, _, _, _, _, _]))]) C in_X4 tyX4 tyX4_ok nmX4 rfl 0 rfl 8 (by decide) q615 (fun _ h => h) rfl rfl rfl (Nat.le_of_ble_eq_true rfl) dX4_dry_50 rfl ?_
  refine v_iload_n C dX4_dry_53 0 rfl ?_
  exact v_iret C dX4_dry_54 (Nat.le_of_ble_eq_true rfl) (Nat.le_of_ble_eq_true rfl) ⟨rfl, rfl⟩
def M_X4_property : Md := (yX4_property, cX4_property, 2, (some .int), 2, 60, 0, 0)
theorem ok_X4_property : MOKv M_X4_property 1 := ⟨q784, q785, q106, q786, ⟨by decide +kernel, by decide +kernel, by decide +kernel⟩⟩
set_option maxHeartbeats 4000000 in
theorem x_bprop (l : Launch) (g : GT) (q : Nat) (v : Nat → Int32) (x : Int32) : CtE l g M_X4_property [.ref q, .int x] [bnC q v] (some (.int (b_prop v x))) [bnC q v] := by
  refine Ct.start2 (M := M_X4_property) rfl [(0, .ref q), (1, .int x)] rfl (by decide +kernel) (Nat.le_of_ble_eq_true rfl) ?_
  intro p e s m args below meth c A C
  refine v_iload_n C dX4_property_0 1 rfl ?_
  by_cases w0 : x = 0
  · refine v_tableIn C 56 dX4_property_1 (by rw [w0]; decide) (by rw [w0]; decide) (by rw [w0]; rfl) (by decide) ?_
    refine v_aload_n C dX4_property_56 0 rfl ?_
    refine v_get C in_X4 rfl 0 rfl 0 (by decide) q594 (fun _ h => h) rfl dX4_property_57 ?_
    refine v_goto C 128 dX4_property_60 (by decide) ?_
    exact v_iret C dX4_property_128 (Nat.le_of_ble_eq_true rfl) (Nat.le_of_ble_eq_true rfl) (by unfold b_prop; rw [if_pos w0]; exact ⟨rfl, rfl⟩)
  by_cases w1 : x = 1
  · refine v_tableIn C 63 dX4_property_1 (by rw [w1]; decide) (by rw [w1]; decide) (by rw [w1]; rfl) (by decide) ?_
    refine v_aload_n C dX4_property_63 0 rfl ?_
    refine v_get C in_X4 rfl 0 rfl 1 (by decide) q597 (fun _ h => h) rfl dX4_property_64 ?_
    refine v_goto C 128 dX4_property_67 (by decide) ?_
    exact v_iret C dX4_property_128 (Nat.le_of_ble_eq_true rfl) (Nat.le_of_ble_eq_true rfl) (by unfold b_prop; rw [if_neg w0, if_pos w1]; exact ⟨rfl, rfl⟩)
  by_cases w2 : x = 2
  · refine v_tableIn C 70 dX4_property_1 (by rw [w2]; decide) (by rw [w2]; decide) (by rw [w2]; rfl) (by decide) ?_
    refine v_aload_n C dX4_property_70 0 rfl ?_
    refine v_get C in_X4 rfl 0 rfl 2 (by decide) q600 (fun _ h => h) rfl dX4_property_71 ?_
    refine v_goto C 128 dX4_property_74 (by decide) ?_
    exact v_iret C dX4_property_128 (Nat.le_of_ble_eq_true rfl) (Nat.le_of_ble_eq_true rfl) (by unfold b_prop; rw [if_neg w0, if_neg w1, if_pos w2]; exact ⟨rfl, rfl⟩)
  by_cases w3 : x = 3
  · refine v_tableIn C 77 dX4_property_1 (by rw [w3]; decide) (by rw [w3]; decide) (by rw [w3]; rfl) (by decide) ?_
    refine v_aload_n C dX4_property_77 0 rfl ?_
    refine v_get C in_X4 rfl 0 rfl 3 (by decide) q603 (fun _ h => h) rfl dX4_property_78 ?_
    refine v_goto C 128 dX4_property_81 (by decide) ?_
    exact v_iret C dX4_property_128 (Nat.le_of_ble_eq_true rfl) (Nat.le_of_ble_eq_true rfl) (by unfold b_prop; rw [if_neg w0, if_neg w1, if_neg w2, if_pos w3]; exact ⟨rfl, rfl⟩)
  by_cases w4 : x = 4
  · refine v_tableIn C 84 dX4_property_1 (by rw [w4]; decide) (by rw [w4]; decide) (by rw [w4]; rfl) (by decide) ?_
    refine v_aload_n C dX4_property_84 0 rfl ?_
    refine v_get C in_X4 rfl 0 rfl 4 (by decide) q606 (fun _ h => h) rfl dX4_property_85 ?_
    refine v_goto C 128 dX4_property_88 (by decide) ?_
    exact v_iret C dX4_property_128 (Nat.le_of_ble_eq_true rfl) (Nat.le_of_ble_eq_true rfl) (by unfold b_prop; rw [if_neg w0, if_neg w1, if_neg w2, if_neg w3, if_pos w4]; exact ⟨rfl, rfl⟩)
  by_cases w5 : x = 5
  · refine v_tableIn C 91 dX4_property_1 (by rw [w5]; decide) (by rw [w5]; decide) (by rw [w5]; rfl) (by decide) ?_
    refine v_aload_n C dX4_property_91 0 rfl ?_
    refine v_get C in_X4 rfl 0 rfl 5 (by decide) q608 (fun _ h => h) rfl dX4_property_92 ?_
    refine v_goto C 128 dX4_property_95 (by decide) ?_
    exact v_iret C dX4_property_128 (Nat.le_of_ble_eq_true rfl) (Nat.le_of_ble_eq_true rfl) (by unfold b_prop; rw [if_neg w0, if_neg w1, if_neg w2, if_neg w3, if_neg w4, if_pos w5]; exact ⟨rfl, rfl⟩)
  by_cases w6 : x = 6
  · refine v_tableIn C 98 dX4_property_1 (by rw [w6]; decide) (by rw [w6]; decide) (by rw [w6]; rfl) (by decide) ?_
    refine v_aload_n C dX4_property_98 0 rfl ?_
    refine v_callVw C (x_moisture l g _ _) ok_X4_moisture rfl q346 rfl (Nat.le_of_ble_eq_true rfl) 0 rfl rfl rfl dX4_property_99 (roomL rfl rfl) ⟨rfl, rfl⟩ ?_
    refine v_goto C 128 dX4_property_102 (by decide) ?_
    exact v_iret C dX4_property_128 (Nat.le_of_ble_eq_true rfl) (Nat.le_of_ble_eq_true rfl) (by unfold b_prop; rw [if_neg w0, if_neg w1, if_neg w2, if_neg w3, if_neg w4, if_neg w5, if_pos w6]; exact ⟨rfl, rfl⟩)
  by_cases w7 : x = 7
  · refine v_tableIn C 105 dX4_property_1 (by rw [w7]; decide) (by rw [w7]; decide) (by rw [w7]; rfl) (by decide) ?_
    refine v_aload_n C dX4_property_105 0 rfl ?_
    refine v_get C in_X4 rfl 0 rfl 6 (by decide) q611 (fun _ h => h) rfl dX4_property_106 ?_
    refine v_goto C 128 dX4_property_109 (by decide) ?_
    exact v_iret C dX4_property_128 (Nat.le_of_ble_eq_true rfl) (Nat.le_of_ble_eq_true rfl) (by unfold b_prop; rw [if_neg w0, if_neg w1, if_neg w2, if_neg w3, if_neg w4, if_neg w5, if_neg w6, if_pos w7]; exact ⟨rfl, rfl⟩)
  by_cases w8 : x = 8
  · refine v_tableIn C 112 dX4_property_1 (by rw [w8]; decide) (by rw [w8]; decide) (by rw [w8]; rfl) (by decide) ?_
    refine v_aload_n C dX4_property_112 0 rfl ?_
    refine v_get C in_X4 rfl 0 rfl 7 (by decide) q613 (fun _ h => h) rfl dX4_property_113 ?_
    refine v_goto C 128 dX4_property_116 (by decide) ?_
    exact v_iret C dX4_property_128 (Nat.le_of_ble_eq_true rfl) (Nat.le_of_ble_eq_true rfl) (by unfold b_prop; rw [if_neg w0, if_neg w1, if_neg w2, if_neg w3, if_neg w4, if_neg w5, if_neg w6, if_neg w7, if_pos w8]; exact ⟨rfl, rfl⟩)
  by_cases w9 : x = 9
  · refine v_tableIn C 119 dX4_property_1 (by rw [w9]; decide) (by rw [w9]; decide) (by rw [w9]; rfl) (by decide) ?_
    refine v_aload_n C dX4_property_119 0 rfl ?_
    refine v_get C in_X4 rfl 0 rfl 8 (by decide) q615 (fun _ h => h) rfl dX4_property_120 ?_
    refine v_goto C 128 dX4_property_123 (by decide) ?_
    exact v_iret C dX4_property_128 (Nat.le_of_ble_eq_true rfl) (Nat.le_of_ble_eq_true rfl) (by unfold b_prop; rw [if_neg w0, if_neg w1, if_neg w2, if_neg w3, if_neg w4, if_neg w5, if_neg w6, if_neg w7, if_neg w8, if_pos w9]; exact ⟨rfl, rfl⟩)
  refine v_tableOut C 126 dX4_property_1 (sw_out (x := x) (n := 10) (by decide) (by decide) (by intro i hi; rcases (show i = 0 ∨ i = 1 ∨ i = 2 ∨ i = 3 ∨ i = 4 ∨ i = 5 ∨ i = 6 ∨ i = 7 ∨ i = 8 ∨ i = 9 by omega) with rfl | rfl | rfl | rfl | rfl | rfl | rfl | rfl | rfl | rfl <;> first | exact w0 | exact w1 | exact w2 | exact w3 | exact w4 | exact w5 | exact w6 | exact w7 | exact w8 | exact w9)) (by decide) ?_
  refine v_bipush (v := -3) C dX4_property_126 (by decide) ?_
  exact v_iret C dX4_property_128 (Nat.le_of_ble_eq_true rfl) (Nat.le_of_ble_eq_true rfl) (by unfold b_prop; rw [if_neg w0, if_neg w1, if_neg w2, if_neg w3, if_neg w4, if_neg w5, if_neg w6, if_neg w7, if_neg w8, if_neg w9]; exact ⟨rfl, rfl⟩)
def M_X4_init_2 : Md := (yX4_init_2, cX4_init_2, 2, none, 1, 40, 0, 0)
theorem ok_X4_init_2 : MOKi M_X4_init_2 1 := ⟨q591, q106, q592, ⟨rfl, rfl⟩, ⟨by decide +kernel, by decide +kernel, by decide +kernel⟩⟩
set_option maxHeartbeats 4000000 in
theorem x_binit (l : Launch) (g : GT) (q : Nat) (cap : Int32) : CtE l g M_X4_init_2 [.ref q, .int cap] [(q, .inr (4, [.int 0, .int 0, .int 0, .int 0, .int 0, .int 0, .int 0, .int 0, .int 0]))] none [bnC q (b_new cap)] := by
  refine Ct.start2 (M := M_X4_init_2) rfl [(0, .ref q), (1, .int cap)] rfl (by decide +kernel) (Nat.le_of_ble_eq_true rfl) ?_
  intro p e s m args below meth c A C
  refine v_aload_n C dX4_init_2_0 0 rfl ?_
  refine v_objInit C q593 q118 q119 dX4_init_2_1 (Nat.le_of_ble_eq_true rfl) (Nat.le_of_ble_eq_true rfl) ?_
  refine v_aload_n C dX4_init_2_4 0 rfl ?_
  refine v_sipush (v := 400) C dX4_init_2_5 (by decide) ?_
  refine v_put (ws' := [(_, .inr (4, [_, _, _, _, _, _, _, _, _]))]) C in_X4 tyX4 tyX4_ok nmX4 rfl 0 rfl 2 (by decide) q600 (fun _ h => h) rfl rfl rfl (Nat.le_of_ble_eq_true rfl) dX4_init_2_8 rfl ?_
  refine v_aload_n C dX4_init_2_11 0 rfl ?_
  refine v_iconst (v := -1) C dX4_init_2_12 (by decide) ?_
  refine v_put (ws' := [(_, .inr (4, [_, _, _, _, _, _, _, _, _]))]) C in_X4 tyX4 tyX4_ok nmX4 rfl 0 rfl 5 (by decide) q608 (fun _ h => h) rfl rfl rfl (Nat.le_of_ble_eq_true rfl) dX4_init_2_13 rfl ?_
  refine v_aload_n C dX4_init_2_16 0 rfl ?_
  refine v_iload_n C dX4_init_2_17 1 rfl ?_
  refine v_putF (ws' := [(_, .inr (4, [_, _, _, _, _, _, _, _, _]))]) C in_X4 tyX4 tyX4_ok nmX4 rfl 0 rfl 0 (by decide) q594 (fun _ h => h) rfl rfl rfl rfl rfl (Nat.le_of_ble_eq_true rfl) dX4_init_2_18 rfl ?_
  exact v_vret C dX4_init_2_21 (Nat.le_of_ble_eq_true rfl) (Nat.le_of_ble_eq_true rfl) ⟨rfl, rfl⟩
def M_X5_init_2 : Md := (yX5_init_2, cX5_init_2, 2, none, 1, 40, 0, 0)
theorem ok_X5_init_2 : MOKi M_X5_init_2 1 := ⟨q669, q108, q670, ⟨rfl, rfl⟩, ⟨by decide +kernel, by decide +kernel, by decide +kernel⟩⟩
set_option maxHeartbeats 4000000 in
theorem x_linit (l : Launch) (g : GT) (q : Nat) (sp : Int32) : CtE l g M_X5_init_2 [.ref q, .int sp] [(q, .inr (5, [.int 0, .int 0, .int 0, .int 0]))] none [lgC q (l_new sp)] := by
  refine Ct.start2 (M := M_X5_init_2) rfl [(0, .ref q), (1, .int sp)] rfl (by decide +kernel) (Nat.le_of_ble_eq_true rfl) ?_
  intro p e s m args below meth c A C
  refine v_aload_n C dX5_init_2_0 0 rfl ?_
  refine v_objInit C q671 q118 q119 dX5_init_2_1 (Nat.le_of_ble_eq_true rfl) (Nat.le_of_ble_eq_true rfl) ?_
  refine v_aload_n C dX5_init_2_4 0 rfl ?_
  refine v_iload_n C dX5_init_2_5 1 rfl ?_
  refine v_put (ws' := [(_, .inr (5, [_, _, _, _]))]) C in_X5 tyX5 tyX5_ok nmX5 rfl 0 rfl 0 (by decide) q672 (fun _ h => h) rfl rfl rfl (Nat.le_of_ble_eq_true rfl) dX5_init_2_6 rfl ?_
  exact v_vret C dX5_init_2_9 (Nat.le_of_ble_eq_true rfl) (Nat.le_of_ble_eq_true rfl) ⟨rfl, rfl⟩
def M_X6_init_2 : Md := (yX6_init_2, cX6_init_2, 5, none, 1, 40, 0, 0)
theorem ok_X6_init_2 : MOKi M_X6_init_2 4 := ⟨q698, q109, q699, ⟨rfl, rfl⟩, ⟨by decide +kernel, by decide +kernel, by decide +kernel⟩⟩
set_option maxHeartbeats 4000000 in
theorem x_cinit (l : Launch) (g : GT) (q : Nat) (k1 k2 k3 k4 : Int32) : CtE l g M_X6_init_2 [.ref q, .int k1, .int k2, .int k3, .int k4] [(q, .inr (6, [.int 0, .int 0, .int 0, .int 0, .int 0]))] none [cnC q (c_new k1 k2 k3 k4)] := by
  refine Ct.start2 (M := M_X6_init_2) rfl [(0, .ref q), (1, .int k1), (2, .int k2), (3, .int k3), (4, .int k4)] rfl (by decide +kernel) (Nat.le_of_ble_eq_true rfl) ?_
  intro p e s m args below meth c A C
  refine v_aload_n C dX6_init_2_0 0 rfl ?_
  refine v_objInit C q700 q118 q119 dX6_init_2_1 (Nat.le_of_ble_eq_true rfl) (Nat.le_of_ble_eq_true rfl) ?_
  refine v_aload_n C dX6_init_2_4 0 rfl ?_
  refine v_iconst (v := -1) C dX6_init_2_5 (by decide) ?_
  refine v_put (ws' := [(_, .inr (6, [_, _, _, _, _]))]) C in_X6 tyX6 tyX6_ok nmX6 rfl 0 rfl 4 (by decide) q709 (fun _ h => h) rfl rfl rfl (Nat.le_of_ble_eq_true rfl) dX6_init_2_6 rfl ?_
  refine v_aload_n C dX6_init_2_9 0 rfl ?_
  refine v_iload_n C dX6_init_2_10 1 rfl ?_
  refine v_putF (ws' := [(_, .inr (6, [_, _, _, _, _]))]) C in_X6 tyX6 tyX6_ok nmX6 rfl 0 rfl 0 (by decide) q701 (fun _ h => h) rfl rfl rfl rfl rfl (Nat.le_of_ble_eq_true rfl) dX6_init_2_11 rfl ?_
  refine v_aload_n C dX6_init_2_14 0 rfl ?_
  refine v_iload_n C dX6_init_2_15 2 rfl ?_
  refine v_putF (ws' := [(_, .inr (6, [_, _, _, _, _]))]) C in_X6 tyX6 tyX6_ok nmX6 rfl 0 rfl 1 (by decide) q703 (fun _ h => h) rfl rfl rfl rfl rfl (Nat.le_of_ble_eq_true rfl) dX6_init_2_16 rfl ?_
  refine v_aload_n C dX6_init_2_19 0 rfl ?_
  refine v_iload_n C dX6_init_2_20 3 rfl ?_
  refine v_putF (ws' := [(_, .inr (6, [_, _, _, _, _]))]) C in_X6 tyX6 tyX6_ok nmX6 rfl 0 rfl 2 (by decide) q705 (fun _ h => h) rfl rfl rfl rfl rfl (Nat.le_of_ble_eq_true rfl) dX6_init_2_21 rfl ?_
  refine v_aload_n C dX6_init_2_24 0 rfl ?_
  refine v_iload C dX6_init_2_25 4 rfl ?_
  refine v_putF (ws' := [(_, .inr (6, [_, _, _, _, _]))]) C in_X6 tyX6 tyX6_ok nmX6 rfl 0 rfl 3 (by decide) q707 (fun _ h => h) rfl rfl rfl rfl rfl (Nat.le_of_ble_eq_true rfl) dX6_init_2_27 rfl ?_
  exact v_vret C dX6_init_2_30 (Nat.le_of_ble_eq_true rfl) (Nat.le_of_ble_eq_true rfl) ⟨rfl, rfl⟩
def M_X4_init : Md := (yX4_init, cX4_init, 2, none, 2, 61, 0, 0)
theorem ok_X4_init : MOKi M_X4_init 1 := ⟨q588, q106, q589, ⟨rfl, rfl⟩, ⟨by decide +kernel, by decide +kernel, by decide +kernel⟩⟩
set_option maxHeartbeats 4000000 in
theorem x_bcopy (l : Launch) (g : GT) (q : Nat) (q2 : Nat) (v : Nat → Int32) : CtE l g M_X4_init [.ref q, .ref q2] [(q, .inr (4, [.int 0, .int 0, .int 0, .int 0, .int 0, .int 0, .int 0, .int 0, .int 0])), bnC q2 v] none [bnC q v, bnC q2 v] := by
  refine Ct.start2 (M := M_X4_init) rfl [(0, .ref q), (1, .ref q2)] rfl (by decide +kernel) (Nat.le_of_ble_eq_true rfl) ?_
  intro p e s m args below meth c A C
  refine v_aload_n C dX4_init_0 0 rfl ?_
  refine v_aload_n C dX4_init_1 1 rfl ?_
  refine v_get C in_X4 rfl 1 rfl 0 (by decide) q594 (fun _ h => h) rfl dX4_init_2 ?_
  refine v_cMI (ws' := [bnC q (b_new (v 0)), bnC q2 v]) C (x_binit l g q (v 0)) [] rfl ok_X4_init_2 rfl q590 rfl (Nat.le_of_ble_eq_true rfl) dX4_init_5 (roomL rfl rfl) rfl ?_
  refine v_aload_n C dX4_init_8 0 rfl ?_
  refine v_aload_n C dX4_init_9 1 rfl ?_
  refine v_get C in_X4 rfl 1 rfl 1 (by decide) q597 (fun _ h => h) rfl dX4_init_10 ?_
  refine v_put (ws' := [(_, .inr (4, [_, _, _, _, _, _, _, _, _])), (_, .inr (4, [_, _, _, _, _, _, _, _, _]))]) C in_X4 tyX4 tyX4_ok nmX4 rfl 0 rfl 1 (by decide) q597 (fun _ h => h) rfl rfl rfl (Nat.le_of_ble_eq_true rfl) dX4_init_13 rfl ?_
  refine v_aload_n C dX4_init_16 0 rfl ?_
  refine v_aload_n C dX4_init_17 1 rfl ?_
  refine v_get C in_X4 rfl 1 rfl 2 (by decide) q600 (fun _ h => h) rfl dX4_init_18 ?_
  refine v_put (ws' := [(_, .inr (4, [_, _, _, _, _, _, _, _, _])), (_, .inr (4, [_, _, _, _, _, _, _, _, _]))]) C in_X4 tyX4 tyX4_ok nmX4 rfl 0 rfl 2 (by decide) q600 (fun _ h => h) rfl rfl rfl (Nat.le_of_ble_eq_true rfl) dX4_init_21 rfl ?_
  refine v_aload_n C dX4_init_24 0 rfl ?_
  refine v_aload_n C dX4_init_25 1 rfl ?_
  refine v_get C in_X4 rfl 1 rfl 3 (by decide) q603 (fun _ h => h) rfl dX4_init_26 ?_
  refine v_put (ws' := [(_, .inr (4, [_, _, _, _, _, _, _, _, _])), (_, .inr (4, [_, _, _, _, _, _, _, _, _]))]) C in_X4 tyX4 tyX4_ok nmX4 rfl 0 rfl 3 (by decide) q603 (fun _ h => h) rfl rfl rfl (Nat.le_of_ble_eq_true rfl) dX4_init_29 rfl ?_
  refine v_aload_n C dX4_init_32 0 rfl ?_
  refine v_aload_n C dX4_init_33 1 rfl ?_
  refine v_get C in_X4 rfl 1 rfl 4 (by decide) q606 (fun _ h => h) rfl dX4_init_34 ?_
  refine v_put (ws' := [(_, .inr (4, [_, _, _, _, _, _, _, _, _])), (_, .inr (4, [_, _, _, _, _, _, _, _, _]))]) C in_X4 tyX4 tyX4_ok nmX4 rfl 0 rfl 4 (by decide) q606 (fun _ h => h) rfl rfl rfl (Nat.le_of_ble_eq_true rfl) dX4_init_37 rfl ?_
  refine v_aload_n C dX4_init_40 0 rfl ?_
  refine v_aload_n C dX4_init_41 1 rfl ?_
  refine v_get C in_X4 rfl 1 rfl 5 (by decide) q608 (fun _ h => h) rfl dX4_init_42 ?_
  refine v_put (ws' := [(_, .inr (4, [_, _, _, _, _, _, _, _, _])), (_, .inr (4, [_, _, _, _, _, _, _, _, _]))]) C in_X4 tyX4 tyX4_ok nmX4 rfl 0 rfl 5 (by decide) q608 (fun _ h => h) rfl rfl rfl (Nat.le_of_ble_eq_true rfl) dX4_init_45 rfl ?_
  refine v_aload_n C dX4_init_48 0 rfl ?_
  refine v_aload_n C dX4_init_49 1 rfl ?_
  refine v_get C in_X4 rfl 1 rfl 6 (by decide) q611 (fun _ h => h) rfl dX4_init_50 ?_
  refine v_put (ws' := [(_, .inr (4, [_, _, _, _, _, _, _, _, _])), (_, .inr (4, [_, _, _, _, _, _, _, _, _]))]) C in_X4 tyX4 tyX4_ok nmX4 rfl 0 rfl 6 (by decide) q611 (fun _ h => h) rfl rfl rfl (Nat.le_of_ble_eq_true rfl) dX4_init_53 rfl ?_
  refine v_aload_n C dX4_init_56 0 rfl ?_
  refine v_aload_n C dX4_init_57 1 rfl ?_
  refine v_get C in_X4 rfl 1 rfl 7 (by decide) q613 (fun _ h => h) rfl dX4_init_58 ?_
  refine v_put (ws' := [(_, .inr (4, [_, _, _, _, _, _, _, _, _])), (_, .inr (4, [_, _, _, _, _, _, _, _, _]))]) C in_X4 tyX4 tyX4_ok nmX4 rfl 0 rfl 7 (by decide) q613 (fun _ h => h) rfl rfl rfl (Nat.le_of_ble_eq_true rfl) dX4_init_61 rfl ?_
  refine v_aload_n C dX4_init_64 0 rfl ?_
  refine v_aload_n C dX4_init_65 1 rfl ?_
  refine v_get C in_X4 rfl 1 rfl 8 (by decide) q615 (fun _ h => h) rfl dX4_init_66 ?_
  refine v_put (ws' := [(_, .inr (4, [_, _, _, _, _, _, _, _, _])), (_, .inr (4, [_, _, _, _, _, _, _, _, _]))]) C in_X4 tyX4 tyX4_ok nmX4 rfl 0 rfl 8 (by decide) q615 (fun _ h => h) rfl rfl rfl (Nat.le_of_ble_eq_true rfl) dX4_init_69 rfl ?_
  exact v_vret C dX4_init_72 (Nat.le_of_ble_eq_true rfl) (Nat.le_of_ble_eq_true rfl) ⟨rfl, rfl⟩
def M_X5_init : Md := (yX5_init, cX5_init, 2, none, 2, 61, 0, 0)
theorem ok_X5_init : MOKi M_X5_init 1 := ⟨q666, q108, q667, ⟨rfl, rfl⟩, ⟨by decide +kernel, by decide +kernel, by decide +kernel⟩⟩
set_option maxHeartbeats 4000000 in
theorem x_lcopy (l : Launch) (g : GT) (q : Nat) (q2 : Nat) (v : Nat → Int32) : CtE l g M_X5_init [.ref q, .ref q2] [(q, .inr (5, [.int 0, .int 0, .int 0, .int 0])), lgC q2 v] none [lgC q v, lgC q2 v] := by
  refine Ct.start2 (M := M_X5_init) rfl [(0, .ref q), (1, .ref q2)] rfl (by decide +kernel) (Nat.le_of_ble_eq_true rfl) ?_
  intro p e s m args below meth c A C
  refine v_aload_n C dX5_init_0 0 rfl ?_
  refine v_aload_n C dX5_init_1 1 rfl ?_
  refine v_get C in_X5 rfl 1 rfl 0 (by decide) q672 (fun _ h => h) rfl dX5_init_2 ?_
  refine v_cMI (ws' := [lgC q (l_new (v 0)), lgC q2 v]) C (x_linit l g q (v 0)) [] rfl ok_X5_init_2 rfl q668 rfl (Nat.le_of_ble_eq_true rfl) dX5_init_5 (roomL rfl rfl) rfl ?_
  refine v_aload_n C dX5_init_8 0 rfl ?_
  refine v_aload_n C dX5_init_9 1 rfl ?_
  refine v_get C in_X5 rfl 1 rfl 1 (by decide) q675 (fun _ h => h) rfl dX5_init_10 ?_
  refine v_put (ws' := [(_, .inr (5, [_, _, _, _])), (_, .inr (5, [_, _, _, _]))]) C in_X5 tyX5 tyX5_ok nmX5 rfl 0 rfl 1 (by decide) q675 (fun _ h => h) rfl rfl rfl (Nat.le_of_ble_eq_true rfl) dX5_init_13 rfl ?_
  refine v_aload_n C dX5_init_16 0 rfl ?_
  refine v_aload_n C dX5_init_17 1 rfl ?_
  refine v_get C in_X5 rfl 1 rfl 2 (by decide) q678 (fun _ h => h) rfl dX5_init_18 ?_
  refine v_put (ws' := [(_, .inr (5, [_, _, _, _])), (_, .inr (5, [_, _, _, _]))]) C in_X5 tyX5 tyX5_ok nmX5 rfl 0 rfl 2 (by decide) q678 (fun _ h => h) rfl rfl rfl (Nat.le_of_ble_eq_true rfl) dX5_init_21 rfl ?_
  refine v_aload_n C dX5_init_24 0 rfl ?_
  refine v_aload_n C dX5_init_25 1 rfl ?_
  refine v_get C in_X5 rfl 1 rfl 3 (by decide) q681 (fun _ h => h) rfl dX5_init_26 ?_
  refine v_put (ws' := [(_, .inr (5, [_, _, _, _])), (_, .inr (5, [_, _, _, _]))]) C in_X5 tyX5 tyX5_ok nmX5 rfl 0 rfl 3 (by decide) q681 (fun _ h => h) rfl rfl rfl (Nat.le_of_ble_eq_true rfl) dX5_init_29 rfl ?_
  exact v_vret C dX5_init_32 (Nat.le_of_ble_eq_true rfl) (Nat.le_of_ble_eq_true rfl) ⟨rfl, rfl⟩
def M_X6_init : Md := (yX6_init, cX6_init, 2, none, 2, 64, 0, 0)
theorem ok_X6_init : MOKi M_X6_init 1 := ⟨q695, q109, q696, ⟨rfl, rfl⟩, ⟨by decide +kernel, by decide +kernel, by decide +kernel⟩⟩
set_option maxHeartbeats 4000000 in
theorem x_ccopy (l : Launch) (g : GT) (q : Nat) (q2 : Nat) (v : Nat → Int32) : CtE l g M_X6_init [.ref q, .ref q2] [(q, .inr (6, [.int 0, .int 0, .int 0, .int 0, .int 0])), cnC q2 v] none [cnC q v, cnC q2 v] := by
  refine Ct.start2 (M := M_X6_init) rfl [(0, .ref q), (1, .ref q2)] rfl (by decide +kernel) (Nat.le_of_ble_eq_true rfl) ?_
  intro p e s m args below meth c A C
  refine v_aload_n C dX6_init_0 0 rfl ?_
  refine v_aload_n C dX6_init_1 1 rfl ?_
  refine v_get C in_X6 rfl 1 rfl 0 (by decide) q701 (fun _ h => h) rfl dX6_init_2 ?_
  refine v_aload_n C dX6_init_5 1 rfl ?_
  refine v_get C in_X6 rfl 1 rfl 1 (by decide) q703 (fun _ h => h) rfl dX6_init_6 ?_
  refine v_aload_n C dX6_init_9 1 rfl ?_
  refine v_get C in_X6 rfl 1 rfl 2 (by decide) q705 (fun _ h => h) rfl dX6_init_10 ?_
  refine v_aload_n C dX6_init_13 1 rfl ?_
  refine v_get C in_X6 rfl 1 rfl 3 (by decide) q707 (fun _ h => h) rfl dX6_init_14 ?_
  refine v_cMI (ws' := [cnC q (c_new (v 0) (v 1) (v 2) (v 3)), cnC q2 v]) C (x_cinit l g q (v 0) (v 1) (v 2) (v 3)) [] rfl ok_X6_init_2 rfl q697 rfl (Nat.le_of_ble_eq_true rfl) dX6_init_17 (roomL rfl rfl) rfl ?_
  refine v_aload_n C dX6_init_20 0 rfl ?_
  refine v_aload_n C dX6_init_21 1 rfl ?_
  refine v_get C in_X6 rfl 1 rfl 4 (by decide) q709 (fun _ h => h) rfl dX6_init_22 ?_
  refine v_put (ws' := [(_, .inr (6, [_, _, _, _, _])), (_, .inr (6, [_, _, _, _, _]))]) C in_X6 tyX6 tyX6_ok nmX6 rfl 0 rfl 4 (by decide) q709 (fun _ h => h) rfl rfl rfl (Nat.le_of_ble_eq_true rfl) dX6_init_25 rfl ?_
  exact v_vret C dX6_init_28 (Nat.le_of_ble_eq_true rfl) (Nat.le_of_ble_eq_true rfl) ⟨rfl, rfl⟩
def M_X5_lift : Md := (yX5_lift, cX5_lift, 3, none, 1, 40, 0, 0)
theorem ok_X5_lift : MOKv M_X5_lift 2 := ⟨q367, q368, q108, q369, ⟨by decide +kernel, by decide +kernel, by decide +kernel⟩⟩
set_option maxHeartbeats 4000000 in
theorem x_lift (l : Launch) (g : GT) (q : Nat) (v : Nat → Int32) (amt mo : Int32) : CtE l g M_X5_lift [.ref q, .int amt, .int mo] [lgC q v] none [lgC q (l_lift v amt mo)] := by
  refine Ct.start2 (M := M_X5_lift) rfl [(0, .ref q), (1, .int amt), (2, .int mo)] rfl (by decide +kernel) (Nat.le_of_ble_eq_true rfl) ?_
  intro p e s m args below meth c A C
  refine v_aload_n C dX5_lift_0 0 rfl ?_
  refine v_dup C dX5_lift_1 rfl ?_
  refine v_get C in_X5 rfl 0 rfl 2 (by decide) q678 (fun _ h => h) rfl dX5_lift_2 ?_
  refine v_iload_n C dX5_lift_5 1 rfl ?_
  refine v_i2l C dX5_lift_6 ?_
  refine v_aload_n C dX5_lift_7 0 rfl ?_
  refine v_get C in_X5 rfl 0 rfl 0 (by decide) q672 (fun _ h => h) rfl dX5_lift_8 ?_
  refine v_i2l C dX5_lift_11 ?_
  refine v_lmul C dX5_lift_12 ?_
  refine v_sipush (v := 400) C dX5_lift_13 (by decide) ?_
  refine v_iload_n C dX5_lift_16 2 rfl ?_
  refine v_isub C dX5_lift_17 ?_
  refine v_i2l C dX5_lift_18 ?_
  refine v_lmul C dX5_lift_19 ?_
  refine v_ldc2 C dX5_lift_20 q370 ?_
  refine v_ldiv C dX5_lift_23 (by decide) ?_
  refine v_l2i C dX5_lift_24 ?_
  refine v_iadd C dX5_lift_25 ?_
  refine v_put (ws' := [(_, .inr (5, [_, _, _, _]))]) C in_X5 tyX5 tyX5_ok nmX5 rfl 0 rfl 2 (by decide) q678 (fun _ h => h) rfl rfl rfl (Nat.le_of_ble_eq_true rfl) dX5_lift_26 rfl ?_
  refine v_aload_n C dX5_lift_29 0 rfl ?_
  refine v_dup C dX5_lift_30 rfl ?_
  refine v_get C in_X5 rfl 0 rfl 3 (by decide) q681 (fun _ h => h) rfl dX5_lift_31 ?_
  refine v_iload_n C dX5_lift_34 1 rfl ?_
  refine v_iadd C dX5_lift_35 ?_
  refine v_put (ws' := [(_, .inr (5, [_, _, _, _]))]) C in_X5 tyX5 tyX5_ok nmX5 rfl 0 rfl 3 (by decide) q681 (fun _ h => h) rfl rfl rfl (Nat.le_of_ble_eq_true rfl) dX5_lift_36 rfl ?_
  exact v_vret C dX5_lift_39 (Nat.le_of_ble_eq_true rfl) (Nat.le_of_ble_eq_true rfl) ⟨rfl, rfl⟩
def M_X6_isOpen : Md := (yX6_isOpen, cX6_isOpen, 1, (some .boolean), 1, 40, 0, 0)
theorem ok_X6_isOpen : MOKv M_X6_isOpen 0 := ⟨q763, q764, q109, q765, ⟨by decide +kernel, by decide +kernel, by decide +kernel⟩⟩
set_option maxHeartbeats 4000000 in
theorem x_isOpen (l : Launch) (g : GT) (q : Nat) (v : Nat → Int32)  : CtE l g M_X6_isOpen [.ref q] [cnC q v] (some (.int (bI (c_open v)))) [cnC q v] := by
  refine Ct.start2 (M := M_X6_isOpen) rfl [(0, .ref q)] rfl (by decide +kernel) (Nat.le_of_ble_eq_true rfl) ?_
  intro p e s m args below meth c A C
  refine v_aload_n C dX6_isOpen_0 0 rfl ?_
  refine v_get C in_X6 rfl 0 rfl 4 (by decide) q709 (fun _ h => h) rfl dX6_isOpen_1 ?_
  refine v_iconst (v := -1) C dX6_isOpen_4 (by decide) ?_
  refine v_ternI C 12 13 dX6_isOpen_8 dX6_isOpen_9 dX6_isOpen_12 (by decide) rfl (fun ht hf => v_icmp_ne C 12 dX6_isOpen_5 (by decide) (fun q => ht q) (fun q => hf q)) ?_
  exact v_zret C (bI_nar _) dX6_isOpen_13 (Nat.le_of_ble_eq_true rfl) (Nat.le_of_ble_eq_true rfl) ⟨rfl, rfl⟩
def M_X6_property : Md := (yX6_property, cX6_property, 2, (some .int), 2, 60, 0, 0)
theorem ok_X6_property : MOKv M_X6_property 1 := ⟨q851, q852, q109, q853, ⟨by decide +kernel, by decide +kernel, by decide +kernel⟩⟩
set_option maxHeartbeats 4000000 in
theorem x_cprop (l : Launch) (g : GT) (q : Nat) (v : Nat → Int32) (x : Int32) : CtE l g M_X6_property [.ref q, .int x] [cnC q v] (some (.int (c_prop v x))) [cnC q v] := by
  refine Ct.start2 (M := M_X6_property) rfl [(0, .ref q), (1, .int x)] rfl (by decide +kernel) (Nat.le_of_ble_eq_true rfl) ?_
  intro p e s m args below meth c A C
  refine v_iload_n C dX6_property_0 1 rfl ?_
  by_cases w0 : x = 0
  · refine v_tableIn C 40 dX6_property_1 (by rw [w0]; decide) (by rw [w0]; decide) (by rw [w0]; rfl) (by decide) ?_
    refine v_aload_n C dX6_property_40 0 rfl ?_
    refine v_get C in_X6 rfl 0 rfl 0 (by decide) q701 (fun _ h => h) rfl dX6_property_41 ?_
    refine v_goto C 92 dX6_property_44 (by decide) ?_
    exact v_iret C dX6_property_92 (Nat.le_of_ble_eq_true rfl) (Nat.le_of_ble_eq_true rfl) (by unfold c_prop; rw [if_pos w0]; exact ⟨rfl, rfl⟩)
  by_cases w1 : x = 1
  · refine v_tableIn C 47 dX6_property_1 (by rw [w1]; decide) (by rw [w1]; decide) (by rw [w1]; rfl) (by decide) ?_
    refine v_aload_n C dX6_property_47 0 rfl ?_
    refine v_get C in_X6 rfl 0 rfl 1 (by decide) q703 (fun _ h => h) rfl dX6_property_48 ?_
    refine v_goto C 92 dX6_property_51 (by decide) ?_
    exact v_iret C dX6_property_92 (Nat.le_of_ble_eq_true rfl) (Nat.le_of_ble_eq_true rfl) (by unfold c_prop; rw [if_neg w0, if_pos w1]; exact ⟨rfl, rfl⟩)
  by_cases w2 : x = 2
  · refine v_tableIn C 54 dX6_property_1 (by rw [w2]; decide) (by rw [w2]; decide) (by rw [w2]; rfl) (by decide) ?_
    refine v_aload_n C dX6_property_54 0 rfl ?_
    refine v_get C in_X6 rfl 0 rfl 2 (by decide) q705 (fun _ h => h) rfl dX6_property_55 ?_
    refine v_goto C 92 dX6_property_58 (by decide) ?_
    exact v_iret C dX6_property_92 (Nat.le_of_ble_eq_true rfl) (Nat.le_of_ble_eq_true rfl) (by unfold c_prop; rw [if_neg w0, if_neg w1, if_pos w2]; exact ⟨rfl, rfl⟩)
  by_cases w3 : x = 3
  · refine v_tableIn C 61 dX6_property_1 (by rw [w3]; decide) (by rw [w3]; decide) (by rw [w3]; rfl) (by decide) ?_
    refine v_aload_n C dX6_property_61 0 rfl ?_
    refine v_get C in_X6 rfl 0 rfl 3 (by decide) q707 (fun _ h => h) rfl dX6_property_62 ?_
    refine v_goto C 92 dX6_property_65 (by decide) ?_
    exact v_iret C dX6_property_92 (Nat.le_of_ble_eq_true rfl) (Nat.le_of_ble_eq_true rfl) (by unfold c_prop; rw [if_neg w0, if_neg w1, if_neg w2, if_pos w3]; exact ⟨rfl, rfl⟩)
  by_cases w4 : x = 4
  · refine v_tableIn C 68 dX6_property_1 (by rw [w4]; decide) (by rw [w4]; decide) (by rw [w4]; rfl) (by decide) ?_
    refine v_aload_n C dX6_property_68 0 rfl ?_
    refine v_callVw C (x_isOpen l g _ _) ok_X6_isOpen rfl q854 rfl (Nat.le_of_ble_eq_true rfl) 0 rfl rfl rfl dX6_property_69 (roomL rfl rfl) ⟨rfl, rfl⟩ ?_
    refine v_if_eqB C 79 dX6_property_72 (by decide) (fun c72_1 => ?_) (fun c72_1 => ?_)
    · skip
      refine v_iconst (v := 0) C dX6_property_79 (by decide) ?_
      refine v_goto C 92 dX6_property_80 (by decide) ?_
      exact v_iret C dX6_property_92 (Nat.le_of_ble_eq_true rfl) (Nat.le_of_ble_eq_true rfl) (by unfold c_prop; rw [if_neg w0, if_neg w1, if_neg w2, if_neg w3, if_pos w4, if_neg c72_1]; exact ⟨rfl, rfl⟩)
    · skip
      refine v_iconst (v := 1) C dX6_property_75 (by decide) ?_
      refine v_goto C 92 dX6_property_76 (by decide) ?_
      exact v_iret C dX6_property_92 (Nat.le_of_ble_eq_true rfl) (Nat.le_of_ble_eq_true rfl) (by unfold c_prop; rw [if_neg w0, if_neg w1, if_neg w2, if_neg w3, if_pos w4, if_pos c72_1]; exact ⟨rfl, rfl⟩)
  by_cases w5 : x = 5
  · refine v_tableIn C 83 dX6_property_1 (by rw [w5]; decide) (by rw [w5]; decide) (by rw [w5]; rfl) (by decide) ?_
    refine v_aload_n C dX6_property_83 0 rfl ?_
    refine v_get C in_X6 rfl 0 rfl 4 (by decide) q709 (fun _ h => h) rfl dX6_property_84 ?_
    refine v_goto C 92 dX6_property_87 (by decide) ?_
    exact v_iret C dX6_property_92 (Nat.le_of_ble_eq_true rfl) (Nat.le_of_ble_eq_true rfl) (by unfold c_prop; rw [if_neg w0, if_neg w1, if_neg w2, if_neg w3, if_neg w4, if_pos w5]; exact ⟨rfl, rfl⟩)
  refine v_tableOut C 90 dX6_property_1 (sw_out (x := x) (n := 6) (by decide) (by decide) (by intro i hi; rcases (show i = 0 ∨ i = 1 ∨ i = 2 ∨ i = 3 ∨ i = 4 ∨ i = 5 by omega) with rfl | rfl | rfl | rfl | rfl | rfl <;> first | exact w0 | exact w1 | exact w2 | exact w3 | exact w4 | exact w5)) (by decide) ?_
  refine v_bipush (v := -3) C dX6_property_90 (by decide) ?_
  exact v_iret C dX6_property_92 (Nat.le_of_ble_eq_true rfl) (Nat.le_of_ble_eq_true rfl) (by unfold c_prop; rw [if_neg w0, if_neg w1, if_neg w2, if_neg w3, if_neg w4, if_neg w5]; exact ⟨rfl, rfl⟩)
