/-! StringBuilder -/
set_option maxRecDepth 100000
def bt (c : Int32) : Int32 := vp_nar .byte c.toInt8.toInt32
abbrev sbW (g : GT) (t0 t1 : Nat) (mb : Int32) (n : Nat) (t : Nat → Int32) : va_W := [(t0, .inr (10, [.ref t1, .int 0, .int mb, .int (nI n)])), (t1, .inl (g.2 3, 120, .inl (fun j => bt (t j))))]
theorem chr_all : ∀ n, n < 256 → ((bt (nI n) &&& 255).toUInt32 % 65536).toInt32 = nI n ∧ narrow .char (.int (nI n)) = .int (nI n) ∧ ((nI n).toUInt32 % 65536).toInt32 = nI n := by decide +kernel
theorem in255 {c : Int32} (h : 0 ≤ c ∧ c ≤ 255) : ∃ n, n < 256 ∧ c = nI n := by
  obtain ⟨e, h2⟩ := in_c (n := 255) rfl (by decide) h
  exact ⟨c.toNatClampNeg, by omega, e⟩
theorem chr_rt {c : Int32} (h : 0 ≤ c ∧ c ≤ 255) : ((bt c &&& 255).toUInt32 % 65536).toInt32 = c := by
  obtain ⟨n, hn, rfl⟩ := in255 h; exact (chr_all n hn).1
theorem chr_nar {c : Int32} (h : 0 ≤ c ∧ c ≤ 255) : narrow .char (.int c) = .int c := by
  obtain ⟨n, hn, rfl⟩ := in255 h; exact (chr_all n hn).2.1
theorem chr_i2c {c : Int32} (h : 0 ≤ c ∧ c ≤ 255) : (c.toUInt32 % 65536).toInt32 = c := by
  obtain ⟨n, hn, rfl⟩ := in255 h; exact (chr_all n hn).2.2
theorem bt_upd (t : Nat → Int32) (n : Nat) (c : Int32) : upd (fun j => bt (t j)) n (vp_nar .byte c.toInt8.toInt32) = fun j => bt (upd t n c j) := by
  funext j; unfold upd; split <;> rfl
theorem sh0 : (120 : Int32) >>> ((0 : Int32) &&& 31) = 120 := by decide
theorem cap_ok : ∀ n, n ≤ 120 → nI n - (120 : Int32) >>> ((0 : Int32) &&& 31) ≤ 0 := by decide +kernel
theorem min_ok {n : Nat} (h : n ≤ 120) : (if (120 : Int32) >>> ((0 : Int32) &&& 31) < nI n then (120 : Int32) >>> ((0 : Int32) &&& 31) else nI n) = nI n := by
  refine if_neg ?_
  rw [sh0]
  intro q
  exact absurd ((nI_leI (a := n) (b := 120) (by omega) (by decide)).mpr h) (Int32.not_le.mpr q)
section VSB
variable {p : Program} {l : Launch} {e : Env} {R : Room} {s : State} {m : MethodId} {args : Array Value} {below : List Frame} {meth : Method} {c : Code} {g : GT} {A : Nat → Prop} {nL cells slots : Nat} {Q : State → Prop} {y : MethodName} {cc : ByteArray} {ret : Option FieldType} {pc : Nat} {lv : List (Nat × Value)} {st : List Value} {ws : va_W}
variable {M : Md} {w ws' : va_W} {As st0 : List Value} {index b n : Nat} {r : Option Value}
theorem v_zU (C : Cx p s m args meth c g A y cc nL ret) (hM : CtE l g M (.ref b :: As) ws r w) (ok : MOKk M n) (hne : M.1.name ≠ "<init>") (hn : As.length = n) (hlk : Cond.methodLink y.cls index M.1 ∈ lw_all) (hsm : Cond.sameMethod M.1.cls M.1.cls M.1.name M.1.desc ∈ lw_all) (hsup : Cond.superclass y.cls M.1.cls ∈ lw_all) (hst : st0 = As.reverse ++ .ref b :: st) (h8 : (st.map fun v => v.category).sum ≤ 8) {ci : Nat} {r0 : vw_C} {fs : List Value} (q0 : Nat) (he : ws[q0]? = some (b, .inr (ci, fs))) (hc : vwCl[ci]? = some r0) (d : decode cc pc = .ok (.invokespecial index, 3)) (hR : roomOk M R cells slots) (hw : w = ws')
    (k : V p l e R s m args below meth c g A nL (cells + M.2.2.2.2.2.2.1) (slots + M.2.2.2.2.2.2.2) Q (pc + 3) lv (r.toList ++ st) ws') : V p l e R s m args below meth c g A nL cells slots Q pc lv st0 ws := by
  subst hw
  exact v_callU C hM ok hne hn hlk hsm hsup hst h8 q0 he hc d hR (wr := []) (by rw [List.append_nil]) (fun rv w' h => by obtain ⟨rfl, rfl⟩ := h; rw [List.append_nil]; exact k)
theorem v_zK (C : Cx p s m args meth c g A y cc nL ret) (hM : CtE l g M (.ref b :: As) ws r w) (ok : MOKk M n) (hn : As.length = n) (hlk : Cond.methodLink y.cls index M.1 ∈ lw_all) (hst : st0 = As.reverse ++ .ref b :: st) (h8 : (st.map fun v => v.category).sum ≤ 8) {ci : Nat} {r0 : vw_C} {fs : List Value} (hsel : (Cond.selects r0.1 M.1 M.1).before args s = true) (q0 : Nat) (he : ws[q0]? = some (b, .inr (ci, fs))) (hc : vwCl[ci]? = some r0) (d : decode cc pc = .ok (.invokevirtual index, 3)) (hR : roomOk M R cells slots) (hw : w = ws')
    (k : V p l e R s m args below meth c g A nL (cells + M.2.2.2.2.2.2.1) (slots + M.2.2.2.2.2.2.2) Q (pc + 3) lv (r.toList ++ st) ws') : V p l e R s m args below meth c g A nL cells slots Q pc lv st0 ws := by
  subst hw
  exact v_callK C hM ok hn hlk hst h8 hsel q0 he hc d hR (wr := []) (by rw [List.append_nil]) (fun rv w' h => by obtain ⟨rfl, rfl⟩ := h; rw [List.append_nil]; exact k)
end VSB
def M_J13_canEncode : Md := (yJ13_canEncode, cJ13_canEncode, 1, (some .boolean), 1, 40, 0, 0)
theorem ok_J13_canEncode : MOKs M_J13_canEncode 1 := ⟨q977, q110, q978, ⟨by decide +kernel, by decide +kernel, by decide +kernel⟩⟩
set_option maxHeartbeats 4000000 in
theorem j_canEnc (l : Launch) (g : GT) (c : Int32) (hc : 0 ≤ c ∧ c ≤ 255) : CtE l g M_J13_canEncode [.int c] [] (some (.int 1)) [] := by
  refine Ct.start2 (M := M_J13_canEncode) rfl [(0, .int c)] rfl (by decide +kernel) (Nat.le_of_ble_eq_true rfl) ?_
  intro p e s m args below meth c A9 C
  refine v_iload_n C dJ13_canEncode_0 0 rfl ?_
  refine v_sipush (v := 255) C dJ13_canEncode_1 (by decide) ?_
  refine v_icmp_gt C 11 dJ13_canEncode_4 (by decide) (fun c4_1 => ?_) (fun c4_1 => ?_)
  · exact absurd hc.2 (Int32.not_le.mpr c4_1)
  · skip
    refine v_iconst (v := 1) C dJ13_canEncode_7 (by decide) ?_
    refine v_goto C 12 dJ13_canEncode_8 (by decide) ?_
    exact v_zret C rfl dJ13_canEncode_12 (Nat.le_of_ble_eq_true rfl) (Nat.le_of_ble_eq_true rfl) ⟨rfl, rfl⟩
def M_J6_checkIndex : Md := (yJ6_checkIndex, cJ6_checkIndex, 2, none, 2, 62, 0, 0)
theorem ok_J6_checkIndex : MOKs M_J6_checkIndex 2 := ⟨q1019, q97, q1020, ⟨by decide +kernel, by decide +kernel, by decide +kernel⟩⟩
set_option maxHeartbeats 4000000 in
theorem j_chk6 (l : Launch) (g : GT) (i n : Nat) (hi : i < n) (hn : n ≤ 1000) : CtE l g M_J6_checkIndex [.int (nI i), .int (nI n)] [] none [] := by
  refine Ct.start2 (M := M_J6_checkIndex) rfl [(0, .int (nI i)), (1, .int (nI n))] rfl (by decide +kernel) (Nat.le_of_ble_eq_true rfl) ?_
  intro p e s m args below meth c A C
  refine v_iload_n C dJ6_checkIndex_0 0 rfl ?_
  refine v_iload_n C dJ6_checkIndex_1 1 rfl ?_
  refine v_getS C q998 (fun _ h => h) dJ6_checkIndex_2 ?_ (fun t => ?_)
  · refine v_callSp C (j_chk9 l g i n hi hn) ok_J9_checkIndex rfl q1021 rfl (Nat.le_of_ble_eq_true rfl) dJ6_checkIndex_5 (roomL rfl rfl) ⟨rfl, rfl⟩ ?_
    refine v_pop C dJ6_checkIndex_8 rfl ?_
    exact v_vret C dJ6_checkIndex_9 (Nat.le_of_ble_eq_true rfl) (Nat.le_of_ble_eq_true rfl) ⟨rfl, rfl⟩
  · refine v_callSp C (j_chk9r l g i n hi hn t) ok_J9_checkIndex rfl q1021 rfl (Nat.le_of_ble_eq_true rfl) dJ6_checkIndex_5 (roomL rfl rfl) ⟨rfl, rfl⟩ ?_
    refine v_pop C dJ6_checkIndex_8 rfl ?_
    exact v_vret C dJ6_checkIndex_9 (Nat.le_of_ble_eq_true rfl) (Nat.le_of_ble_eq_true rfl) ⟨rfl, rfl⟩
def M_J4_length : Md := (yJ4_length, cJ4_length, 1, (some .int), 1, 40, 0, 0)
theorem ok_J4_length : MOKk M_J4_length 0 := ⟨q942, q95, q943, ⟨by decide +kernel, by decide +kernel, by decide +kernel⟩⟩
set_option maxHeartbeats 4000000 in
theorem j4_length (l : Launch) (g : GT) (t0 t1 : Nat) (mb : Int32) (n : Nat) (t : Nat → Int32) (hn : n ≤ 120)  : CtE l g M_J4_length [.ref t0] (sbW g t0 t1 mb n t) (some (.int (nI n))) (sbW g t0 t1 mb n t) := by
  refine Ct.start2 (M := M_J4_length) rfl [(0, .ref t0)] rfl (by decide +kernel) (Nat.le_of_ble_eq_true rfl) ?_
  intro p e s m args below meth c A9 C
  refine v_aload_n C dJ4_length_0 0 rfl ?_
  refine v_get C in_J5 rfl 0 rfl 3 (by decide) q248 (fun _ h => h) rfl dJ4_length_1 ?_
  exact v_iret C dJ4_length_4 (Nat.le_of_ble_eq_true rfl) (Nat.le_of_ble_eq_true rfl) ⟨rfl, rfl⟩
def M_J4_isLatin1 : Md := (yJ4_isLatin1, cJ4_isLatin1, 1, (some .boolean), 1, 40, 0, 0)
theorem ok_J4_isLatin1 : MOKk M_J4_isLatin1 0 := ⟨q972, q95, q975, ⟨by decide +kernel, by decide +kernel, by decide +kernel⟩⟩
set_option maxHeartbeats 4000000 in
theorem j4_latin (l : Launch) (g : GT) (t0 t1 : Nat) (mb : Int32) (n : Nat) (t : Nat → Int32) (hn : n ≤ 120)  : CtE l g M_J4_isLatin1 [.ref t0] (sbW g t0 t1 mb n t) (some (.int 1)) (sbW g t0 t1 mb n t) := by
  refine Ct.start2 (M := M_J4_isLatin1) rfl [(0, .ref t0)] rfl (by decide +kernel) (Nat.le_of_ble_eq_true rfl) ?_
  intro p e s m args below meth c A9 C
  refine v_getC C q236 (fun _ h => h) dJ4_isLatin1_0 ?_
  refine v_if_eq C 17 dJ4_isLatin1_3 (by decide) (fun c3_1 => ?_) (fun c3_1 => ?_)
  · exact absurd c3_1 (by decide)
  · skip
    refine v_aload_n C dJ4_isLatin1_6 0 rfl ?_
    refine v_get C in_J5 rfl 0 rfl 1 (by decide) q246 (fun _ h => h) rfl dJ4_isLatin1_7 ?_
    refine v_if_ne C 17 dJ4_isLatin1_10 (by decide) (fun c10_2 => ?_) (fun c10_2 => ?_)
    · exact absurd (by decide) c10_2
    · skip
      refine v_iconst (v := 1) C dJ4_isLatin1_13 (by decide) ?_
      refine v_goto C 18 dJ4_isLatin1_14 (by decide) ?_
      exact v_zret C rfl dJ4_isLatin1_18 (Nat.le_of_ble_eq_true rfl) (Nat.le_of_ble_eq_true rfl) ⟨rfl, rfl⟩
def M_J4_ensureCapacityInternal : Md := (yJ4_ensureCapacityInternal, cJ4_ensureCapacityInternal, 3, none, 1, 40, 0, 0)
theorem ok_J4_ensureCapacityInternal : MOKk M_J4_ensureCapacityInternal 1 := ⟨q953, q95, q954, ⟨by decide +kernel, by decide +kernel, by decide +kernel⟩⟩
set_option maxHeartbeats 4000000 in
theorem j4_ensure (l : Launch) (g : GT) (t0 t1 : Nat) (mb : Int32) (n : Nat) (t : Nat → Int32) (hn : n ≤ 120) (k : Nat) (hk : k ≤ 120) : CtE l g M_J4_ensureCapacityInternal [.ref t0, .int (nI k)] (sbW g t0 t1 mb n t) none (sbW g t0 t1 mb n t) := by
  refine Ct.start2 (M := M_J4_ensureCapacityInternal) rfl [(0, .ref t0), (1, .int (nI k))] rfl (by decide +kernel) (Nat.le_of_ble_eq_true rfl) ?_
  intro p e s m args below meth c A9 C
  refine v_aload_n C dJ4_ensureCapacityInternal_0 0 rfl ?_
  refine v_get C in_J5 rfl 0 rfl 0 (by decide) q245 (fun _ h => h) rfl dJ4_ensureCapacityInternal_1 ?_
  refine v_alen C 3 dJ4_ensureCapacityInternal_4 1 rfl rfl (v := 120) rfl ?_
  refine v_aload_n C dJ4_ensureCapacityInternal_5 0 rfl ?_
  refine v_get C in_J5 rfl 0 rfl 1 (by decide) q246 (fun _ h => h) rfl dJ4_ensureCapacityInternal_6 ?_
  refine v_ishr C dJ4_ensureCapacityInternal_9 ?_
  refine v_istore_n (lv' := [(2, _), (0, _), (1, _)]) C dJ4_ensureCapacityInternal_10 rfl (by decide) rfl ?_
  refine v_iload_n C dJ4_ensureCapacityInternal_11 2 rfl ?_
  refine v_iload_n C dJ4_ensureCapacityInternal_12 0 rfl ?_
  refine v_isub C dJ4_ensureCapacityInternal_13 ?_
  refine v_if_le C 38 dJ4_ensureCapacityInternal_14 (by decide) (fun c14_1 => ?_) (fun c14_1 => ?_)
  · skip
    exact v_vret C dJ4_ensureCapacityInternal_38 (Nat.le_of_ble_eq_true rfl) (Nat.le_of_ble_eq_true rfl) ⟨rfl, rfl⟩
  · exact absurd (cap_ok k hk) c14_1
def M_J4_append : Md := (yJ4_append, cJ4_append, 2, (some (.object "java/lang/AbstractStringBuilder")), 2, 62, 0, 0)
theorem ok_J4_append : MOKk M_J4_append 1 := ⟨q949, q95, q950, ⟨by decide +kernel, by decide +kernel, by decide +kernel⟩⟩
set_option maxHeartbeats 4000000 in
theorem j4_append (l : Launch) (g : GT) (t0 t1 : Nat) (mb : Int32) (n : Nat) (t : Nat → Int32) (hn : n ≤ 120) (c0 : Int32) (hc : 0 ≤ c0 ∧ c0 ≤ 255) (hlt : n < 120) : CtE l g M_J4_append [.ref t0, .int c0] (sbW g t0 t1 mb n t) (some (.ref t0)) (sbW g t0 t1 mb (n + 1) (upd t n c0)) := by
  refine Ct.start2 (M := M_J4_append) rfl [(0, .ref t0), (1, .int c0)] rfl (by decide +kernel) (Nat.le_of_ble_eq_true rfl) ?_
  intro p e s m args below meth c A9 C
  refine v_aload_n C dJ4_append_0 0 rfl ?_
  refine v_aload_n C dJ4_append_1 0 rfl ?_
  refine v_get C in_J5 rfl 0 rfl 3 (by decide) q248 (fun _ h => h) rfl dJ4_append_2 ?_
  refine v_iconst (v := 1) C dJ4_append_5 (by decide) ?_
  refine v_iadd C dJ4_append_6 ?_
  refine v_eqi (nI_add n 1) ?_
  refine v_zK (ws' := [(_, .inr (10, [_, _, _, _])), (_, .inl (_, _, .inl _))]) C (j4_ensure l g t0 t1 mb n t hn (n + 1) (by omega)) ok_J4_ensureCapacityInternal rfl q951 rfl (Nat.le_of_ble_eq_true rfl) (sel_priv (C := "java/lang/StringBuilder") ⟨by decide, by decide⟩ (C.2.2.2.2.2.2.2.2.1.1.1 10 (RJ5, TJ5, 4) rfl).2.1 (C.2.2.2.2.1 _ q1569) (va_Nw.use rfl (C.2.2.2.2.2.2.2.2.1.2.1.1 _ q952 rfl)) (C.2.2.2.2.1 _ q953)) 0 rfl rfl dJ4_append_7 (roomL rfl rfl) rfl ?_
  refine v_aload_n C dJ4_append_10 0 rfl ?_
  refine v_zK (ws' := [(_, .inr (10, [_, _, _, _])), (_, .inl (_, _, .inl _))]) C (j4_latin l g t0 t1 mb n t hn) ok_J4_isLatin1 rfl q971 rfl (Nat.le_of_ble_eq_true rfl) (C.2.2.2.2.1 _ q974) 0 rfl rfl dJ4_append_11 (roomL rfl rfl) rfl ?_
  refine v_if_eq C 45 dJ4_append_14 (by decide) (fun c14_1 => ?_) (fun c14_1 => ?_)
  · exact absurd c14_1 (by decide)
  · skip
    refine v_iload_n C dJ4_append_17 1 rfl ?_
    refine v_callSp C (j_canEnc l g c0 hc) ok_J13_canEncode rfl q976 rfl (Nat.le_of_ble_eq_true rfl) dJ4_append_18 (roomL rfl rfl) ⟨rfl, rfl⟩ ?_
    refine v_if_eq C 45 dJ4_append_21 (by decide) (fun c21_2 => ?_) (fun c21_2 => ?_)
    · exact absurd c21_2 (by decide)
    · skip
      refine v_aload_n C dJ4_append_24 0 rfl ?_
      refine v_get C in_J5 rfl 0 rfl 0 (by decide) q245 (fun _ h => h) rfl dJ4_append_25 ?_
      refine v_aload_n C dJ4_append_28 0 rfl ?_
      refine v_dup C dJ4_append_29 rfl ?_
      refine v_get C in_J5 rfl 0 rfl 3 (by decide) q248 (fun _ h => h) rfl dJ4_append_30 ?_
      refine v_dup_x1 C dJ4_append_33 rfl rfl ?_
      refine v_iconst (v := 1) C dJ4_append_34 (by decide) ?_
      refine v_iadd C dJ4_append_35 ?_
      refine v_eqi (nI_add n 1) ?_
      refine v_put (ws' := [(_, .inr (10, [_, _, _, _])), (_, .inl (_, _, .inl _))]) C in_J5 tyJ5 tyJ5_ok nmJ5 rfl 0 rfl 3 (by decide) q248 (fun _ h => h) rfl rfl rfl (Nat.le_of_ble_eq_true rfl) dJ4_append_36 rfl ?_
      refine v_iload_n C dJ4_append_39 1 rfl ?_
      refine v_i2b C dJ4_append_40 ?_
      refine v_bast (ws' := [(_, .inr (10, [_, _, _, _])), (_, .inl (_, _, .inl _))]) C dJ4_append_41 1 rfl (ixn (by omega) (by decide)) rfl ?_
      refine v_goto C 75 dJ4_append_42 (by decide) ?_
      refine v_aload_n C dJ4_append_75 0 rfl ?_
      exact v_aret C (Or.inl ⟨_, rfl⟩) (Or.inr ⟨_, rfl⟩) dJ4_append_76 (Nat.le_of_ble_eq_true rfl) (Nat.le_of_ble_eq_true rfl) ⟨rfl, by rw [bt_upd]⟩
def M_J4_setLength : Md := (yJ4_setLength, cJ4_setLength, 2, none, 2, 62, 0, 0)
theorem ok_J4_setLength : MOKk M_J4_setLength 1 := ⟨q1031, q95, q1032, ⟨by decide +kernel, by decide +kernel, by decide +kernel⟩⟩
set_option maxHeartbeats 4000000 in
theorem j4_setLen (l : Launch) (g : GT) (t0 t1 : Nat) (mb : Int32) (n : Nat) (t : Nat → Int32) (hn : n ≤ 120) : Ct l g M_J4_setLength [.ref t0, .int 0] (sbW g t0 t1 mb n t) (fun rv w => rv = none ∧ ∃ mb', w = sbW g t0 t1 mb' 0 t) := by
  refine Ct.start2 (M := M_J4_setLength) rfl [(0, .ref t0), (1, .int 0)] rfl (by decide +kernel) (Nat.le_of_ble_eq_true rfl) ?_
  intro p e s m args below meth c A C
  refine v_iload_n C dJ4_setLength_0 1 rfl ?_
  refine v_if_ge C 13 dJ4_setLength_1 (by decide) (fun c1_1 => ?_) (fun c1_1 => ?_)
  · skip
    refine v_aload_n C dJ4_setLength_13 0 rfl ?_
    refine v_iload_n C dJ4_setLength_14 1 rfl ?_
    refine v_zK (ws' := [(_, .inr (10, [_, _, _, _])), (_, .inl (_, _, .inl _))]) C (j4_ensure l g t0 t1 mb n t hn 0 (by omega)) ok_J4_ensureCapacityInternal rfl q951 rfl (Nat.le_of_ble_eq_true rfl) (sel_priv (C := "java/lang/StringBuilder") ⟨by decide, by decide⟩ (C.2.2.2.2.2.2.2.2.1.1.1 10 (RJ5, TJ5, 4) rfl).2.1 (C.2.2.2.2.1 _ q1569) (va_Nw.use rfl (C.2.2.2.2.2.2.2.2.1.2.1.1 _ q952 rfl)) (C.2.2.2.2.1 _ q953)) 0 rfl rfl dJ4_setLength_15 (roomL rfl rfl) rfl ?_
    refine v_aload_n C dJ4_setLength_18 0 rfl ?_
    refine v_get C in_J5 rfl 0 rfl 3 (by decide) q248 (fun _ h => h) rfl dJ4_setLength_19 ?_
    refine v_iload_n C dJ4_setLength_22 1 rfl ?_
    refine v_icmp_ge C 63 dJ4_setLength_23 (by decide) (fun c23_2 => ?_) (fun c23_2 => ?_)
    · skip
      refine v_aload_n C dJ4_setLength_63 0 rfl ?_
      refine v_get C in_J5 rfl 0 rfl 3 (by decide) q248 (fun _ h => h) rfl dJ4_setLength_64 ?_
      refine v_iload_n C dJ4_setLength_67 1 rfl ?_
      refine v_icmp_le C 76 dJ4_setLength_68 (by decide) (fun c68_3 => ?_) (fun c68_3 => ?_)
      · skip
        refine v_aload_n C dJ4_setLength_76 0 rfl ?_
        refine v_iload_n C dJ4_setLength_77 1 rfl ?_
        refine v_put (ws' := [(_, .inr (10, [_, _, _, _])), (_, .inl (_, _, .inl _))]) C in_J5 tyJ5 tyJ5_ok nmJ5 rfl 0 rfl 3 (by decide) q248 (fun _ h => h) rfl rfl rfl (Nat.le_of_ble_eq_true rfl) dJ4_setLength_78 rfl ?_
        exact v_vret C dJ4_setLength_81 (Nat.le_of_ble_eq_true rfl) (Nat.le_of_ble_eq_true rfl) ⟨rfl, _, rfl⟩
      · skip
        refine v_aload_n C dJ4_setLength_71 0 rfl ?_
        refine v_iconst (v := 1) C dJ4_setLength_72 (by decide) ?_
        refine v_put (ws' := [(_, .inr (10, [_, _, _, _])), (_, .inl (_, _, .inl _))]) C in_J5 tyJ5 tyJ5_ok nmJ5 rfl 0 rfl 2 (by decide) q247 (fun _ h => h) rfl rfl rfl (Nat.le_of_ble_eq_true rfl) dJ4_setLength_73 rfl ?_
        refine v_aload_n C dJ4_setLength_76 0 rfl ?_
        refine v_iload_n C dJ4_setLength_77 1 rfl ?_
        refine v_put (ws' := [(_, .inr (10, [_, _, _, _])), (_, .inl (_, _, .inl _))]) C in_J5 tyJ5 tyJ5_ok nmJ5 rfl 0 rfl 3 (by decide) q248 (fun _ h => h) rfl rfl rfl (Nat.le_of_ble_eq_true rfl) dJ4_setLength_78 rfl ?_
        exact v_vret C dJ4_setLength_81 (Nat.le_of_ble_eq_true rfl) (Nat.le_of_ble_eq_true rfl) ⟨rfl, _, rfl⟩
    · exact absurd (show (0 : Int32) ≤ nI n from (nI_leI (a := 0) (b := n) (by decide) (by omega)).mpr (Nat.zero_le _)) c23_2
  · exact absurd (by decide) c1_1
def M_J4_charAt : Md := (yJ4_charAt, cJ4_charAt, 5, (some .char), 3, 83, 0, 0)
theorem ok_J4_charAt : MOKk M_J4_charAt 1 := ⟨q1086, q95, q1087, ⟨by decide +kernel, by decide +kernel, by decide +kernel⟩⟩
set_option maxHeartbeats 4000000 in
theorem j4_charAt (l : Launch) (g : GT) (t0 t1 : Nat) (mb : Int32) (n : Nat) (t : Nat → Int32) (hn : n ≤ 120) (i : Nat) (hi : i < n) (hc : 0 ≤ t i ∧ t i ≤ 255) : CtE l g M_J4_charAt [.ref t0, .int (nI i)] (sbW g t0 t1 mb n t) (some (.int (t i))) (sbW g t0 t1 mb n t) := by
  refine Ct.start2 (M := M_J4_charAt) rfl [(0, .ref t0), (1, .int (nI i))] rfl (by decide +kernel) (Nat.le_of_ble_eq_true rfl) ?_
  intro p e s m args below meth c A9 C
  refine v_aload_n C dJ4_charAt_0 0 rfl ?_
  refine v_get C in_J5 rfl 0 rfl 1 (by decide) q246 (fun _ h => h) rfl dJ4_charAt_1 ?_
  refine v_istore_n (lv' := [(2, _), (0, _), (1, _)]) C dJ4_charAt_4 rfl (by decide) rfl ?_
  refine v_aload_n C dJ4_charAt_5 1 rfl ?_
  refine v_get C in_J5 rfl 0 rfl 0 (by decide) q245 (fun _ h => h) rfl dJ4_charAt_6 ?_
  refine v_astore_n (lv' := [(3, _), (2, _), (0, _), (1, _)]) C dJ4_charAt_9 rfl (by decide) rfl ?_
  refine v_aload_n C dJ4_charAt_10 2 rfl ?_
  refine v_get C in_J5 rfl 0 rfl 3 (by decide) q248 (fun _ h => h) rfl dJ4_charAt_11 ?_
  refine v_aload_n C dJ4_charAt_14 0 rfl ?_
  refine v_alen C 3 dJ4_charAt_15 1 rfl rfl (v := 120) rfl ?_
  refine v_iload_n C dJ4_charAt_16 1 rfl ?_
  refine v_ishr C dJ4_charAt_17 ?_
  refine v_mmin C q1088 q480 q102 q481 dJ4_charAt_18 (Nat.le_of_ble_eq_true rfl) (Nat.le_of_ble_eq_true rfl) (Nat.le_of_ble_eq_true rfl) (Nat.le_of_ble_eq_true rfl) ?_
  refine v_eqi (min_ok hn) ?_
  refine v_istore (lv' := [(4, _), (3, _), (2, _), (0, _), (1, _)]) C dJ4_charAt_21 (by decide) rfl ?_
  refine v_iload_n C dJ4_charAt_23 4 rfl ?_
  refine v_iload C dJ4_charAt_24 0 rfl ?_
  refine v_zMSv (ws' := [(_, .inr (10, [_, _, _, _])), (_, .inl (_, _, .inl _))]) C (j_chk6 l g i n hi (by omega)) [] rfl ok_J6_checkIndex rfl q1089 rfl (Nat.le_of_ble_eq_true rfl) dJ4_charAt_26 (roomL rfl rfl) ⟨rfl, rfl⟩ rfl ?_
  refine v_iload_n C dJ4_charAt_29 2 rfl ?_
  refine v_if_ne C 42 dJ4_charAt_30 (by decide) (fun c30_1 => ?_) (fun c30_1 => ?_)
  · exact absurd (by decide) c30_1
  · skip
    refine v_aload_n C dJ4_charAt_33 1 rfl ?_
    refine v_iload_n C dJ4_charAt_34 4 rfl ?_
    refine v_bald C dJ4_charAt_35 1 rfl (ixn (by omega) (by decide)) ?_
    refine v_sipush (v := 255) C dJ4_charAt_36 (by decide) ?_
    refine v_iand C dJ4_charAt_39 ?_
    refine v_i2c C dJ4_charAt_40 ?_
    refine v_eqi (chr_rt hc) ?_
    exact v_zret C (chr_nar hc) dJ4_charAt_41 (Nat.le_of_ble_eq_true rfl) (Nat.le_of_ble_eq_true rfl) ⟨rfl, rfl⟩
def M_J5_length : Md := (yJ5_length, cJ5_length, 1, (some .int), 2, 60, 0, 0)
theorem ok_J5_length : MOKv M_J5_length 0 := ⟨q938, q939, q96, q940, ⟨by decide +kernel, by decide +kernel, by decide +kernel⟩⟩
set_option maxHeartbeats 4000000 in
theorem j_sblen (l : Launch) (g : GT) (t0 t1 : Nat) (mb : Int32) (n : Nat) (t : Nat → Int32) (hn : n ≤ 120)  : CtE l g M_J5_length [.ref t0] (sbW g t0 t1 mb n t) (some (.int (nI n))) (sbW g t0 t1 mb n t) := by
  refine Ct.start2 (M := M_J5_length) rfl [(0, .ref t0)] rfl (by decide +kernel) (Nat.le_of_ble_eq_true rfl) ?_
  intro p e s m args below meth c A9 C
  refine v_aload_n C dJ5_length_0 0 rfl ?_
  refine v_zU (ws' := [(_, .inr (10, [_, _, _, _])), (_, .inl (_, _, .inl _))]) C (j4_length l g t0 t1 mb n t hn) ok_J4_length (by decide) rfl q941 q1567 q257 rfl (Nat.le_of_ble_eq_true rfl) 0 rfl rfl dJ5_length_1 (roomL rfl rfl) rfl ?_
  exact v_iret C dJ5_length_4 (Nat.le_of_ble_eq_true rfl) (Nat.le_of_ble_eq_true rfl) ⟨rfl, rfl⟩
def M_J5_charAt : Md := (yJ5_charAt, cJ5_charAt, 2, (some .char), 4, 107, 0, 0)
theorem ok_J5_charAt : MOKv M_J5_charAt 1 := ⟨q1082, q1083, q96, q1084, ⟨by decide +kernel, by decide +kernel, by decide +kernel⟩⟩
set_option maxHeartbeats 4000000 in
theorem j_charAt (l : Launch) (g : GT) (t0 t1 : Nat) (mb : Int32) (n : Nat) (t : Nat → Int32) (hn : n ≤ 120) (i : Nat) (hi : i < n) (hc : 0 ≤ t i ∧ t i ≤ 255) : CtE l g M_J5_charAt [.ref t0, .int (nI i)] (sbW g t0 t1 mb n t) (some (.int (t i))) (sbW g t0 t1 mb n t) := by
  refine Ct.start2 (M := M_J5_charAt) rfl [(0, .ref t0), (1, .int (nI i))] rfl (by decide +kernel) (Nat.le_of_ble_eq_true rfl) ?_
  intro p e s m args below meth c A9 C
  refine v_aload_n C dJ5_charAt_0 0 rfl ?_
  refine v_iload_n C dJ5_charAt_1 1 rfl ?_
  refine v_zU (ws' := [(_, .inr (10, [_, _, _, _])), (_, .inl (_, _, .inl _))]) C (j4_charAt l g t0 t1 mb n t hn i hi hc) ok_J4_charAt (by decide) rfl q1085 q1573 q257 rfl (Nat.le_of_ble_eq_true rfl) 0 rfl rfl dJ5_charAt_2 (roomL rfl rfl) rfl ?_
  exact v_zret C (chr_nar hc) dJ5_charAt_5 (Nat.le_of_ble_eq_true rfl) (Nat.le_of_ble_eq_true rfl) ⟨rfl, rfl⟩
def M_J5_append : Md := (yJ5_append, cJ5_append, 2, (some (.object "java/lang/StringBuilder")), 3, 83, 0, 0)
theorem ok_J5_append : MOKv M_J5_append 1 := ⟨q945, q946, q96, q947, ⟨by decide +kernel, by decide +kernel, by decide +kernel⟩⟩
set_option maxHeartbeats 4000000 in
theorem j_append (l : Launch) (g : GT) (t0 t1 : Nat) (mb : Int32) (n : Nat) (t : Nat → Int32) (hn : n ≤ 120) (c0 : Int32) (hc : 0 ≤ c0 ∧ c0 ≤ 255) (hlt : n < 120) : CtE l g M_J5_append [.ref t0, .int c0] (sbW g t0 t1 mb n t) (some (.ref t0)) (sbW g t0 t1 mb (n + 1) (upd t n c0)) := by
  refine Ct.start2 (M := M_J5_append) rfl [(0, .ref t0), (1, .int c0)] rfl (by decide +kernel) (Nat.le_of_ble_eq_true rfl) ?_
  intro p e s m args below meth c A9 C
  refine v_aload_n C dJ5_append_0 0 rfl ?_
  refine v_iload_n C dJ5_append_1 1 rfl ?_
  refine v_zU (ws' := sbW g t0 t1 mb (n + 1) (upd t n c0)) C (j4_append l g t0 t1 mb n t hn c0 hc hlt) ok_J4_append (by decide) rfl q948 q1568 q257 rfl (Nat.le_of_ble_eq_true rfl) 0 rfl rfl dJ5_append_2 (roomL rfl rfl) rfl ?_
  refine v_pop C dJ5_append_5 rfl ?_
  refine v_aload_n C dJ5_append_6 0 rfl ?_
  exact v_aret C (Or.inl ⟨_, rfl⟩) (Or.inr ⟨_, rfl⟩) dJ5_append_7 (Nat.le_of_ble_eq_true rfl) (Nat.le_of_ble_eq_true rfl) ⟨rfl, rfl⟩
def M_J5_setLength : Md := (yJ5_setLength, cJ5_setLength, 2, none, 3, 83, 0, 0)
theorem ok_J5_setLength : MOKv M_J5_setLength 1 := ⟨q1027, q1028, q96, q1029, ⟨by decide +kernel, by decide +kernel, by decide +kernel⟩⟩
set_option maxHeartbeats 4000000 in
theorem j_setLen (l : Launch) (g : GT) (t0 t1 : Nat) (mb : Int32) (n : Nat) (t : Nat → Int32) (hn : n ≤ 120) : Ct l g M_J5_setLength [.ref t0, .int 0] (sbW g t0 t1 mb n t) (fun rv w => rv = none ∧ ∃ mb', w = sbW g t0 t1 mb' 0 t) := by
  refine Ct.start2 (M := M_J5_setLength) rfl [(0, .ref t0), (1, .int 0)] rfl (by decide +kernel) (Nat.le_of_ble_eq_true rfl) ?_
  intro p e s m args below meth c A C
  refine v_aload_n C dJ5_setLength_0 0 rfl ?_
  refine v_iload_n C dJ5_setLength_1 1 rfl ?_
  refine v_callU C (j4_setLen l g t0 t1 mb n t hn) ok_J4_setLength (by decide) rfl q1030 q1572 q257 rfl (Nat.le_of_ble_eq_true rfl) 0 rfl rfl dJ5_setLength_2 (roomL rfl rfl) (wr := []) (by rw [List.append_nil]) ?_
  rintro _ _ ⟨rfl, mb', rfl⟩
  refine v_st (st' := []) rfl ?_
  exact v_vret C dJ5_setLength_5 (Nat.le_of_ble_eq_true rfl) (Nat.le_of_ble_eq_true rfl) ⟨rfl, mb', rfl⟩
def M_J4_init : Md := (yJ4_init, cJ4_init, 2, none, 1, 40, 1, 120)
theorem ok_J4_init : MOKi M_J4_init 1 := ⟨q233, q95, q234, ⟨rfl, rfl⟩, ⟨by decide +kernel, by decide +kernel, by decide +kernel⟩⟩
def M_J5_init : Md := (yJ5_init, cJ5_init, 2, none, 2, 61, 1, 120)
theorem ok_J5_init : MOKi M_J5_init 1 := ⟨q230, q96, q231, ⟨rfl, rfl⟩, ⟨by decide +kernel, by decide +kernel, by decide +kernel⟩⟩
set_option maxHeartbeats 4000000 in
theorem j4_init (l : Launch) (g : GT) (q : Nat) : Ct l g M_J4_init [.ref q, .int 120] [(q, .inr (10, [.null, .int 0, .int 0, .int 0]))] (fun rv w => rv = none ∧ ∃ t1, w = sbW g q t1 0 0 (fun _ => 0)) := by
  refine Ct.start2 (M := M_J4_init) rfl [(0, .ref q), (1, .int 120)] rfl (by decide +kernel) (Nat.le_of_ble_eq_true rfl) ?_
  intro p e s m args below meth c A C
  refine v_aload_n C dJ4_init_0 0 rfl ?_
  refine v_objInit C q235 q118 q119 dJ4_init_1 (Nat.le_of_ble_eq_true rfl) (Nat.le_of_ble_eq_true rfl) ?_
  refine v_getC C q236 (fun _ h => h) dJ4_init_4 ?_
  refine v_if_eq C 25 dJ4_init_7 (by decide) (fun c7_1 => ?_) (fun c7_1 => ?_)
  · exact absurd c7_1 (by decide)
  · skip
    refine v_aload_n C dJ4_init_10 0 rfl ?_
    refine v_iload_n C dJ4_init_11 1 rfl ?_
    refine v_newB (N := 120) C q258 (by decide) rfl (Nat.le_of_ble_eq_true rfl) (Nat.le_of_ble_eq_true rfl) (Nat.le_of_ble_eq_true rfl) dJ4_init_12 (fun q12 => ?_)
    refine v_ws (ws' := [(_, .inr (10, [_, _, _, _])), (_, .inl (_, _, .inl _))]) rfl ?_
    refine v_put (ws' := [(_, .inr (10, [_, _, _, _])), (_, .inl (_, _, .inl _))]) C in_J5 tyJ5 tyJ5_ok nmJ5 rfl 0 rfl 0 (by decide) q245 (fun _ h => h) rfl rfl rfl (Nat.le_of_ble_eq_true rfl) dJ4_init_14 rfl ?_
    refine v_aload_n C dJ4_init_17 0 rfl ?_
    refine v_iconst (v := 0) C dJ4_init_18 (by decide) ?_
    refine v_put (ws' := [(_, .inr (10, [_, _, _, _])), (_, .inl (_, _, .inl _))]) C in_J5 tyJ5 tyJ5_ok nmJ5 rfl 0 rfl 1 (by decide) q246 (fun _ h => h) rfl rfl rfl (Nat.le_of_ble_eq_true rfl) dJ4_init_19 rfl ?_
    refine v_goto C 38 dJ4_init_22 (by decide) ?_
    exact v_vret C dJ4_init_38 (Nat.le_of_ble_eq_true rfl) (Nat.le_of_ble_eq_true rfl) ⟨rfl, q12, rfl⟩
set_option maxHeartbeats 4000000 in
theorem j_sbinit (l : Launch) (g : GT) (q : Nat) : Ct l g M_J5_init [.ref q, .int 120] [(q, .inr (10, [.null, .int 0, .int 0, .int 0]))] (fun rv w => rv = none ∧ ∃ t1, w = sbW g q t1 0 0 (fun _ => 0)) := by
  refine Ct.start2 (M := M_J5_init) rfl [(0, .ref q), (1, .int 120)] rfl (by decide +kernel) (Nat.le_of_ble_eq_true rfl) ?_
  intro p e s m args below meth c A C
  refine v_aload_n C dJ5_init_0 0 rfl ?_
  refine v_iload_n C dJ5_init_1 1 rfl ?_
  refine v_callIt C (j4_init l g q) [] rfl ok_J4_init rfl q232 rfl (Nat.le_of_ble_eq_true rfl) dJ5_init_2 (roomL rfl rfl) (fun t1 => ?_)
  exact v_vret C dJ5_init_5 (Nat.le_of_ble_eq_true rfl) (Nat.le_of_ble_eq_true rfl) ⟨rfl, t1, rfl⟩
abbrev elC (a : Nat → Nat) (us bn : Int32) (s : Nat) : Nat × va_E := (a 0, .inr (0, elF a us bn s))
def M_X0_type : Md := (yX0_type, cX0_type, 2, (some .int), 4, 104, 0, 0)
theorem ok_X0_type : MOKv M_X0_type 1 := ⟨q934, q935, q89, q936, ⟨by decide +kernel, by decide +kernel, by decide +kernel⟩⟩
set_option maxHeartbeats 4000000 in
theorem x_type (l : Launch) (g : GT) (a : Nat → Nat) (us bn : Int32) (s0 t1 : Nat) (mb : Int32) (n : Nat) (t : Nat → Int32) (hn : n ≤ 120) (x : Int32) : Ct l g M_X0_type [.ref (a 0), .int x] (elC a us bn s0 :: sbW g (a 5) t1 mb n t) (fun rv w => if 0 ≤ x ∧ x ≤ 255 then if nI n = 120 then rv = some (.int (-5)) ∧ w = (elC a us bn s0 :: sbW g (a 5) t1 mb n t) else rv = some (.int (nI (n + 1))) ∧ w = (elC a us bn s0 :: sbW g (a 5) t1 mb (n + 1) (upd t n x)) else rv = some (.int (-3)) ∧ w = (elC a us bn s0 :: sbW g (a 5) t1 mb n t)) := by
  refine Ct.start2 (M := M_X0_type) rfl [(0, .ref (a 0)), (1, .int x)] rfl (by decide +kernel) (Nat.le_of_ble_eq_true rfl) ?_
  intro p e s m args below meth c A9 C
  refine v_iload_n C dX0_type_0 1 rfl ?_
  refine v_iconst (v := 0) C dX0_type_1 (by decide) ?_
  refine v_sipush (v := 255) C dX0_type_2 (by decide) ?_
  refine v_callSp C (x_isIn l g _ _ _) ok_X0_isIn rfl q276 rfl (Nat.le_of_ble_eq_true rfl) dX0_type_5 (roomL rfl rfl) ⟨rfl, rfl⟩ ?_
  refine v_if_neB C 14 dX0_type_8 (by decide) (fun c8_1 => ?_) (fun c8_1 => ?_)
  · skip
    have hcx := c8_1
    refine v_aload_n C dX0_type_14 0 rfl ?_
    refine v_get C in_X0 rfl 0 rfl 7 (by decide) q491 (fun _ h => h) rfl dX0_type_15 ?_
    refine v_zMV (ws' := [(_, .inr (0, [_, _, _, _, _, _, _, _, _])), (_, .inr (10, [_, _, _, _])), (_, .inl (_, _, .inl _))]) C (j_sblen l g (a 5) t1 mb n t (by omega)) [_] rfl ok_J5_length rfl q937 rfl (Nat.le_of_ble_eq_true rfl) 0 rfl rfl rfl dX0_type_18 (roomL rfl rfl) ⟨rfl, rfl⟩ rfl ?_
    refine v_bipush (v := 120) C dX0_type_21 (by decide) ?_
    refine v_icmp_ne C 29 dX0_type_23 (by decide) (fun c23_2 => ?_) (fun c23_2 => ?_)
    · skip
      have hn9 : n ≠ 120 := nI_eqn (by omega) (by decide) (show ¬ nI n = nI 120 from c23_2)
      refine v_aload_n C dX0_type_29 0 rfl ?_
      refine v_get C in_X0 rfl 0 rfl 7 (by decide) q491 (fun _ h => h) rfl dX0_type_30 ?_
      refine v_iload_n C dX0_type_33 1 rfl ?_
      refine v_i2c C dX0_type_34 ?_
      refine v_eqi (chr_i2c hcx) ?_
      refine v_zMV (ws' := (elC a us bn s0 :: sbW g (a 5) t1 mb (n + 1) (upd t n x))) C (j_append l g (a 5) t1 mb n t hn x hcx (by omega)) [_] rfl ok_J5_append rfl q944 rfl (Nat.le_of_ble_eq_true rfl) 0 rfl rfl rfl dX0_type_35 (roomL rfl rfl) ⟨rfl, rfl⟩ rfl ?_
      refine v_pop C dX0_type_38 rfl ?_
      refine v_aload_n C dX0_type_39 0 rfl ?_
      refine v_get C in_X0 rfl 0 rfl 7 (by decide) q491 (fun _ h => h) rfl dX0_type_40 ?_
      refine v_zMV (ws' := [(_, .inr (0, [_, _, _, _, _, _, _, _, _])), (_, .inr (10, [_, _, _, _])), (_, .inl (_, _, .inl _))]) C (j_sblen l g (a 5) t1 mb (n + 1) (upd t n x) (by omega)) [_] rfl ok_J5_length rfl q937 rfl (Nat.le_of_ble_eq_true rfl) 0 rfl rfl rfl dX0_type_43 (roomL rfl rfl) ⟨rfl, rfl⟩ rfl ?_
      exact v_iret C dX0_type_46 (Nat.le_of_ble_eq_true rfl) (Nat.le_of_ble_eq_true rfl) (by rw [if_pos c8_1, if_neg c23_2]; exact ⟨rfl, rfl⟩)
    · skip
      refine v_bipush (v := -5) C dX0_type_26 (by decide) ?_
      exact v_iret C dX0_type_28 (Nat.le_of_ble_eq_true rfl) (Nat.le_of_ble_eq_true rfl) (by rw [if_pos c8_1, if_pos c23_2]; exact ⟨rfl, rfl⟩)
  · skip
    refine v_bipush (v := -3) C dX0_type_11 (by decide) ?_
    exact v_iret C dX0_type_13 (Nat.le_of_ble_eq_true rfl) (Nat.le_of_ble_eq_true rfl) (by rw [if_neg c8_1]; exact ⟨rfl, rfl⟩)
def M_X0_clearText : Md := (yX0_clearText, cX0_clearText, 2, (some .int), 4, 104, 0, 0)
theorem ok_X0_clearText : MOKv M_X0_clearText 0 := ⟨q1023, q1024, q89, q1025, ⟨by decide +kernel, by decide +kernel, by decide +kernel⟩⟩
set_option maxHeartbeats 4000000 in
theorem x_clearText (l : Launch) (g : GT) (a : Nat → Nat) (us bn : Int32) (s0 t1 : Nat) (mb : Int32) (n : Nat) (t : Nat → Int32) (hn : n ≤ 120) : Ct l g M_X0_clearText [.ref (a 0)] (elC a us bn s0 :: sbW g (a 5) t1 mb n t) (fun rv w => rv = some (.int (nI n)) ∧ ∃ mb', w = (elC a us bn s0 :: sbW g (a 5) t1 mb' 0 t)) := by
  refine Ct.start2 (M := M_X0_clearText) rfl [(0, .ref (a 0))] rfl (by decide +kernel) (Nat.le_of_ble_eq_true rfl) ?_
  intro p e s m args below meth c A9 C
  refine v_aload_n C dX0_clearText_0 0 rfl ?_
  refine v_get C in_X0 rfl 0 rfl 7 (by decide) q491 (fun _ h => h) rfl dX0_clearText_1 ?_
  refine v_zMV (ws' := [(_, .inr (0, [_, _, _, _, _, _, _, _, _])), (_, .inr (10, [_, _, _, _])), (_, .inl (_, _, .inl _))]) C (j_sblen l g (a 5) t1 mb n t (by omega)) [_] rfl ok_J5_length rfl q937 rfl (Nat.le_of_ble_eq_true rfl) 0 rfl rfl rfl dX0_clearText_4 (roomL rfl rfl) ⟨rfl, rfl⟩ rfl ?_
  refine v_istore_n (lv' := [(1, _), (0, _)]) C dX0_clearText_7 rfl (by decide) rfl ?_
  refine v_aload_n C dX0_clearText_8 1 rfl ?_
  refine v_get C in_X0 rfl 0 rfl 7 (by decide) q491 (fun _ h => h) rfl dX0_clearText_9 ?_
  refine v_iconst (v := 0) C dX0_clearText_12 (by decide) ?_
  refine v_callV (wr := [_]) C (j_setLen l g (a 5) t1 mb n t hn) ok_J5_setLength rfl q1026 rfl (Nat.le_of_ble_eq_true rfl) 0 rfl rfl rfl dX0_clearText_13 (roomL rfl rfl) (List.perm_append_comm (l₁ := [_])) ?_
  rintro _ _ ⟨rfl, mb', rfl⟩
  refine v_perm (ws' := (elC a us bn s0 :: sbW g (a 5) t1 mb' 0 t)) (List.perm_append_comm (l₂ := [_])) ?_
  refine v_st (st' := []) rfl ?_
  refine v_iload_n C dX0_clearText_16 0 rfl ?_
  exact v_iret C dX0_clearText_17 (Nat.le_of_ble_eq_true rfl) (Nat.le_of_ble_eq_true rfl) ⟨rfl, mb', rfl⟩
