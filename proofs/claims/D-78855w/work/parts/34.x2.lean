/-! ArrayList, ArrayDeque -/
set_option maxRecDepth 100000
abbrev alW (g : GT) (a0 a1 cap : Nat) (mc : Int32) (n : Nat) (f : Nat → Option Nat) : va_W := [(a0, .inr (8, [.int mc, .ref a1, .int (nI n)])), (a1, .inl (g.2 4, cap, .inr (.inr (.inr (.inr f)))))]
abbrev dqW (g : GT) (a0 a1 : Nat) (hd tl : Nat) (f : Nat → Option Nat) : va_W := [(a0, .inr (9, [.ref a1, .int (nI hd), .int (nI tl)])), (a1, .inl (g.2 4, 6, .inr (.inr (.inr (.inr f)))))]
theorem dnI {i n : Nat} (h : i < n) (hn : n < 2 ^ 31) : ¬ (nI i < 0) ∧ nI i < nI n := by
  refine ⟨Int32.not_lt.mpr ?_, Int32.not_le.mp (fun q => ?_)⟩
  · rw [show (0 : Int32) = nI 0 from rfl, nI_leI (by decide) (by omega)]; omega
  · rw [nI_leI hn (by omega)] at q; omega
theorem nI_inj {i n : Nat} (hi : i < 2 ^ 31) (hn : n < 2 ^ 31) (h : nI i = nI n) : i = n := by
  have := congrArg Int32.toNatClampNeg h
  rwa [nI_clamp hi, nI_clamp hn] at this
def M_J9_checkIndex : Md := (yJ9_checkIndex, cJ9_checkIndex, 3, (some .int), 1, 40, 0, 0)
theorem ok_J9_checkIndex : MOKs M_J9_checkIndex 3 := ⟨q294, q101, q295, ⟨by decide +kernel, by decide +kernel, by decide +kernel⟩⟩
set_option maxHeartbeats 4000000 in
theorem j_chk9 (l : Launch) (g : GT) (i n : Nat) (hi : i < n) (hn : n ≤ 1000) : CtE l g M_J9_checkIndex [.int (nI i), .int (nI n), .null] [] (some (.int (nI i))) [] := by
  refine Ct.start2 (M := M_J9_checkIndex) rfl [(0, .int (nI i)), (1, .int (nI n)), (2, .null)] rfl (by decide +kernel) (Nat.le_of_ble_eq_true rfl) ?_
  intro p e s m args below meth c A C
  refine v_iload_n C dJ9_checkIndex_0 0 rfl ?_
  refine v_if_lt C 9 dJ9_checkIndex_1 (by decide) (fun c1_1 => ?_) (fun c1_1 => ?_)
  · exact absurd c1_1 (dnI hi (by omega)).1
  · skip
    refine v_iload_n C dJ9_checkIndex_4 0 rfl ?_
    refine v_iload_n C dJ9_checkIndex_5 1 rfl ?_
    refine v_icmp_lt C 16 dJ9_checkIndex_6 (by decide) (fun c6_2 => ?_) (fun c6_2 => ?_)
    · skip
      refine v_iload_n C dJ9_checkIndex_16 0 rfl ?_
      exact v_iret C dJ9_checkIndex_17 (Nat.le_of_ble_eq_true rfl) (Nat.le_of_ble_eq_true rfl) ⟨rfl, rfl⟩
    · exact absurd (dnI hi (by omega)).2 c6_2
set_option maxHeartbeats 4000000 in
theorem j_chk9r (l : Launch) (g : GT) (i n : Nat) (hi : i < n) (hn : n ≤ 1000) (z : Nat) : CtE l g M_J9_checkIndex [.int (nI i), .int (nI n), .ref z] [] (some (.int (nI i))) [] := by
  refine Ct.start2 (M := M_J9_checkIndex) rfl [(0, .int (nI i)), (1, .int (nI n)), (2, .ref z)] rfl (by decide +kernel) (Nat.le_of_ble_eq_true rfl) ?_
  intro p e s m args below meth c A C
  refine v_iload_n C dJ9_checkIndex_0 0 rfl ?_
  refine v_if_lt C 9 dJ9_checkIndex_1 (by decide) (fun c1_1 => ?_) (fun c1_1 => ?_)
  · exact absurd c1_1 (dnI hi (by omega)).1
  · skip
    refine v_iload_n C dJ9_checkIndex_4 0 rfl ?_
    refine v_iload_n C dJ9_checkIndex_5 1 rfl ?_
    refine v_icmp_lt C 16 dJ9_checkIndex_6 (by decide) (fun c6_2 => ?_) (fun c6_2 => ?_)
    · skip
      refine v_iload_n C dJ9_checkIndex_16 0 rfl ?_
      exact v_iret C dJ9_checkIndex_17 (Nat.le_of_ble_eq_true rfl) (Nat.le_of_ble_eq_true rfl) ⟨rfl, rfl⟩
    · exact absurd (dnI hi (by omega)).2 c6_2
def M_J8_checkIndex : Md := (yJ8_checkIndex, cJ8_checkIndex, 2, (some .int), 2, 62, 0, 0)
theorem ok_J8_checkIndex : MOKs M_J8_checkIndex 2 := ⟨q291, q100, q292, ⟨by decide +kernel, by decide +kernel, by decide +kernel⟩⟩
set_option maxHeartbeats 4000000 in
theorem j_chk8 (l : Launch) (g : GT) (i n : Nat) (hi : i < n) (hn : n ≤ 1000) : CtE l g M_J8_checkIndex [.int (nI i), .int (nI n)] [] (some (.int (nI i))) [] := by
  refine Ct.start2 (M := M_J8_checkIndex) rfl [(0, .int (nI i)), (1, .int (nI n))] rfl (by decide +kernel) (Nat.le_of_ble_eq_true rfl) ?_
  intro p e s m args below meth c A C
  refine v_iload_n C dJ8_checkIndex_0 0 rfl ?_
  refine v_iload_n C dJ8_checkIndex_1 1 rfl ?_
  refine v_null C dJ8_checkIndex_2 ?_
  refine v_callSp C (j_chk9 l g i n hi hn) ok_J9_checkIndex rfl q293 rfl (Nat.le_of_ble_eq_true rfl) dJ8_checkIndex_3 (roomL rfl rfl) ⟨rfl, rfl⟩ ?_
  exact v_iret C dJ8_checkIndex_6 (Nat.le_of_ble_eq_true rfl) (Nat.le_of_ble_eq_true rfl) ⟨rfl, rfl⟩
def M_J2_size : Md := (yJ2_size, cJ2_size, 1, (some .int), 1, 40, 0, 0)
theorem ok_J2_size : MOKv M_J2_size 0 := ⟨q270, q271, q93, q272, ⟨by decide +kernel, by decide +kernel, by decide +kernel⟩⟩
set_option maxHeartbeats 4000000 in
theorem j_size (l : Launch) (g : GT) (a0 a1 cap : Nat) (mc : Int32) (n : Nat) (f : Nat → Option Nat)  : CtE l g M_J2_size [.ref a0] (alW g a0 a1 cap mc n f) (some (.int (nI n))) (alW g a0 a1 cap mc n f) := by
  refine Ct.start2 (M := M_J2_size) rfl [(0, .ref a0)] rfl (by decide +kernel) (Nat.le_of_ble_eq_true rfl) ?_
  intro p e s m args below meth c A C
  refine v_aload_n C dJ2_size_0 0 rfl ?_
  refine v_get C in_J2 rfl 0 rfl 2 (by decide) q143 (fun _ h => h) rfl dJ2_size_1 ?_
  exact v_iret C dJ2_size_4 (Nat.le_of_ble_eq_true rfl) (Nat.le_of_ble_eq_true rfl) ⟨rfl, rfl⟩
def M_J2_elementData : Md := (yJ2_elementData, cJ2_elementData, 2, (some (.object "java/lang/Object")), 1, 40, 0, 0)
theorem ok_J2_elementData : MOKv M_J2_elementData 1 := ⟨q297, q298, q93, q299, ⟨by decide +kernel, by decide +kernel, by decide +kernel⟩⟩
set_option maxHeartbeats 4000000 in
theorem j_elem (l : Launch) (g : GT) (a0 a1 cap : Nat) (mc : Int32) (n : Nat) (f : Nat → Option Nat) (i x : Nat) (hi : i < n) (hn : n ≤ cap) (hc : cap ≤ 1000) (hf : f i = some x) : CtE l g M_J2_elementData [.ref a0, .int (nI i)] (alW g a0 a1 cap mc n f) (some (.ref x)) (alW g a0 a1 cap mc n f) := by
  refine Ct.start2 (M := M_J2_elementData) rfl [(0, .ref a0), (1, .int (nI i))] rfl (by decide +kernel) (Nat.le_of_ble_eq_true rfl) ?_
  intro p e s m args below meth c A C
  refine v_aload_n C dJ2_elementData_0 0 rfl ?_
  refine v_get C in_J2 rfl 0 rfl 1 (by decide) q142 (fun _ h => h) rfl dJ2_elementData_1 ?_
  refine v_iload_n C dJ2_elementData_4 1 rfl ?_
  refine v_aald C 4 dJ2_elementData_5 1 rfl rfl (ixn (by omega) (by omega)) ?_
  refine v_eqr hf ?_
  exact v_aret C (Or.inl ⟨_, rfl⟩) (Or.inr ⟨_, rfl⟩) dJ2_elementData_6 (Nat.le_of_ble_eq_true rfl) (Nat.le_of_ble_eq_true rfl) ⟨rfl, rfl⟩
def M_J2_get : Md := (yJ2_get, cJ2_get, 2, (some (.object "java/lang/Object")), 3, 83, 0, 0)
theorem ok_J2_get : MOKv M_J2_get 1 := ⟨q287, q288, q93, q289, ⟨by decide +kernel, by decide +kernel, by decide +kernel⟩⟩
set_option maxHeartbeats 4000000 in
theorem j_get (l : Launch) (g : GT) (a0 a1 cap : Nat) (mc : Int32) (n : Nat) (f : Nat → Option Nat) (i x : Nat) (hi : i < n) (hn : n ≤ cap) (hc : cap ≤ 1000) (hf : f i = some x) : CtE l g M_J2_get [.ref a0, .int (nI i)] (alW g a0 a1 cap mc n f) (some (.ref x)) (alW g a0 a1 cap mc n f) := by
  refine Ct.start2 (M := M_J2_get) rfl [(0, .ref a0), (1, .int (nI i))] rfl (by decide +kernel) (Nat.le_of_ble_eq_true rfl) ?_
  intro p e s m args below meth c A C
  refine v_iload_n C dJ2_get_0 1 rfl ?_
  refine v_aload_n C dJ2_get_1 0 rfl ?_
  refine v_get C in_J2 rfl 0 rfl 2 (by decide) q143 (fun _ h => h) rfl dJ2_get_2 ?_
  refine v_callSp C (j_chk8 l g i n hi (by omega)) ok_J8_checkIndex rfl q290 rfl (Nat.le_of_ble_eq_true rfl) dJ2_get_5 (roomL rfl rfl) ⟨rfl, rfl⟩ ?_
  refine v_pop C dJ2_get_8 rfl ?_
  refine v_aload_n C dJ2_get_9 0 rfl ?_
  refine v_iload_n C dJ2_get_10 1 rfl ?_
  refine v_callVw C (j_elem l g a0 a1 cap mc n f i x hi hn hc hf) ok_J2_elementData rfl q296 rfl (Nat.le_of_ble_eq_true rfl) 0 rfl rfl rfl dJ2_get_11 (roomL rfl rfl) ⟨rfl, rfl⟩ ?_
  exact v_aret C (Or.inl ⟨_, rfl⟩) (Or.inr ⟨_, rfl⟩) dJ2_get_14 (Nat.le_of_ble_eq_true rfl) (Nat.le_of_ble_eq_true rfl) ⟨rfl, rfl⟩
def M_J2_add_2 : Md := (yJ2_add_2, cJ2_add_2, 4, none, 1, 40, 0, 0)
theorem ok_J2_add_2 : MOKv M_J2_add_2 3 := ⟨q642, qs25, q93, q643, ⟨by decide +kernel, by decide +kernel, by decide +kernel⟩⟩
set_option maxHeartbeats 4000000 in
theorem j_add2 (l : Launch) (g : GT) (a0 a1 cap : Nat) (mc : Int32) (n : Nat) (f : Nat → Option Nat) (x ci : Nat) (r0 : vw_C) (fs : List Value) (hr : vwCl[ci]? = some r0) (hcast : Cond.castable r0.1 "java/lang/Object" ∈ lw_tbl) (hi : n < cap) (hc : cap ≤ 1000) : CtE l g M_J2_add_2 [.ref a0, .ref x, .ref a1, .int (nI n)] ((alW g a0 a1 cap mc n f) ++ [(x, .inr (ci, fs))]) none ((alW g a0 a1 cap mc (n + 1) (va_up f n (some x))) ++ [(x, .inr (ci, fs))]) := by
  refine Ct.start2 (M := M_J2_add_2) rfl [(0, .ref a0), (1, .ref x), (2, .ref a1), (3, .int (nI n))] rfl (by decide +kernel) (Nat.le_of_ble_eq_true rfl) ?_
  intro p e s m args below meth c A C
  refine v_iload_n C dJ2_add_2_0 3 rfl ?_
  refine v_aload_n C dJ2_add_2_1 2 rfl ?_
  refine v_alen C 4 dJ2_add_2_2 1 rfl rfl (v := (nI cap)) rfl ?_
  refine v_icmp_ne C 11 dJ2_add_2_3 (by decide) (fun c3_1 => ?_) (fun c3_1 => ?_)
  · skip
    refine v_aload_n C dJ2_add_2_11 2 rfl ?_
    refine v_iload_n C dJ2_add_2_12 3 rfl ?_
    refine v_aload_n C dJ2_add_2_13 1 rfl ?_
    refine v_aastO (ws' := [(_, .inr (8, [_, _, _])), (_, .inl (_, _, .inr (.inr (.inr (.inr _))))), (_, .inr (_, _))]) C 4 dJ2_add_2_14 1 rfl rfl hcast 2 rfl hr (ixn (by omega) (by omega)) rfl ?_
    refine v_aload_n C dJ2_add_2_15 0 rfl ?_
    refine v_iload_n C dJ2_add_2_16 3 rfl ?_
    refine v_iconst (v := 1) C dJ2_add_2_17 (by decide) ?_
    refine v_iadd C dJ2_add_2_18 ?_
    refine v_eqi (nI_1 n) ?_
    refine v_put (ws' := [(_, .inr (8, [_, _, _])), (_, .inl (_, _, .inr (.inr (.inr (.inr _))))), (_, .inr (_, _))]) C in_J2 tyJ2 tyJ2_ok nmJ2 rfl 0 rfl 2 (by decide) q143 (fun _ h => h) rfl rfl rfl (Nat.le_of_ble_eq_true rfl) dJ2_add_2_19 rfl ?_
    exact v_vret C dJ2_add_2_22 (Nat.le_of_ble_eq_true rfl) (Nat.le_of_ble_eq_true rfl) ⟨rfl, rfl⟩
  · exact absurd (nI_inj (by omega) (by omega) c3_1) (by omega)
def M_J2_add : Md := (yJ2_add, cJ2_add, 2, (some .boolean), 2, 63, 0, 0)
theorem ok_J2_add : MOKv M_J2_add 1 := ⟨q637, q638, q93, q639, ⟨by decide +kernel, by decide +kernel, by decide +kernel⟩⟩
set_option maxHeartbeats 4000000 in
theorem j_add (l : Launch) (g : GT) (a0 a1 cap : Nat) (mc : Int32) (n : Nat) (f : Nat → Option Nat) (x ci : Nat) (r0 : vw_C) (fs : List Value) (hr : vwCl[ci]? = some r0) (hcast : Cond.castable r0.1 "java/lang/Object" ∈ lw_tbl) (hi : n < cap) (hc : cap ≤ 1000) : CtE l g M_J2_add [.ref a0, .ref x] ((alW g a0 a1 cap mc n f) ++ [(x, .inr (ci, fs))]) (some (.int 1)) ((alW g a0 a1 cap (mc + 1) (n + 1) (va_up f n (some x))) ++ [(x, .inr (ci, fs))]) := by
  refine Ct.start2 (M := M_J2_add) rfl [(0, .ref a0), (1, .ref x)] rfl (by decide +kernel) (Nat.le_of_ble_eq_true rfl) ?_
  intro p e s m args below meth c A C
  refine v_aload_n C dJ2_add_0 0 rfl ?_
  refine v_dup C dJ2_add_1 rfl ?_
  refine v_get C in_J2 rfl 0 rfl 0 (by decide) q145 (fun x9 h9 => u_same (C.2.2.2.2.1 _ q146) x9 h9) rfl dJ2_add_2 ?_
  refine v_iconst (v := 1) C dJ2_add_5 (by decide) ?_
  refine v_iadd C dJ2_add_6 ?_
  refine v_put (ws' := [(_, .inr (8, [_, _, _])), (_, .inl (_, _, .inr (.inr (.inr (.inr _))))), (_, .inr (_, _))]) C in_J2 tyJ2 tyJ2_ok nmJ2 rfl 0 rfl 0 (by decide) q145 (fun x9 h9 => u_same (C.2.2.2.2.1 _ q146) x9 h9) rfl rfl rfl (Nat.le_of_ble_eq_true rfl) dJ2_add_7 rfl ?_
  refine v_aload_n C dJ2_add_10 0 rfl ?_
  refine v_aload_n C dJ2_add_11 1 rfl ?_
  refine v_aload_n C dJ2_add_12 0 rfl ?_
  refine v_get C in_J2 rfl 0 rfl 1 (by decide) q142 (fun _ h => h) rfl dJ2_add_13 ?_
  refine v_aload_n C dJ2_add_16 0 rfl ?_
  refine v_get C in_J2 rfl 0 rfl 2 (by decide) q143 (fun _ h => h) rfl dJ2_add_17 ?_
  refine v_callVv C (j_add2 l g a0 a1 cap (mc + 1) n f x ci r0 fs hr hcast hi hc) ok_J2_add_2 rfl q640 rfl (Nat.le_of_ble_eq_true rfl) 0 rfl rfl rfl dJ2_add_20 (roomL rfl rfl) ⟨rfl, rfl⟩ ?_
  refine v_iconst (v := 1) C dJ2_add_23 (by decide) ?_
  exact v_zret C rfl dJ2_add_24 (Nat.le_of_ble_eq_true rfl) (Nat.le_of_ble_eq_true rfl) ⟨rfl, rfl⟩
def M_J0_init : Md := (yJ0_init, cJ0_init, 1, none, 1, 40, 0, 0)
theorem ok_J0_init : MOKi M_J0_init 0 := ⟨q135, q91, q136, ⟨rfl, rfl⟩, ⟨by decide +kernel, by decide +kernel, by decide +kernel⟩⟩
set_option maxHeartbeats 4000000 in
theorem j_c0 (l : Launch) (g : GT) (q : Nat) : CtE l g M_J0_init [.ref q] [] none [] := by
  refine Ct.start2 (M := M_J0_init) rfl [(0, .ref q)] rfl (by decide +kernel) (Nat.le_of_ble_eq_true rfl) ?_
  intro p e s m args below meth c A C
  refine v_aload_n C dJ0_init_0 0 rfl ?_
  refine v_objInit C q137 q118 q119 dJ0_init_1 (Nat.le_of_ble_eq_true rfl) (Nat.le_of_ble_eq_true rfl) ?_
  exact v_vret C dJ0_init_4 (Nat.le_of_ble_eq_true rfl) (Nat.le_of_ble_eq_true rfl) ⟨rfl, rfl⟩
def M_J1_init : Md := (yJ1_init, cJ1_init, 1, none, 2, 60, 0, 0)
theorem ok_J1_init : MOKi M_J1_init 0 := ⟨q132, q92, q133, ⟨rfl, rfl⟩, ⟨by decide +kernel, by decide +kernel, by decide +kernel⟩⟩
set_option maxHeartbeats 4000000 in
theorem j_c1 (l : Launch) (g : GT) (q : Nat) : CtE l g M_J1_init [.ref q] [(q, .inr (8, [.int 0, .null, .int 0]))] none [(q, .inr (8, [.int 0, .null, .int 0]))] := by
  refine Ct.start2 (M := M_J1_init) rfl [(0, .ref q)] rfl (by decide +kernel) (Nat.le_of_ble_eq_true rfl) ?_
  intro p e s m args below meth c A C
  refine v_aload_n C dJ1_init_0 0 rfl ?_
  refine v_cMI C (j_c0 l g _) [] rfl ok_J0_init rfl q134 rfl (Nat.le_of_ble_eq_true rfl) dJ1_init_1 (roomL rfl rfl) rfl ?_
  refine v_aload_n C dJ1_init_4 0 rfl ?_
  refine v_iconst (v := 0) C dJ1_init_5 (by decide) ?_
  refine v_put (ws' := [(_, .inr (8, [_, _, _]))]) C in_J2 tyJ2 tyJ2_ok nmJ2 rfl 0 rfl 0 (by decide) q144 (fun _ h => h) rfl rfl rfl (Nat.le_of_ble_eq_true rfl) dJ1_init_6 rfl ?_
  exact v_vret C dJ1_init_9 (Nat.le_of_ble_eq_true rfl) (Nat.le_of_ble_eq_true rfl) ⟨rfl, rfl⟩
def M_J2_init : Md := (yJ2_init, cJ2_init, 2, none, 3, 80, 1, 8)
theorem ok_J2_init : MOKi M_J2_init 1 := ⟨q129, q93, q130, ⟨rfl, rfl⟩, ⟨by decide +kernel, by decide +kernel, by decide +kernel⟩⟩
set_option maxHeartbeats 4000000 in
theorem j_init (l : Launch) (g : GT) (q cap : Nat) (h1 : 1 ≤ cap) (h8 : cap ≤ 8) : Ct l g M_J2_init [.ref q, .int (nI cap)] [(q, .inr (8, [.int 0, .null, .int 0]))] (fun rv w => rv = none ∧ ∃ a1, w = alW g q a1 cap 0 0 (fun _ => none)) := by
  refine Ct.start2 (M := M_J2_init) rfl [(0, .ref q), (1, .int (nI cap))] rfl (by decide +kernel) (Nat.le_of_ble_eq_true rfl) ?_
  intro p e s m args below meth c A C
  refine v_aload_n C dJ2_init_0 0 rfl ?_
  refine v_cMI C (j_c1 l g _) [] rfl ok_J1_init rfl q131 rfl (Nat.le_of_ble_eq_true rfl) dJ2_init_1 (roomL rfl rfl) rfl ?_
  refine v_iload_n C dJ2_init_4 1 rfl ?_
  refine v_if_le C 19 dJ2_init_5 (by decide) (fun c5_1 => ?_) (fun c5_1 => ?_)
  · exact absurd c5_1 (fun q => by rw [show (0 : Int32) = nI 0 from rfl, nI_leI (by omega) (by decide)] at q; omega)
  · skip
    refine v_aload_n C dJ2_init_8 0 rfl ?_
    refine v_iload_n C dJ2_init_9 1 rfl ?_
    refine v_newq (N := cap) C 4 rfl q138 q139 (dnI (n := cap + 1) (by omega) (by omega)).1 (nI_clamp (by omega)) (by omega) (Nat.le_of_ble_eq_true rfl) (show 0 + 0 + cap ≤ 8 by omega) dJ2_init_10 (fun q10 => ?_)
    refine v_ws (ws' := [(_, .inr (8, [_, _, _])), (_, .inl (_, _, .inr (.inr (.inr (.inr _)))))]) rfl ?_
    refine v_put (ws' := [(_, .inr (8, [_, _, _])), (_, .inl (_, _, .inr (.inr (.inr (.inr _)))))]) C in_J2 tyJ2 tyJ2_ok nmJ2 rfl 0 rfl 1 (by decide) q142 (fun _ h => h) rfl rfl rfl (Nat.le_of_ble_eq_true rfl) dJ2_init_13 rfl ?_
    refine v_goto C 60 dJ2_init_16 (by decide) ?_
    exact v_vret C dJ2_init_60 (Nat.le_of_ble_eq_true rfl) (show 0 + 0 + cap ≤ 8 by omega) ⟨rfl, q10, rfl⟩
