/-! the reference's small methods -/
set_option maxRecDepth 100000
theorem bI_fit (P : Prop) [Decidable P] : fits .boolean (.int (bI P)) = true := by unfold bI; split <;> rfl
def M_X3_in : Md := (yX3_in, cX3_in, 3, (some .boolean), 1, 40, 0, 0)
theorem ok_X3_in : MOKs M_X3_in 3 := ⟨q1219, q103, q1220, ⟨by decide +kernel, by decide +kernel, by decide +kernel⟩⟩
set_option maxHeartbeats 4000000 in
theorem m_in (l : Launch) (g : GT) (v lo hi : Int32) : CtE l g M_X3_in [.int v, .int lo, .int hi] [] (some (.int (bI (lo ≤ v ∧ v ≤ hi)))) [] := by
  refine Ct.start2 (M := M_X3_in) rfl [(0, .int v), (1, .int lo), (2, .int hi)] rfl (by decide +kernel) (Nat.le_of_ble_eq_true rfl) ?_
  intro p e s m args below meth c A C
  refine v_iload_n C dX3_in_0 0 rfl ?_
  refine v_iload_n C dX3_in_1 1 rfl ?_
  refine v_icmp_lt C 14 dX3_in_2 (by decide) (fun c2_1 => ?_) (fun c2_1 => ?_)
  · skip
    refine v_iconst (v := 0) C dX3_in_14 (by decide) ?_
    exact v_zret C rfl dX3_in_15 (Nat.le_of_ble_eq_true rfl) (Nat.le_of_ble_eq_true rfl) ⟨si (in_f1 c2_1), rfl⟩
  · skip
    refine v_iload_n C dX3_in_5 0 rfl ?_
    refine v_iload_n C dX3_in_6 2 rfl ?_
    refine v_icmp_gt C 14 dX3_in_7 (by decide) (fun c7_2 => ?_) (fun c7_2 => ?_)
    · skip
      refine v_iconst (v := 0) C dX3_in_14 (by decide) ?_
      exact v_zret C rfl dX3_in_15 (Nat.le_of_ble_eq_true rfl) (Nat.le_of_ble_eq_true rfl) ⟨si (in_f2 c7_2), rfl⟩
    · skip
      refine v_iconst (v := 1) C dX3_in_10 (by decide) ?_
      refine v_goto C 15 dX3_in_11 (by decide) ?_
      exact v_zret C rfl dX3_in_15 (Nat.le_of_ble_eq_true rfl) (Nat.le_of_ble_eq_true rfl) ⟨si (in_t c2_1 c7_2), rfl⟩
def M_X3_of : Md := (yX3_of, cX3_of, 3, (some .int), 1, 40, 0, 0)
theorem ok_X3_of : MOKv M_X3_of 2 := ⟨q1243, qs48, q103, q1244, ⟨by decide +kernel, by decide +kernel, by decide +kernel⟩⟩
set_option maxHeartbeats 4000000 in
theorem m_of (l : Launch) (g : GT) (a : Nat → Nat) (row : Nat → Int32) (books : Nat → Int64) (S : Int32 × (Nat → Int32)) (B : (Nat → Int32) × Int32 × (Nat → Int32)) (T : (Nat → Int32) × Int32) (P : Int32 × Int32 × (Nat → Int32) × Int32 × Int32) (h : Int64) (b w : Nat) (bi wi : Int32) (eb : bi = nI b) (ew : wi = nI w) (hb : 10 + 9 * b + w < 1040) : CtE l g M_X3_of [.ref (a 0), .int bi, .int wi] (mw g a row books S B T P h) (some (.int (row (10 + 9 * b + w)))) (mw g a row books S B T P h) := by
  refine Ct.start2 (M := M_X3_of) rfl [(0, .ref (a 0)), (1, .int bi), (2, .int wi)] rfl (by decide +kernel) (Nat.le_of_ble_eq_true rfl) ?_
  intro p e s m args below meth c A C
  subst eb; subst ew
  refine v_aload_n C dX3_of_0 0 rfl ?_
  refine v_get C in_X3 rfl 0 rfl 0 (by decide) q1166 (fun _ h => h) rfl dX3_of_1 ?_
  refine v_bipush (v := 10) C dX3_of_4 (by decide) ?_
  refine v_bipush (v := 9) C dX3_of_6 (by decide) ?_
  refine v_iload_n C dX3_of_8 1 rfl ?_
  refine v_imul C dX3_of_9 ?_
  refine v_eqi (pk_mul 9 b) ?_
  refine v_iadd C dX3_of_10 ?_
  refine v_eqi (nI_add 10 (9 * b)) ?_
  refine v_iload_n C dX3_of_11 2 rfl ?_
  refine v_iadd C dX3_of_12 ?_
  refine v_eqi (nI_add (10 + (9 * b)) w) ?_
  refine v_iald C dX3_of_13 1 rfl (ixn (by omega) (by decide)) ?_
  exact v_iret C dX3_of_14 (Nat.le_of_ble_eq_true rfl) (Nat.le_of_ble_eq_true rfl) ⟨rfl, rfl⟩
def M_X3_sets : Md := (yX3_sets, cX3_sets, 4, none, 1, 40, 0, 0)
theorem ok_X3_sets : MOKv M_X3_sets 3 := ⟨q1231, qs46, q103, q1232, ⟨by decide +kernel, by decide +kernel, by decide +kernel⟩⟩
set_option maxHeartbeats 4000000 in
theorem m_sets (l : Launch) (g : GT) (a : Nat → Nat) (row : Nat → Int32) (books : Nat → Int64) (S : Int32 × (Nat → Int32)) (B : (Nat → Int32) × Int32 × (Nat → Int32)) (T : (Nat → Int32) × Int32) (P : Int32 × Int32 × (Nat → Int32) × Int32 × Int32) (h : Int64) (b w : Nat) (bi wi v : Int32) (eb : bi = nI b) (ew : wi = nI w) (hb : 10 + 9 * b + w < 1040) : CtE l g M_X3_sets [.ref (a 0), .int bi, .int wi, .int v] (mw g a row books S B T P h) none (mw g a (upd row (10 + 9 * b + w) v) books S B T P h) := by
  refine Ct.start2 (M := M_X3_sets) rfl [(0, .ref (a 0)), (1, .int bi), (2, .int wi), (3, .int v)] rfl (by decide +kernel) (Nat.le_of_ble_eq_true rfl) ?_
  intro p e s m args below meth c A C
  subst eb; subst ew
  refine v_aload_n C dX3_sets_0 0 rfl ?_
  refine v_get C in_X3 rfl 0 rfl 0 (by decide) q1166 (fun _ h => h) rfl dX3_sets_1 ?_
  refine v_bipush (v := 10) C dX3_sets_4 (by decide) ?_
  refine v_bipush (v := 9) C dX3_sets_6 (by decide) ?_
  refine v_iload_n C dX3_sets_8 1 rfl ?_
  refine v_imul C dX3_sets_9 ?_
  refine v_eqi (pk_mul 9 b) ?_
  refine v_iadd C dX3_sets_10 ?_
  refine v_eqi (nI_add 10 (9 * b)) ?_
  refine v_iload_n C dX3_sets_11 2 rfl ?_
  refine v_iadd C dX3_sets_12 ?_
  refine v_eqi (nI_add (10 + (9 * b)) w) ?_
  refine v_iload_n C dX3_sets_13 3 rfl ?_
  refine v_iast (ws' := mw g a _ _ _ _ _ _ _) C dX3_sets_14 1 rfl (ixn (by omega) (by decide)) rfl ?_
  exact v_vret C dX3_sets_15 (Nat.le_of_ble_eq_true rfl) (Nat.le_of_ble_eq_true rfl) ⟨rfl, rfl⟩
def M_X3_ofLeg : Md := (yX3_ofLeg, cX3_ofLeg, 3, (some .int), 1, 40, 0, 0)
theorem ok_X3_ofLeg : MOKv M_X3_ofLeg 2 := ⟨q1259, qs50, q103, q1260, ⟨by decide +kernel, by decide +kernel, by decide +kernel⟩⟩
set_option maxHeartbeats 4000000 in
theorem m_ofLeg (l : Launch) (g : GT) (a : Nat → Nat) (row : Nat → Int32) (books : Nat → Int64) (S : Int32 × (Nat → Int32)) (B : (Nat → Int32) × Int32 × (Nat → Int32)) (T : (Nat → Int32) × Int32) (P : Int32 × Int32 × (Nat → Int32) × Int32 × Int32) (h : Int64) (b w : Nat) (bi wi : Int32) (eb : bi = nI b) (ew : wi = nI w) (hb : 82 + 4 * b + w < 1040) : CtE l g M_X3_ofLeg [.ref (a 0), .int bi, .int wi] (mw g a row books S B T P h) (some (.int (row (82 + 4 * b + w)))) (mw g a row books S B T P h) := by
  refine Ct.start2 (M := M_X3_ofLeg) rfl [(0, .ref (a 0)), (1, .int bi), (2, .int wi)] rfl (by decide +kernel) (Nat.le_of_ble_eq_true rfl) ?_
  intro p e s m args below meth c A C
  subst eb; subst ew
  refine v_aload_n C dX3_ofLeg_0 0 rfl ?_
  refine v_get C in_X3 rfl 0 rfl 0 (by decide) q1166 (fun _ h => h) rfl dX3_ofLeg_1 ?_
  refine v_bipush (v := 82) C dX3_ofLeg_4 (by decide) ?_
  refine v_iconst (v := 4) C dX3_ofLeg_6 (by decide) ?_
  refine v_iload_n C dX3_ofLeg_7 1 rfl ?_
  refine v_imul C dX3_ofLeg_8 ?_
  refine v_eqi (pk_mul 4 b) ?_
  refine v_iadd C dX3_ofLeg_9 ?_
  refine v_eqi (nI_add 82 (4 * b)) ?_
  refine v_iload_n C dX3_ofLeg_10 2 rfl ?_
  refine v_iadd C dX3_ofLeg_11 ?_
  refine v_eqi (nI_add (82 + (4 * b)) w) ?_
  refine v_iald C dX3_ofLeg_12 1 rfl (ixn (by omega) (by decide)) ?_
  exact v_iret C dX3_ofLeg_13 (Nat.le_of_ble_eq_true rfl) (Nat.le_of_ble_eq_true rfl) ⟨rfl, rfl⟩
def M_X3_ofContract : Md := (yX3_ofContract, cX3_ofContract, 3, (some .int), 1, 40, 0, 0)
theorem ok_X3_ofContract : MOKv M_X3_ofContract 2 := ⟨q1290, qs53, q103, q1291, ⟨by decide +kernel, by decide +kernel, by decide +kernel⟩⟩
set_option maxHeartbeats 4000000 in
theorem m_ofContract (l : Launch) (g : GT) (a : Nat → Nat) (row : Nat → Int32) (books : Nat → Int64) (S : Int32 × (Nat → Int32)) (B : (Nat → Int32) × Int32 × (Nat → Int32)) (T : (Nat → Int32) × Int32) (P : Int32 × Int32 × (Nat → Int32) × Int32 × Int32) (h : Int64) (b w : Nat) (bi wi : Int32) (eb : bi = nI b) (ew : wi = nI w) (hb : 94 + 6 * b + w < 1040) : CtE l g M_X3_ofContract [.ref (a 0), .int bi, .int wi] (mw g a row books S B T P h) (some (.int (row (94 + 6 * b + w)))) (mw g a row books S B T P h) := by
  refine Ct.start2 (M := M_X3_ofContract) rfl [(0, .ref (a 0)), (1, .int bi), (2, .int wi)] rfl (by decide +kernel) (Nat.le_of_ble_eq_true rfl) ?_
  intro p e s m args below meth c A C
  subst eb; subst ew
  refine v_aload_n C dX3_ofContract_0 0 rfl ?_
  refine v_get C in_X3 rfl 0 rfl 0 (by decide) q1166 (fun _ h => h) rfl dX3_ofContract_1 ?_
  refine v_bipush (v := 94) C dX3_ofContract_4 (by decide) ?_
  refine v_bipush (v := 6) C dX3_ofContract_6 (by decide) ?_
  refine v_iload_n C dX3_ofContract_8 1 rfl ?_
  refine v_imul C dX3_ofContract_9 ?_
  refine v_eqi (pk_mul 6 b) ?_
  refine v_iadd C dX3_ofContract_10 ?_
  refine v_eqi (nI_add 94 (6 * b)) ?_
  refine v_iload_n C dX3_ofContract_11 2 rfl ?_
  refine v_iadd C dX3_ofContract_12 ?_
  refine v_eqi (nI_add (94 + (6 * b)) w) ?_
  refine v_iald C dX3_ofContract_13 1 rfl (ixn (by omega) (by decide)) ?_
  exact v_iret C dX3_ofContract_14 (Nat.le_of_ble_eq_true rfl) (Nat.le_of_ble_eq_true rfl) ⟨rfl, rfl⟩
def M_X3_copies : Md := (yX3_copies, cX3_copies, 4, none, 1, 40, 0, 0)
theorem ok_X3_copies : MOKv M_X3_copies 2 := ⟨q1227, qs45, q103, q1228, ⟨by decide +kernel, by decide +kernel, by decide +kernel⟩⟩
set_option maxHeartbeats 4000000 in
theorem m_copies (l : Launch) (g : GT) (a : Nat → Nat) (row : Nat → Int32) (books : Nat → Int64) (S : Int32 × (Nat → Int32)) (B : (Nat → Int32) × Int32 × (Nat → Int32)) (T : (Nat → Int32) × Int32) (P : Int32 × Int32 × (Nat → Int32) × Int32 × Int32) (h : Int64) (f t : Nat) (fi ti : Int32) (ef : fi = nI f) (et : ti = nI t) (hf : f < 8) (ht : t < 8) (hne : f ≠ t) : CtE l g M_X3_copies [.ref (a 0), .int fi, .int ti] (mw g a row books S B T P h) none (mw g a (cpN row 130 f t 130) (cpN books 6 f t 6) S B T P h) := by
  refine Ct.start2 (M := M_X3_copies) rfl [(0, .ref (a 0)), (1, .int fi), (2, .int ti)] rfl (by decide +kernel) (Nat.le_of_ble_eq_true rfl) ?_
  intro p e s m args below meth c A C
  subst ef; subst et
  refine v_iconst (v := 0) C dX3_copies_0 (by decide) ?_
  refine v_istore_n (lv' := [(3, _), (0, _), (1, _), (2, _)]) C dX3_copies_1 rfl (by decide) rfl ?_
  refine v_loop 0 130 (fun k => [(3, .int (nI k)), (0, .ref (a 0)), (1, .int (nI f)), (2, .int (nI t))]) (fun k => mw g a (cpN row 130 f t k) books S B T P h) rfl (by rw [cpN_0]) (by omega) ?_ ?_
  · skip
    refine v_iload_n C dX3_copies_2 0 rfl ?_
    refine v_sipush (v := 130) C dX3_copies_3 (by decide) ?_
    refine v_icmp_ge C 39 dX3_copies_6 (by decide) (fun c6_1 => ?_) (fun c6_1 => ?_)
    · skip
      refine v_iconst (v := 0) C dX3_copies_39 (by decide) ?_
      refine v_istore_n (lv' := [(3, _), (0, _), (1, _), (2, _)]) C dX3_copies_40 rfl (by decide) rfl ?_
      refine v_loop 0 6 (fun k => [(3, .int (nI k)), (0, .ref (a 0)), (1, .int (nI f)), (2, .int (nI t))]) (fun k => mw g a (cpN row 130 f t 130) (cpN books 6 f t k) S B T P h) rfl (by rw [cpN_0]) (by omega) ?_ ?_
      · skip
        refine v_iload_n C dX3_copies_41 0 rfl ?_
        refine v_bipush (v := 6) C dX3_copies_42 (by decide) ?_
        refine v_icmp_ge C 75 dX3_copies_44 (by decide) (fun c44_2 => ?_) (fun c44_2 => ?_)
        · skip
          exact v_vret C dX3_copies_75 (Nat.le_of_ble_eq_true rfl) (Nat.le_of_ble_eq_true rfl) ⟨rfl, rfl⟩
        · exact absurd (Int32.le_refl _) c44_2
      · intro k hk hk0 hback
        refine v_iload_n C dX3_copies_41 0 rfl ?_
        refine v_bipush (v := 6) C dX3_copies_42 (by decide) ?_
        refine v_icmp_ge C 75 dX3_copies_44 (by decide) (fun c44_3 => ?_) (fun c44_3 => ?_)
        · exact absurd c44_3 (nI_ge hk (by first | decide | omega))
        · skip
          refine v_aload_n C dX3_copies_47 1 rfl ?_
          refine v_get C in_X3 rfl 0 rfl 1 (by decide) q1167 (fun _ h => h) rfl dX3_copies_48 ?_
          refine v_bipush (v := 6) C dX3_copies_51 (by decide) ?_
          refine v_iload_n C dX3_copies_53 3 rfl ?_
          refine v_imul C dX3_copies_54 ?_
          refine v_eqi (pk_mul 6 t) ?_
          refine v_iload_n C dX3_copies_55 0 rfl ?_
          refine v_iadd C dX3_copies_56 ?_
          refine v_eqi (nI_add (6 * t) k) ?_
          refine v_aload_n C dX3_copies_57 1 rfl ?_
          refine v_get C in_X3 rfl 0 rfl 1 (by decide) q1167 (fun _ h => h) rfl dX3_copies_58 ?_
          refine v_bipush (v := 6) C dX3_copies_61 (by decide) ?_
          refine v_iload_n C dX3_copies_63 2 rfl ?_
          refine v_imul C dX3_copies_64 ?_
          refine v_eqi (pk_mul 6 f) ?_
          refine v_iload_n C dX3_copies_65 0 rfl ?_
          refine v_iadd C dX3_copies_66 ?_
          refine v_eqi (nI_add (6 * f) k) ?_
          refine v_lald C dX3_copies_67 2 rfl (ixn (by omega) (by decide)) ?_
          refine v_last (ws' := mw g a _ _ _ _ _ _ _) C dX3_copies_68 2 rfl (ixn (by omega) (by decide)) rfl ?_
          refine v_iinc (lv' := [(3, _), (0, _), (1, _), (2, _)]) C dX3_copies_69 0 rfl (nI_1 k) (by decide) rfl ?_
          refine v_goto C 41 dX3_copies_72 (by decide) ?_
          rw [cpN_l books hk hne]; exact hback
    · exact absurd (Int32.le_refl _) c6_1
  · intro k hk hk0 hback
    refine v_iload_n C dX3_copies_2 0 rfl ?_
    refine v_sipush (v := 130) C dX3_copies_3 (by decide) ?_
    refine v_icmp_ge C 39 dX3_copies_6 (by decide) (fun c6_4 => ?_) (fun c6_4 => ?_)
    · exact absurd c6_4 (nI_ge hk (by first | decide | omega))
    · skip
      refine v_aload_n C dX3_copies_9 1 rfl ?_
      refine v_get C in_X3 rfl 0 rfl 0 (by decide) q1166 (fun _ h => h) rfl dX3_copies_10 ?_
      refine v_sipush (v := 130) C dX3_copies_13 (by decide) ?_
      refine v_iload_n C dX3_copies_16 3 rfl ?_
      refine v_imul C dX3_copies_17 ?_
      refine v_eqi (pk_mul 130 t) ?_
      refine v_iload_n C dX3_copies_18 0 rfl ?_
      refine v_iadd C dX3_copies_19 ?_
      refine v_eqi (nI_add (130 * t) k) ?_
      refine v_aload_n C dX3_copies_20 1 rfl ?_
      refine v_get C in_X3 rfl 0 rfl 0 (by decide) q1166 (fun _ h => h) rfl dX3_copies_21 ?_
      refine v_sipush (v := 130) C dX3_copies_24 (by decide) ?_
      refine v_iload_n C dX3_copies_27 2 rfl ?_
      refine v_imul C dX3_copies_28 ?_
      refine v_eqi (pk_mul 130 f) ?_
      refine v_iload_n C dX3_copies_29 0 rfl ?_
      refine v_iadd C dX3_copies_30 ?_
      refine v_eqi (nI_add (130 * f) k) ?_
      refine v_iald C dX3_copies_31 1 rfl (ixn (by omega) (by decide)) ?_
      refine v_iast (ws' := mw g a _ _ _ _ _ _ _) C dX3_copies_32 1 rfl (ixn (by omega) (by decide)) rfl ?_
      refine v_iinc (lv' := [(3, _), (0, _), (1, _), (2, _)]) C dX3_copies_33 0 rfl (nI_1 k) (by decide) rfl ?_
      refine v_goto C 2 dX3_copies_36 (by decide) ?_
      rw [cpN_i row hk hne]; exact hback
