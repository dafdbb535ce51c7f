/-! the reference: history, images, hash -/
set_option maxRecDepth 100000
def p_undo (K : KT) : Int32 × KT :=
  if K.2.2.1 = 0 then (-4, K) else (K.2.2.1 - 1, (cpN K.1 130 (svOf K) 0 130, cpN K.2.1 6 (svOf K) 0 6, (K.2.2.1 - 1, K.2.2.2)))
def p_keep (K : KT) (im : Int32) : Int32 × KT :=
  if 0 ≤ im ∧ im ≤ 1 then (cpN K.1 130 0 (6 + im.toNatClampNeg) 130 0, (cpN K.1 130 0 (6 + im.toNatClampNeg) 130, cpN K.2.1 6 0 (6 + im.toNatClampNeg) 6, (K.2.2.1, upd K.2.2.2 im.toNatClampNeg 1))) else (-2, K)
def p_back (K : KT) (im : Int32) : Int32 × KT :=
  if 0 ≤ im ∧ im ≤ 1 then if K.2.2.2 im.toNatClampNeg = 0 then (-4, K) else
    let K1 := svK K
    (cpN K1.1 130 (6 + im.toNatClampNeg) 0 130 0, (cpN K1.1 130 (6 + im.toNatClampNeg) 0 130, cpN K1.2.1 6 (6 + im.toNatClampNeg) 0 6, K1.2.2))
  else (-2, K)
def hfold (f : Nat → Int64) : Nat → Int64 → Int64
  | 0, h => h
  | k + 1, h => 31 * hfold f k h + f k
def dgA (r : Nat → Int32) (nb nc k : Nat) : Int64 := hfold (fun k => (p_count r nb nc (nI k)).toInt64) k 17
def dgB (r : Nat → Int32) (nb nc b : Nat) : Int64 := iter (fun b h => hfold (fun w => (p_prop r b (nI w)).toInt64) 10 h) b (dgA r nb nc 10)
def dgL (r : Nat → Int32) (nb nc l : Nat) : Int64 := iter (fun b h => hfold (fun w => (p_legProp r b (nI w)).toInt64) 5 h) l (dgB r nb nc nb)
def dgP (r : Nat → Int32) (nb nl nc k : Nat) : Int64 := hfold (fun k => (r (6 + k)).toInt64) k (dgL r nb nc nl)
def dgK (r : Nat → Int32) (bk : Nat → Int64) (nb nl nc k : Nat) : Int64 := hfold (fun k => p_book bk (nI k)) k (dgP r nb nl nc 4)
def p_digest (r : Nat → Int32) (bk : Nat → Int64) (nb nl nc : Nat) : Int64 := hfold (fun k => (r (94 + k)).toInt64) (6 * nc) (dgK r bk nb nl nc 7)
def p_type (T : (Nat → Int32) × Int32) (code : Int32) : Int32 × ((Nat → Int32) × Int32) :=
  if 0 ≤ code ∧ code ≤ 255 then if T.2 = 120 then (-5, T) else (T.2 + 1, (upd T.1 T.2.toNatClampNeg code, T.2 + 1)) else (-3, T)
theorem dgB_0 (r : Nat → Int32) (nb nc : Nat) : dgB r nb nc 0 = dgA r nb nc 10 := by unfold dgB; rw [iter]
theorem dgL_0 (r : Nat → Int32) (nb nc : Nat) : dgL r nb nc 0 = dgB r nb nc nb := by unfold dgL; rw [iter]
theorem dgP_0 (r : Nat → Int32) (nb nl nc : Nat) : dgP r nb nl nc 0 = dgL r nb nc nl := by unfold dgP; rw [hfold]
theorem dgK_0 (r : Nat → Int32) (bk : Nat → Int64) (nb nl nc : Nat) : dgK r bk nb nl nc 0 = dgP r nb nl nc 4 := by unfold dgK; rw [hfold]
theorem hf_0 (f : Nat → Int64) (h : Int64) : hfold f 0 h = h := rfl
theorem dgA_s (r : Nat → Int32) (nb nc k : Nat) : dgA r nb nc (k + 1) = 31 * dgA r nb nc k + (p_count r nb nc (nI k)).toInt64 := by unfold dgA; rw [hfold]
theorem dgB_s (r : Nat → Int32) (nb nc k : Nat) : dgB r nb nc (k + 1) = hfold (fun w => (p_prop r k (nI w)).toInt64) 10 (dgB r nb nc k) := by unfold dgB; rw [iter]
theorem dgL_s (r : Nat → Int32) (nb nc k : Nat) : dgL r nb nc (k + 1) = hfold (fun w => (p_legProp r k (nI w)).toInt64) 5 (dgL r nb nc k) := by unfold dgL; rw [iter]
theorem dgP_s (r : Nat → Int32) (nb nl nc k : Nat) : dgP r nb nl nc (k + 1) = 31 * dgP r nb nl nc k + (r (6 + k)).toInt64 := by unfold dgP; rw [hfold]
theorem dgK_s (r : Nat → Int32) (bk : Nat → Int64) (nb nl nc k : Nat) : dgK r bk nb nl nc (k + 1) = 31 * dgK r bk nb nl nc k + p_book bk (nI k) := by unfold dgK; rw [hfold]
theorem hf_s (f : Nat → Int64) (h : Int64) (k : Nat) : hfold f (k + 1) h = 31 * hfold f k h + f k := rfl
theorem z_nar1 : vp_nar .boolean 1 = 1 := rfl
def M_X3_undo : Md := (yX3_undo, cX3_undo, 1, (some .int), 2, 63, 0, 0)
theorem ok_X3_undo : MOKv M_X3_undo 0 := ⟨q1544, q1545, q103, q1546, ⟨by decide +kernel, by decide +kernel, by decide +kernel⟩⟩
set_option maxHeartbeats 4000000 in
theorem m_undo (l : Launch) (g : GT) (a : Nat → Nat) (K : KT) (B : (Nat → Int32) × Int32 × (Nat → Int32)) (T : (Nat → Int32) × Int32) (P : Int32 × Int32 × (Nat → Int32) × Int32 × Int32) (h : Int64) (hK : KOk K)  : CtE l g M_X3_undo [.ref (a 0)] (mw g a K.1 K.2.1 K.2.2 B T P h) (some (.int (p_undo K).1)) (mw g a (p_undo K).2.1 (p_undo K).2.2.1 (p_undo K).2.2.2 B T P h) := by
  refine Ct.start2 (M := M_X3_undo) rfl [(0, .ref (a 0))] rfl (by decide +kernel) (Nat.le_of_ble_eq_true rfl) ?_
  intro p e s m args below meth c A C
  obtain ⟨⟨hnb, hb8⟩, ⟨hnl, hl3⟩, ⟨hnc, hc6⟩, hsv, hs5⟩ := id hK
  refine v_aload_n C dX3_undo_0 0 rfl ?_
  refine v_get C in_X3 rfl 0 rfl 2 (by decide) q1168 (fun _ h => h) rfl dX3_undo_1 ?_
  refine v_if_ne C 10 dX3_undo_4 (by decide) (fun c4_1 => ?_) (fun c4_1 => ?_)
  · skip
    have hne : svOf K ≠ 0 := fun q => c4_1 (by rw [hsv, q]; rfl)
    refine v_aload_n C dX3_undo_10 0 rfl ?_
    refine v_aload_n C dX3_undo_11 0 rfl ?_
    refine v_get C in_X3 rfl 0 rfl 2 (by decide) q1168 (fun _ h => h) rfl dX3_undo_12 ?_
    refine v_iconst (v := 0) C dX3_undo_15 (by decide) ?_
    refine v_callVv C (m_copies l g a _ _ _ _ _ _ _ (svOf K) 0 _ _ hsv rfl (by omega) (by omega) hne) ok_X3_copies rfl q1225 rfl (Nat.le_of_ble_eq_true rfl) 0 rfl rfl rfl dX3_undo_16 (roomL rfl rfl) ⟨rfl, rfl⟩ ?_
    refine v_aload_n C dX3_undo_19 0 rfl ?_
    refine v_dup C dX3_undo_20 rfl ?_
    refine v_get C in_X3 rfl 0 rfl 2 (by decide) q1168 (fun _ h => h) rfl dX3_undo_21 ?_
    refine v_iconst (v := 1) C dX3_undo_24 (by decide) ?_
    refine v_isub C dX3_undo_25 ?_
    refine v_put (ws' := mw g a _ _ (_, _) _ _ _ _) C in_X3 tyX3 tyX3_ok nmX3 rfl 0 rfl 2 (by decide) q1168 (fun _ h => h) rfl rfl rfl (Nat.le_of_ble_eq_true rfl) dX3_undo_26 rfl ?_
    refine v_aload_n C dX3_undo_29 0 rfl ?_
    refine v_get C in_X3 rfl 0 rfl 2 (by decide) q1168 (fun _ h => h) rfl dX3_undo_30 ?_
    exact v_iret C dX3_undo_33 (Nat.le_of_ble_eq_true rfl) (Nat.le_of_ble_eq_true rfl) (by unfold p_undo; (try dsimp only); rw [if_neg c4_1]; exact ⟨rfl, rfl⟩)
  · skip
    refine v_bipush (v := -4) C dX3_undo_7 (by decide) ?_
    exact v_iret C dX3_undo_9 (Nat.le_of_ble_eq_true rfl) (Nat.le_of_ble_eq_true rfl) (by unfold p_undo; (try dsimp only); rw [if_pos c4_1]; exact ⟨rfl, rfl⟩)
def M_X3_keep : Md := (yX3_keep, cX3_keep, 2, (some .int), 2, 63, 0, 0)
theorem ok_X3_keep : MOKv M_X3_keep 1 := ⟨q1548, q1549, q103, q1550, ⟨by decide +kernel, by decide +kernel, by decide +kernel⟩⟩
set_option maxHeartbeats 4000000 in
theorem m_keep (l : Launch) (g : GT) (a : Nat → Nat) (K : KT) (B : (Nat → Int32) × Int32 × (Nat → Int32)) (T : (Nat → Int32) × Int32) (P : Int32 × Int32 × (Nat → Int32) × Int32 × Int32) (h : Int64) (hK : KOk K) (im : Int32) : CtE l g M_X3_keep [.ref (a 0), .int im] (mw g a K.1 K.2.1 K.2.2 B T P h) (some (.int (p_keep K im).1)) (mw g a (p_keep K im).2.1 (p_keep K im).2.2.1 (p_keep K im).2.2.2 B T P h) := by
  refine Ct.start2 (M := M_X3_keep) rfl [(0, .ref (a 0)), (1, .int im)] rfl (by decide +kernel) (Nat.le_of_ble_eq_true rfl) ?_
  intro p e s m args below meth c A C
  obtain ⟨⟨hnb, hb8⟩, ⟨hnl, hl3⟩, ⟨hnc, hc6⟩, hsv, hs5⟩ := id hK
  refine v_iload_n C dX3_keep_0 1 rfl ?_
  refine v_iconst (v := 0) C dX3_keep_1 (by decide) ?_
  refine v_iconst (v := 1) C dX3_keep_2 (by decide) ?_
  refine v_callSp C (m_in l g _ _ _) ok_X3_in rfl q1218 rfl (Nat.le_of_ble_eq_true rfl) dX3_keep_3 (roomL rfl rfl) ⟨rfl, rfl⟩ ?_
  refine v_if_neB C 12 dX3_keep_6 (by decide) (fun c6_1 => ?_) (fun c6_1 => ?_)
  · skip
    obtain ⟨ei, hi⟩ := in_c (n := 1) rfl (by decide) c6_1
    refine v_aload_n C dX3_keep_12 0 rfl ?_
    refine v_iconst (v := 0) C dX3_keep_13 (by decide) ?_
    refine v_bipush (v := 6) C dX3_keep_14 (by decide) ?_
    refine v_iload_n C dX3_keep_16 1 rfl ?_
    refine v_eqi ei ?_
    refine v_iadd C dX3_keep_17 ?_
    refine v_eqi (nI_add 6 (im.toNatClampNeg)) ?_
    refine v_callVv C (m_copies l g a _ _ _ _ _ _ _ 0 (6 + im.toNatClampNeg) _ _ rfl rfl (by omega) (by omega) (by omega)) ok_X3_copies rfl q1225 rfl (Nat.le_of_ble_eq_true rfl) 0 rfl rfl rfl dX3_keep_18 (roomL rfl rfl) ⟨rfl, rfl⟩ ?_
    refine v_aload_n C dX3_keep_21 0 rfl ?_
    refine v_get C in_X3 rfl 0 rfl 3 (by decide) q1169 (fun _ h => h) rfl dX3_keep_22 ?_
    refine v_iload_n C dX3_keep_25 1 rfl ?_
    refine v_eqi ei ?_
    refine v_iconst (v := 1) C dX3_keep_26 (by decide) ?_
    refine v_zast (ws' := mw g a _ _ (K.2.2.1, (upd K.2.2.2 _ _)) _ _ _ _) C dX3_keep_27 3 rfl (ixn (by omega) (by decide)) rfl ?_
    refine v_aload_n C dX3_keep_28 0 rfl ?_
    refine v_get C in_X3 rfl 0 rfl 0 (by decide) q1166 (fun _ h => h) rfl dX3_keep_29 ?_
    refine v_iconst (v := 0) C dX3_keep_32 (by decide) ?_
    refine v_iald C dX3_keep_33 1 rfl (j := 0) (ixl rfl) ?_
    exact v_iret C dX3_keep_34 (Nat.le_of_ble_eq_true rfl) (Nat.le_of_ble_eq_true rfl) (by unfold p_keep; (try dsimp only); rw [if_pos c6_1]; exact ⟨rfl, rfl⟩)
  · skip
    refine v_bipush (v := -2) C dX3_keep_9 (by decide) ?_
    exact v_iret C dX3_keep_11 (Nat.le_of_ble_eq_true rfl) (Nat.le_of_ble_eq_true rfl) (by unfold p_keep; (try dsimp only); rw [if_neg c6_1]; exact ⟨rfl, rfl⟩)
def M_X3_back : Md := (yX3_back, cX3_back, 2, (some .int), 3, 84, 0, 0)
theorem ok_X3_back : MOKv M_X3_back 1 := ⟨q1552, q1553, q103, q1554, ⟨by decide +kernel, by decide +kernel, by decide +kernel⟩⟩
set_option maxHeartbeats 4000000 in
theorem m_back (l : Launch) (g : GT) (a : Nat → Nat) (K : KT) (B : (Nat → Int32) × Int32 × (Nat → Int32)) (T : (Nat → Int32) × Int32) (P : Int32 × Int32 × (Nat → Int32) × Int32 × Int32) (h : Int64) (hK : KOk K) (im : Int32) : CtE l g M_X3_back [.ref (a 0), .int im] (mw g a K.1 K.2.1 K.2.2 B T P h) (some (.int (p_back K im).1)) (mw g a (p_back K im).2.1 (p_back K im).2.2.1 (p_back K im).2.2.2 B T P h) := by
  refine Ct.start2 (M := M_X3_back) rfl [(0, .ref (a 0)), (1, .int im)] rfl (by decide +kernel) (Nat.le_of_ble_eq_true rfl) ?_
  intro p e s m args below meth c A C
  obtain ⟨⟨hnb, hb8⟩, ⟨hnl, hl3⟩, ⟨hnc, hc6⟩, hsv, hs5⟩ := id hK
  refine v_iload_n C dX3_back_0 1 rfl ?_
  refine v_iconst (v := 0) C dX3_back_1 (by decide) ?_
  refine v_iconst (v := 1) C dX3_back_2 (by decide) ?_
  refine v_callSp C (m_in l g _ _ _) ok_X3_in rfl q1218 rfl (Nat.le_of_ble_eq_true rfl) dX3_back_3 (roomL rfl rfl) ⟨rfl, rfl⟩ ?_
  refine v_if_neB C 12 dX3_back_6 (by decide) (fun c6_1 => ?_) (fun c6_1 => ?_)
  · skip
    obtain ⟨ei, hi⟩ := in_c (n := 1) rfl (by decide) c6_1
    refine v_aload_n C dX3_back_12 0 rfl ?_
    refine v_get C in_X3 rfl 0 rfl 3 (by decide) q1169 (fun _ h => h) rfl dX3_back_13 ?_
    refine v_iload_n C dX3_back_16 1 rfl ?_
    refine v_eqi ei ?_
    refine v_zald C dX3_back_17 3 rfl (ixn (by omega) (by decide)) ?_
    refine v_if_ne C 24 dX3_back_18 (by decide) (fun c18_2 => ?_) (fun c18_2 => ?_)
    · skip
      refine v_aload_n C dX3_back_24 0 rfl ?_
      refine v_callVv C (m_saves l g a _ _ _ _ _ hK.2.2.2.1 hK.2.2.2.2) ok_X3_saves rfl q1221 rfl (Nat.le_of_ble_eq_true rfl) 0 rfl rfl rfl dX3_back_25 (roomL rfl rfl) ⟨rfl, rfl⟩ ?_
      refine v_aload_n C dX3_back_28 0 rfl ?_
      refine v_bipush (v := 6) C dX3_back_29 (by decide) ?_
      refine v_iload_n C dX3_back_31 1 rfl ?_
      refine v_eqi ei ?_
      refine v_iadd C dX3_back_32 ?_
      refine v_eqi (nI_add 6 (im.toNatClampNeg)) ?_
      refine v_iconst (v := 0) C dX3_back_33 (by decide) ?_
      refine v_callVv C (m_copies l g a _ _ _ _ _ _ _ (6 + im.toNatClampNeg) 0 _ _ rfl rfl (by omega) (by omega) (by omega)) ok_X3_copies rfl q1225 rfl (Nat.le_of_ble_eq_true rfl) 0 rfl rfl rfl dX3_back_34 (roomL rfl rfl) ⟨rfl, rfl⟩ ?_
      refine v_aload_n C dX3_back_37 0 rfl ?_
      refine v_get C in_X3 rfl 0 rfl 0 (by decide) q1166 (fun _ h => h) rfl dX3_back_38 ?_
      refine v_iconst (v := 0) C dX3_back_41 (by decide) ?_
      refine v_iald C dX3_back_42 1 rfl (j := 0) (ixl rfl) ?_
      exact v_iret C dX3_back_43 (Nat.le_of_ble_eq_true rfl) (Nat.le_of_ble_eq_true rfl) (by unfold p_back; (try dsimp only); rw [if_pos c6_1, if_neg c18_2]; exact ⟨rfl, rfl⟩)
    · skip
      refine v_bipush (v := -4) C dX3_back_21 (by decide) ?_
      exact v_iret C dX3_back_23 (Nat.le_of_ble_eq_true rfl) (Nat.le_of_ble_eq_true rfl) (by unfold p_back; (try dsimp only); rw [if_pos c6_1, if_pos c18_2]; exact ⟨rfl, rfl⟩)
  · skip
    refine v_bipush (v := -2) C dX3_back_9 (by decide) ?_
    exact v_iret C dX3_back_11 (Nat.le_of_ble_eq_true rfl) (Nat.le_of_ble_eq_true rfl) (by unfold p_back; (try dsimp only); rw [if_neg c6_1]; exact ⟨rfl, rfl⟩)
def M_X3_note : Md := (yX3_note, cX3_note, 3, none, 1, 40, 0, 0)
theorem ok_X3_note : MOKv M_X3_note 1 := ⟨q1563, qs87, q103, q1564, ⟨by decide +kernel, by decide +kernel, by decide +kernel⟩⟩
set_option maxHeartbeats 4000000 in
theorem m_note (l : Launch) (g : GT) (a : Nat → Nat) (row : Nat → Int32) (books : Nat → Int64) (S : Int32 × (Nat → Int32)) (B : (Nat → Int32) × Int32 × (Nat → Int32)) (T : (Nat → Int32) × Int32) (P : Int32 × Int32 × (Nat → Int32) × Int32 × Int32) (h : Int64) (v : Int64) : CtE l g M_X3_note [.ref (a 0), .long v] (mw g a row books S B T P h) none (mw g a row books S B T P (31 * h + v)) := by
  refine Ct.start2 (M := M_X3_note) rfl [(0, .ref (a 0)), (1, .long v)] rfl (by decide +kernel) (Nat.le_of_ble_eq_true rfl) ?_
  intro p e s m args below meth c A C
  refine v_aload_n C dX3_note_0 0 rfl ?_
  refine v_ldc2 C dX3_note_1 q1565 ?_
  refine v_aload_n C dX3_note_4 0 rfl ?_
  refine v_get C in_X3 rfl 0 rfl 14 (by decide) q1180 (fun _ h => h) rfl dX3_note_5 ?_
  refine v_lmul C dX3_note_8 ?_
  refine v_lload_n C dX3_note_9 1 rfl ?_
  refine v_ladd C dX3_note_10 ?_
  refine v_put (ws' := mw g a _ _ _ _ _ _ _) C in_X3 tyX3 tyX3_ok nmX3 rfl 0 rfl 14 (by decide) q1180 (fun _ h => h) rfl rfl rfl (Nat.le_of_ble_eq_true rfl) dX3_note_11 rfl ?_
  exact v_vret C dX3_note_14 (Nat.le_of_ble_eq_true rfl) (Nat.le_of_ble_eq_true rfl) ⟨rfl, rfl⟩
def M_X3_digest : Md := (yX3_digest, cX3_digest, 3, (some .long), 4, 109, 0, 0)
theorem ok_X3_digest : MOKv M_X3_digest 0 := ⟨q1556, q1557, q103, q1558, ⟨by decide +kernel, by decide +kernel, by decide +kernel⟩⟩
set_option maxHeartbeats 4000000 in
theorem m_digest (l : Launch) (g : GT) (a : Nat → Nat) (row : Nat → Int32) (books : Nat → Int64) (S : Int32 × (Nat → Int32)) (B : (Nat → Int32) × Int32 × (Nat → Int32)) (T : (Nat → Int32) × Int32) (P : Int32 × Int32 × (Nat → Int32) × Int32 × Int32) (h : Int64) (nb nl nc : Nat) (hnb : row 2 = nI nb) (hb8 : nb ≤ 8) (hnl : row 3 = nI nl) (hl3 : nl ≤ 3) (hnc : row 4 = nI nc) (hc6 : nc ≤ 6) : Ct l g M_X3_digest [.ref (a 0)] (mw g a row books S B T P h) (fun rv w => rv = some (.long (p_digest row books nb nl nc)) ∧ w = mw g a row books S B T P (p_digest row books nb nl nc)) := by
  refine Ct.start2 (M := M_X3_digest) rfl [(0, .ref (a 0))] rfl (by decide +kernel) (Nat.le_of_ble_eq_true rfl) ?_
  intro p e s m args below meth c A C
  refine v_aload_n C dX3_digest_0 0 rfl ?_
  refine v_ldc2 C dX3_digest_1 q1559 ?_
  refine v_put (ws' := mw g a _ _ _ _ _ _ _) C in_X3 tyX3 tyX3_ok nmX3 rfl 0 rfl 14 (by decide) q1180 (fun _ h => h) rfl rfl rfl (Nat.le_of_ble_eq_true rfl) dX3_digest_4 rfl ?_
  refine v_iconst (v := 0) C dX3_digest_7 (by decide) ?_
  refine v_istore_n (lv' := [(1, _), (0, _)]) C dX3_digest_8 rfl (by decide) rfl ?_
  refine v_loop 0 10 (fun k => [(1, .int (nI k)), (0, .ref (a 0))]) (fun k => mw g a row books S B T P (dgA row nb nc k)) rfl rfl (by omega) ?_ ?_
  · skip
    refine v_iload_n C dX3_digest_9 0 rfl ?_
    refine v_bipush (v := 10) C dX3_digest_10 (by decide) ?_
    refine v_icmp_ge C 31 dX3_digest_12 (by decide) (fun c12_1 => ?_) (fun c12_1 => ?_)
    · skip
      refine v_iconst (v := 0) C dX3_digest_31 (by decide) ?_
      refine v_istore_n (lv' := [(1, _), (0, _)]) C dX3_digest_32 rfl (by decide) rfl ?_
      refine v_loop 0 nb (fun k => [(1, .int (nI k)), (0, .ref (a 0))]) (fun k => mw g a row books S B T P (dgB row nb nc k)) rfl (congrArg (mw g a row books S B T P) (dgB_0 row nb nc)) (by omega) ?_ ?_
      · skip
        refine v_iload_n C dX3_digest_33 0 rfl ?_
        refine v_aload_n C dX3_digest_34 1 rfl ?_
        refine v_get C in_X3 rfl 0 rfl 0 (by decide) q1166 (fun _ h => h) rfl dX3_digest_35 ?_
        refine v_iconst (v := 2) C dX3_digest_38 (by decide) ?_
        refine v_iald C dX3_digest_39 1 rfl (j := 2) (ixl rfl) ?_
        refine v_eqi hnb ?_
        refine v_icmp_ge C 74 dX3_digest_40 (by decide) (fun c40_2 => ?_) (fun c40_2 => ?_)
        · skip
          refine v_iconst (v := 0) C dX3_digest_74 (by decide) ?_
          refine v_istore_n (lv' := [(1, _), (0, _)]) C dX3_digest_75 rfl (by decide) rfl ?_
          refine v_loop 0 nl (fun k => [(1, .int (nI k)), (0, .ref (a 0))]) (fun k => mw g a row books S B T P (dgL row nb nc k)) rfl (congrArg (mw g a row books S B T P) (dgL_0 row nb nc)) (by omega) ?_ ?_
          · skip
            refine v_iload_n C dX3_digest_76 0 rfl ?_
            refine v_aload_n C dX3_digest_77 1 rfl ?_
            refine v_get C in_X3 rfl 0 rfl 0 (by decide) q1166 (fun _ h => h) rfl dX3_digest_78 ?_
            refine v_iconst (v := 3) C dX3_digest_81 (by decide) ?_
            refine v_iald C dX3_digest_82 1 rfl (j := 3) (ixl rfl) ?_
            refine v_eqi hnl ?_
            refine v_icmp_ge C 116 dX3_digest_83 (by decide) (fun c83_3 => ?_) (fun c83_3 => ?_)
            · skip
              refine v_iconst (v := 0) C dX3_digest_116 (by decide) ?_
              refine v_istore_n (lv' := [(1, _), (0, _)]) C dX3_digest_117 rfl (by decide) rfl ?_
              refine v_loop 0 4 (fun k => [(1, .int (nI k)), (0, .ref (a 0))]) (fun k => mw g a row books S B T P (dgP row nb nl nc k)) rfl (congrArg (mw g a row books S B T P) (dgP_0 row nb nl nc)) (by omega) ?_ ?_
              · skip
                refine v_iload_n C dX3_digest_118 0 rfl ?_
                refine v_iconst (v := 4) C dX3_digest_119 (by decide) ?_
                refine v_icmp_ge C 143 dX3_digest_120 (by decide) (fun c120_4 => ?_) (fun c120_4 => ?_)
                · skip
                  refine v_iconst (v := 0) C dX3_digest_143 (by decide) ?_
                  refine v_istore_n (lv' := [(1, _), (0, _)]) C dX3_digest_144 rfl (by decide) rfl ?_
                  refine v_loop 0 7 (fun k => [(1, .int (nI k)), (0, .ref (a 0))]) (fun k => mw g a row books S B T P (dgK row books nb nl nc k)) rfl (congrArg (mw g a row books S B T P) (dgK_0 row books nb nl nc)) (by omega) ?_ ?_
                  · skip
                    refine v_iload_n C dX3_digest_145 0 rfl ?_
                    refine v_bipush (v := 7) C dX3_digest_146 (by decide) ?_
                    refine v_icmp_ge C 166 dX3_digest_148 (by decide) (fun c148_5 => ?_) (fun c148_5 => ?_)
                    · skip
                      refine v_iconst (v := 0) C dX3_digest_166 (by decide) ?_
                      refine v_istore_n (lv' := [(1, _), (0, _)]) C dX3_digest_167 rfl (by decide) rfl ?_
                      refine v_loop 0 (6 * nc) (fun k => [(1, .int (nI k)), (0, .ref (a 0))]) (fun k => mw g a row books S B T P (hfold (fun k => (row (94 + k)).toInt64) k (dgK row books nb nl nc 7))) rfl (congrArg (mw g a row books S B T P) (hf_0 _ _)) (by omega) ?_ ?_
                      · skip
                        refine v_iload_n C dX3_digest_168 0 rfl ?_
                        refine v_bipush (v := 6) C dX3_digest_169 (by decide) ?_
                        refine v_aload_n C dX3_digest_171 1 rfl ?_
                        refine v_get C in_X3 rfl 0 rfl 0 (by decide) q1166 (fun _ h => h) rfl dX3_digest_172 ?_
                        refine v_iconst (v := 4) C dX3_digest_175 (by decide) ?_
                        refine v_iald C dX3_digest_176 1 rfl (j := 4) (ixl rfl) ?_
                        refine v_eqi hnc ?_
                        refine v_imul C dX3_digest_177 ?_
                        refine v_eqi (pk_mul 6 nc) ?_
                        refine v_icmp_ge C 201 dX3_digest_178 (by decide) (fun c178_6 => ?_) (fun c178_6 => ?_)
                        · skip
                          refine v_aload_n C dX3_digest_201 1 rfl ?_
                          refine v_get C in_X3 rfl 0 rfl 14 (by decide) q1180 (fun _ h => h) rfl dX3_digest_202 ?_
                          exact v_lret C dX3_digest_205 (Nat.le_of_ble_eq_true rfl) (Nat.le_of_ble_eq_true rfl) ⟨rfl, rfl⟩
                        · exact absurd (Int32.le_refl _) c178_6
                      · intro k hk hk0 hback
                        refine v_iload_n C dX3_digest_168 0 rfl ?_
                        refine v_bipush (v := 6) C dX3_digest_169 (by decide) ?_
                        refine v_aload_n C dX3_digest_171 1 rfl ?_
                        refine v_get C in_X3 rfl 0 rfl 0 (by decide) q1166 (fun _ h => h) rfl dX3_digest_172 ?_
                        refine v_iconst (v := 4) C dX3_digest_175 (by decide) ?_
                        refine v_iald C dX3_digest_176 1 rfl (j := 4) (ixl rfl) ?_
                        refine v_eqi hnc ?_
                        refine v_imul C dX3_digest_177 ?_
                        refine v_eqi (pk_mul 6 nc) ?_
                        refine v_icmp_ge C 201 dX3_digest_178 (by decide) (fun c178_7 => ?_) (fun c178_7 => ?_)
                        · exact absurd c178_7 (nI_ge hk (by first | decide | omega))
                        · skip
                          refine v_aload_n C dX3_digest_181 1 rfl ?_
                          refine v_aload_n C dX3_digest_182 1 rfl ?_
                          refine v_get C in_X3 rfl 0 rfl 0 (by decide) q1166 (fun _ h => h) rfl dX3_digest_183 ?_
                          refine v_bipush (v := 94) C dX3_digest_186 (by decide) ?_
                          refine v_iload_n C dX3_digest_188 0 rfl ?_
                          refine v_iadd C dX3_digest_189 ?_
                          refine v_eqi (nI_add 94 k) ?_
                          refine v_iald C dX3_digest_190 1 rfl (ixn (by omega) (by decide)) ?_
                          refine v_i2l C dX3_digest_191 ?_
                          refine v_callVv C (m_note l g a _ _ _ _ _ _ _ _) ok_X3_note rfl q1561 rfl (Nat.le_of_ble_eq_true rfl) 0 rfl rfl rfl dX3_digest_192 (roomL rfl rfl) ⟨rfl, rfl⟩ ?_
                          refine v_iinc (lv' := [(1, _), (0, _)]) C dX3_digest_195 0 rfl (nI_1 k) (by decide) rfl ?_
                          refine v_goto C 168 dX3_digest_198 (by decide) ?_
                          rw [hf_s] at hback; exact hback
                    · exact absurd (Int32.le_refl _) c148_5
                  · intro k hk hk0 hback
                    refine v_iload_n C dX3_digest_145 0 rfl ?_
                    refine v_bipush (v := 7) C dX3_digest_146 (by decide) ?_
                    refine v_icmp_ge C 166 dX3_digest_148 (by decide) (fun c148_8 => ?_) (fun c148_8 => ?_)
                    · exact absurd c148_8 (nI_ge hk (by first | decide | omega))
                    · skip
                      refine v_aload_n C dX3_digest_151 1 rfl ?_
                      refine v_aload_n C dX3_digest_152 1 rfl ?_
                      refine v_iload_n C dX3_digest_153 0 rfl ?_
                      refine v_callVw C (m_book l g a _ _ _ _ _ _ _ _) ok_X3_book rfl q1566 rfl (Nat.le_of_ble_eq_true rfl) 0 rfl rfl rfl dX3_digest_154 (roomL rfl rfl) ⟨rfl, rfl⟩ ?_
                      refine v_callVv C (m_note l g a _ _ _ _ _ _ _ _) ok_X3_note rfl q1561 rfl (Nat.le_of_ble_eq_true rfl) 0 rfl rfl rfl dX3_digest_157 (roomL rfl rfl) ⟨rfl, rfl⟩ ?_
                      refine v_iinc (lv' := [(1, _), (0, _)]) C dX3_digest_160 0 rfl (nI_1 k) (by decide) rfl ?_
                      refine v_goto C 145 dX3_digest_163 (by decide) ?_
                      rw [dgK_s] at hback; exact hback
                · exact absurd (Int32.le_refl _) c120_4
              · intro k hk hk0 hback
                refine v_iload_n C dX3_digest_118 0 rfl ?_
                refine v_iconst (v := 4) C dX3_digest_119 (by decide) ?_
                refine v_icmp_ge C 143 dX3_digest_120 (by decide) (fun c120_9 => ?_) (fun c120_9 => ?_)
                · exact absurd c120_9 (nI_ge hk (by first | decide | omega))
                · skip
                  refine v_aload_n C dX3_digest_123 1 rfl ?_
                  refine v_aload_n C dX3_digest_124 1 rfl ?_
                  refine v_get C in_X3 rfl 0 rfl 0 (by decide) q1166 (fun _ h => h) rfl dX3_digest_125 ?_
                  refine v_bipush (v := 6) C dX3_digest_128 (by decide) ?_
                  refine v_iload_n C dX3_digest_130 0 rfl ?_
                  refine v_iadd C dX3_digest_131 ?_
                  refine v_eqi (nI_add 6 k) ?_
                  refine v_iald C dX3_digest_132 1 rfl (ixn (by omega) (by decide)) ?_
                  refine v_i2l C dX3_digest_133 ?_
                  refine v_callVv C (m_note l g a _ _ _ _ _ _ _ _) ok_X3_note rfl q1561 rfl (Nat.le_of_ble_eq_true rfl) 0 rfl rfl rfl dX3_digest_134 (roomL rfl rfl) ⟨rfl, rfl⟩ ?_
                  refine v_iinc (lv' := [(1, _), (0, _)]) C dX3_digest_137 0 rfl (nI_1 k) (by decide) rfl ?_
                  refine v_goto C 118 dX3_digest_140 (by decide) ?_
                  rw [dgP_s] at hback; exact hback
            · exact absurd (Int32.le_refl _) c83_3
          · intro k hk hk0 hback
            refine v_iload_n C dX3_digest_76 0 rfl ?_
            refine v_aload_n C dX3_digest_77 1 rfl ?_
            refine v_get C in_X3 rfl 0 rfl 0 (by decide) q1166 (fun _ h => h) rfl dX3_digest_78 ?_
            refine v_iconst (v := 3) C dX3_digest_81 (by decide) ?_
            refine v_iald C dX3_digest_82 1 rfl (j := 3) (ixl rfl) ?_
            refine v_eqi hnl ?_
            refine v_icmp_ge C 116 dX3_digest_83 (by decide) (fun c83_10 => ?_) (fun c83_10 => ?_)
            · exact absurd c83_10 (nI_ge hk (by first | decide | omega))
            · skip
              refine v_iconst (v := 0) C dX3_digest_86 (by decide) ?_
              refine v_istore_n (lv' := [(2, _), (1, _), (0, _)]) C dX3_digest_87 rfl (by decide) rfl ?_
              refine v_loop 0 5 (fun j => [(2, .int (nI j)), (1, .int (nI k)), (0, .ref (a 0))]) (fun j => mw g a row books S B T P (hfold (fun w => (p_legProp row k (nI w)).toInt64) j (dgL row nb nc k))) rfl (congrArg (mw g a row books S B T P) (hf_0 _ _)) (by omega) ?_ ?_
              · skip
                refine v_iload_n C dX3_digest_88 0 rfl ?_
                refine v_iconst (v := 5) C dX3_digest_89 (by decide) ?_
                refine v_icmp_ge C 110 dX3_digest_90 (by decide) (fun c90_11 => ?_) (fun c90_11 => ?_)
                · skip
                  refine v_iinc (lv' := [(1, _), (2, _), (0, _)]) C dX3_digest_110 1 rfl (nI_1 k) (by decide) rfl ?_
                  refine v_goto C 76 dX3_digest_113 (by decide) ?_
                  refine v_lvp (lv' := [(1, _), (0, _)]) [0, 2] rfl ?_
                  rw [dgL_s] at hback; exact hback
                · exact absurd (Int32.le_refl _) c90_11
              · intro j hj hj0 hback
                refine v_iload_n C dX3_digest_88 0 rfl ?_
                refine v_iconst (v := 5) C dX3_digest_89 (by decide) ?_
                refine v_icmp_ge C 110 dX3_digest_90 (by decide) (fun c90_12 => ?_) (fun c90_12 => ?_)
                · exact absurd c90_12 (nI_ge hj (by first | decide | omega))
                · skip
                  refine v_aload_n C dX3_digest_93 2 rfl ?_
                  refine v_aload_n C dX3_digest_94 2 rfl ?_
                  refine v_iload_n C dX3_digest_95 1 rfl ?_
                  refine v_iload_n C dX3_digest_96 0 rfl ?_
                  refine v_callVw C (m_legProperty l g a _ _ _ _ _ _ _ k _ _ rfl (by omega) (by rw [nI_clamp (by omega)]) (by rw [nI_clamp (by omega)]; omega)) ok_X3_legProperty rfl q1308 rfl (Nat.le_of_ble_eq_true rfl) 0 rfl rfl rfl dX3_digest_97 (roomL rfl rfl) ⟨rfl, rfl⟩ ?_
                  refine v_i2l C dX3_digest_100 ?_
                  refine v_callVv C (m_note l g a _ _ _ _ _ _ _ _) ok_X3_note rfl q1561 rfl (Nat.le_of_ble_eq_true rfl) 0 rfl rfl rfl dX3_digest_101 (roomL rfl rfl) ⟨rfl, rfl⟩ ?_
                  refine v_iinc (lv' := [(2, _), (1, _), (0, _)]) C dX3_digest_104 0 rfl (nI_1 j) (by decide) rfl ?_
                  refine v_goto C 88 dX3_digest_107 (by decide) ?_
                  rw [hf_s] at hback; exact hback
        · exact absurd (Int32.le_refl _) c40_2
      · intro k hk hk0 hback
        refine v_iload_n C dX3_digest_33 0 rfl ?_
        refine v_aload_n C dX3_digest_34 1 rfl ?_
        refine v_get C in_X3 rfl 0 rfl 0 (by decide) q1166 (fun _ h => h) rfl dX3_digest_35 ?_
        refine v_iconst (v := 2) C dX3_digest_38 (by decide) ?_
        refine v_iald C dX3_digest_39 1 rfl (j := 2) (ixl rfl) ?_
        refine v_eqi hnb ?_
        refine v_icmp_ge C 74 dX3_digest_40 (by decide) (fun c40_13 => ?_) (fun c40_13 => ?_)
        · exact absurd c40_13 (nI_ge hk (by first | decide | omega))
        · skip
          refine v_iconst (v := 0) C dX3_digest_43 (by decide) ?_
          refine v_istore_n (lv' := [(2, _), (1, _), (0, _)]) C dX3_digest_44 rfl (by decide) rfl ?_
          refine v_loop 0 10 (fun j => [(2, .int (nI j)), (1, .int (nI k)), (0, .ref (a 0))]) (fun j => mw g a row books S B T P (hfold (fun w => (p_prop row k (nI w)).toInt64) j (dgB row nb nc k))) rfl (congrArg (mw g a row books S B T P) (hf_0 _ _)) (by omega) ?_ ?_
          · skip
            refine v_iload_n C dX3_digest_45 0 rfl ?_
            refine v_bipush (v := 10) C dX3_digest_46 (by decide) ?_
            refine v_icmp_ge C 68 dX3_digest_48 (by decide) (fun c48_14 => ?_) (fun c48_14 => ?_)
            · skip
              refine v_iinc (lv' := [(1, _), (2, _), (0, _)]) C dX3_digest_68 1 rfl (nI_1 k) (by decide) rfl ?_
              refine v_goto C 33 dX3_digest_71 (by decide) ?_
              refine v_lvp (lv' := [(1, _), (0, _)]) [0, 2] rfl ?_
              rw [dgB_s] at hback; exact hback
            · exact absurd (Int32.le_refl _) c48_14
          · intro j hj hj0 hback
            refine v_iload_n C dX3_digest_45 0 rfl ?_
            refine v_bipush (v := 10) C dX3_digest_46 (by decide) ?_
            refine v_icmp_ge C 68 dX3_digest_48 (by decide) (fun c48_15 => ?_) (fun c48_15 => ?_)
            · exact absurd c48_15 (nI_ge hj (by first | decide | omega))
            · skip
              refine v_aload_n C dX3_digest_51 2 rfl ?_
              refine v_aload_n C dX3_digest_52 2 rfl ?_
              refine v_iload_n C dX3_digest_53 1 rfl ?_
              refine v_iload_n C dX3_digest_54 0 rfl ?_
              refine v_callVw C (m_property l g a _ _ _ _ _ _ _ k _ _ rfl (by omega) (by rw [nI_clamp (by omega)]) (by rw [nI_clamp (by omega)]; omega)) ok_X3_property rfl q1296 rfl (Nat.le_of_ble_eq_true rfl) 0 rfl rfl rfl dX3_digest_55 (roomL rfl rfl) ⟨rfl, rfl⟩ ?_
              refine v_i2l C dX3_digest_58 ?_
              refine v_callVv C (m_note l g a _ _ _ _ _ _ _ _) ok_X3_note rfl q1561 rfl (Nat.le_of_ble_eq_true rfl) 0 rfl rfl rfl dX3_digest_59 (roomL rfl rfl) ⟨rfl, rfl⟩ ?_
              refine v_iinc (lv' := [(2, _), (1, _), (0, _)]) C dX3_digest_62 0 rfl (nI_1 j) (by decide) rfl ?_
              refine v_goto C 45 dX3_digest_65 (by decide) ?_
              rw [hf_s] at hback; exact hback
    · exact absurd (Int32.le_refl _) c12_1
  · intro k hk hk0 hback
    refine v_iload_n C dX3_digest_9 0 rfl ?_
    refine v_bipush (v := 10) C dX3_digest_10 (by decide) ?_
    refine v_icmp_ge C 31 dX3_digest_12 (by decide) (fun c12_16 => ?_) (fun c12_16 => ?_)
    · exact absurd c12_16 (nI_ge hk (by first | decide | omega))
    · skip
      refine v_aload_n C dX3_digest_15 1 rfl ?_
      refine v_aload_n C dX3_digest_16 1 rfl ?_
      refine v_iload_n C dX3_digest_17 0 rfl ?_
      refine v_callVw C (m_count l g a _ _ _ _ _ _ _ nb nc hnb hb8 hnc hc6 _) ok_X3_count rfl q1560 rfl (Nat.le_of_ble_eq_true rfl) 0 rfl rfl rfl dX3_digest_18 (roomL rfl rfl) ⟨rfl, rfl⟩ ?_
      refine v_i2l C dX3_digest_21 ?_
      refine v_callVv C (m_note l g a _ _ _ _ _ _ _ _) ok_X3_note rfl q1561 rfl (Nat.le_of_ble_eq_true rfl) 0 rfl rfl rfl dX3_digest_22 (roomL rfl rfl) ⟨rfl, rfl⟩ ?_
      refine v_iinc (lv' := [(1, _), (0, _)]) C dX3_digest_25 0 rfl (nI_1 k) (by decide) rfl ?_
      refine v_goto C 9 dX3_digest_28 (by decide) ?_
      rw [dgA_s] at hback; exact hback
def M_X3_type : Md := (yX3_type, cX3_type, 2, (some .int), 2, 62, 0, 0)
theorem ok_X3_type : MOKv M_X3_type 1 := ⟨q1508, q1509, q103, q1510, ⟨by decide +kernel, by decide +kernel, by decide +kernel⟩⟩
set_option maxHeartbeats 4000000 in
theorem m_type (l : Launch) (g : GT) (a : Nat → Nat) (row : Nat → Int32) (books : Nat → Int64) (S : Int32 × (Nat → Int32)) (B : (Nat → Int32) × Int32 × (Nat → Int32)) (T : (Nat → Int32) × Int32) (P : Int32 × Int32 × (Nat → Int32) × Int32 × Int32) (h : Int64) (hT : T.2 = nI T.2.toNatClampNeg) (hT2 : T.2.toNatClampNeg ≤ 120) (code : Int32) : CtE l g M_X3_type [.ref (a 0), .int code] (mw g a row books S B T P h) (some (.int (p_type T code).1)) (mw g a row books S B (p_type T code).2 P h) := by
  refine Ct.start2 (M := M_X3_type) rfl [(0, .ref (a 0)), (1, .int code)] rfl (by decide +kernel) (Nat.le_of_ble_eq_true rfl) ?_
  intro p e s m args below meth c A C
  refine v_iload_n C dX3_type_0 1 rfl ?_
  refine v_iconst (v := 0) C dX3_type_1 (by decide) ?_
  refine v_sipush (v := 255) C dX3_type_2 (by decide) ?_
  refine v_callSp C (m_in l g _ _ _) ok_X3_in rfl q1218 rfl (Nat.le_of_ble_eq_true rfl) dX3_type_5 (roomL rfl rfl) ⟨rfl, rfl⟩ ?_
  refine v_if_neB C 14 dX3_type_8 (by decide) (fun c8_1 => ?_) (fun c8_1 => ?_)
  · skip
    refine v_aload_n C dX3_type_14 0 rfl ?_
    refine v_get C in_X3 rfl 0 rfl 8 (by decide) q1174 (fun _ h => h) rfl dX3_type_15 ?_
    refine v_eqi (show _ = T.2 from rfl) ?_
    refine v_bipush (v := 120) C dX3_type_18 (by decide) ?_
    refine v_icmp_ne C 26 dX3_type_20 (by decide) (fun c20_2 => ?_) (fun c20_2 => ?_)
    · skip
      have hl2 : T.2.toNatClampNeg < 120 := Nat.lt_of_le_of_ne hT2 (fun q => c20_2 (by rw [hT, q]; rfl))
      refine v_aload_n C dX3_type_26 0 rfl ?_
      refine v_get C in_X3 rfl 0 rfl 7 (by decide) q1173 (fun _ h => h) rfl dX3_type_27 ?_
      refine v_aload_n C dX3_type_30 0 rfl ?_
      refine v_get C in_X3 rfl 0 rfl 8 (by decide) q1174 (fun _ h => h) rfl dX3_type_31 ?_
      refine v_eqi (show _ = T.2 from rfl) ?_
      refine v_eqi hT ?_
      refine v_iload_n C dX3_type_34 1 rfl ?_
      refine v_iast (ws' := mw g a _ _ _ _ ((upd T.1 _ _), T.2) _ _) C dX3_type_35 6 rfl (ixn (by omega) (by decide)) rfl ?_
      refine v_aload_n C dX3_type_36 0 rfl ?_
      refine v_dup C dX3_type_37 rfl ?_
      refine v_get C in_X3 rfl 0 rfl 8 (by decide) q1174 (fun _ h => h) rfl dX3_type_38 ?_
      refine v_eqi (show _ = T.2 from rfl) ?_
      refine v_iconst (v := 1) C dX3_type_41 (by decide) ?_
      refine v_iadd C dX3_type_42 ?_
      refine v_topi (fun z3 ez3 => ?_)
      refine v_put (ws' := mw g a _ _ _ _ ((upd T.1 _ _), z3) _ _) C in_X3 tyX3 tyX3_ok nmX3 rfl 0 rfl 8 (by decide) q1174 (fun _ h => h) rfl rfl rfl (Nat.le_of_ble_eq_true rfl) dX3_type_43 rfl ?_
      refine v_aload_n C dX3_type_46 0 rfl ?_
      refine v_get C in_X3 rfl 0 rfl 8 (by decide) q1174 (fun _ h => h) rfl dX3_type_47 ?_
      refine v_eqi (show _ = z3 from rfl) ?_
      exact v_iret C dX3_type_50 (Nat.le_of_ble_eq_true rfl) (Nat.le_of_ble_eq_true rfl) (by subst ez3; unfold p_type; (try dsimp only); rw [if_pos c8_1, if_neg c20_2]; exact ⟨rfl, rfl⟩)
    · skip
      refine v_bipush (v := -5) C dX3_type_23 (by decide) ?_
      exact v_iret C dX3_type_25 (Nat.le_of_ble_eq_true rfl) (Nat.le_of_ble_eq_true rfl) (by unfold p_type; (try dsimp only); rw [if_pos c8_1, if_pos c20_2]; exact ⟨rfl, rfl⟩)
  · skip
    refine v_bipush (v := -3) C dX3_type_11 (by decide) ?_
    exact v_iret C dX3_type_13 (Nat.le_of_ble_eq_true rfl) (Nat.le_of_ble_eq_true rfl) (by unfold p_type; (try dsimp only); rw [if_neg c8_1]; exact ⟨rfl, rfl⟩)
def M_X3_clearText : Md := (yX3_clearText, cX3_clearText, 2, (some .int), 1, 40, 0, 0)
theorem ok_X3_clearText : MOKv M_X3_clearText 0 := ⟨q1512, q1513, q103, q1514, ⟨by decide +kernel, by decide +kernel, by decide +kernel⟩⟩
set_option maxHeartbeats 4000000 in
theorem m_clearText (l : Launch) (g : GT) (a : Nat → Nat) (row : Nat → Int32) (books : Nat → Int64) (S : Int32 × (Nat → Int32)) (B : (Nat → Int32) × Int32 × (Nat → Int32)) (T : (Nat → Int32) × Int32) (P : Int32 × Int32 × (Nat → Int32) × Int32 × Int32) (h : Int64)  : CtE l g M_X3_clearText [.ref (a 0)] (mw g a row books S B T P h) (some (.int T.2)) (mw g a row books S B (T.1, 0) P h) := by
  refine Ct.start2 (M := M_X3_clearText) rfl [(0, .ref (a 0))] rfl (by decide +kernel) (Nat.le_of_ble_eq_true rfl) ?_
  intro p e s m args below meth c A C
  refine v_aload_n C dX3_clearText_0 0 rfl ?_
  refine v_get C in_X3 rfl 0 rfl 8 (by decide) q1174 (fun _ h => h) rfl dX3_clearText_1 ?_
  refine v_istore_n (lv' := [(1, _), (0, _)]) C dX3_clearText_4 rfl (by decide) rfl ?_
  refine v_aload_n C dX3_clearText_5 1 rfl ?_
  refine v_iconst (v := 0) C dX3_clearText_6 (by decide) ?_
  refine v_put (ws' := mw g a _ _ _ _ (_, _) _ _) C in_X3 tyX3 tyX3_ok nmX3 rfl 0 rfl 8 (by decide) q1174 (fun _ h => h) rfl rfl rfl (Nat.le_of_ble_eq_true rfl) dX3_clearText_7 rfl ?_
  refine v_iload_n C dX3_clearText_10 0 rfl ?_
  exact v_iret C dX3_clearText_11 (Nat.le_of_ble_eq_true rfl) (Nat.le_of_ble_eq_true rfl) ⟨rfl, rfl⟩
