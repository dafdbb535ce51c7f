/-! the reference: tests, saves, house -/
set_option maxRecDepth 100000
def M_X3_isBin : Md := (yX3_isBin, cX3_isBin, 2, (some .boolean), 2, 62, 0, 0)
theorem ok_X3_isBin : MOKv M_X3_isBin 1 := ⟨q1239, qs47, q103, q1240, ⟨by decide +kernel, by decide +kernel, by decide +kernel⟩⟩
set_option maxHeartbeats 4000000 in
theorem m_isBin (l : Launch) (g : GT) (a : Nat → Nat) (row : Nat → Int32) (books : Nat → Int64) (S : Int32 × (Nat → Int32)) (B : (Nat → Int32) × Int32 × (Nat → Int32)) (T : (Nat → Int32) × Int32) (P : Int32 × Int32 × (Nat → Int32) × Int32 × Int32) (h : Int64) (b : Int32) : CtE l g M_X3_isBin [.ref (a 0), .int b] (mw g a row books S B T P h) (some (.int (bI (0 ≤ b ∧ b ≤ row 2 - 1)))) (mw g a row books S B T P h) := by
  refine Ct.start2 (M := M_X3_isBin) rfl [(0, .ref (a 0)), (1, .int b)] rfl (by decide +kernel) (Nat.le_of_ble_eq_true rfl) ?_
  intro p e s m args below meth c A C
  refine v_iload_n C dX3_isBin_0 1 rfl ?_
  refine v_iconst (v := 0) C dX3_isBin_1 (by decide) ?_
  refine v_aload_n C dX3_isBin_2 0 rfl ?_
  refine v_get C in_X3 rfl 0 rfl 0 (by decide) q1166 (fun _ h => h) rfl dX3_isBin_3 ?_
  refine v_iconst (v := 2) C dX3_isBin_6 (by decide) ?_
  refine v_iald C dX3_isBin_7 1 rfl (j := 2) (ixl rfl) ?_
  refine v_iconst (v := 1) C dX3_isBin_8 (by decide) ?_
  refine v_isub C dX3_isBin_9 ?_
  refine v_callSp C (m_in l g _ _ _) ok_X3_in rfl q1218 rfl (Nat.le_of_ble_eq_true rfl) dX3_isBin_10 (roomL rfl rfl) ⟨rfl, rfl⟩ ?_
  exact v_zret C (bI_nar _) dX3_isBin_13 (Nat.le_of_ble_eq_true rfl) (Nat.le_of_ble_eq_true rfl) ⟨rfl, rfl⟩
def M_X3_isLeg : Md := (yX3_isLeg, cX3_isLeg, 2, (some .boolean), 2, 62, 0, 0)
theorem ok_X3_isLeg : MOKv M_X3_isLeg 1 := ⟨q1255, qs49, q103, q1256, ⟨by decide +kernel, by decide +kernel, by decide +kernel⟩⟩
set_option maxHeartbeats 4000000 in
theorem m_isLeg (l : Launch) (g : GT) (a : Nat → Nat) (row : Nat → Int32) (books : Nat → Int64) (S : Int32 × (Nat → Int32)) (B : (Nat → Int32) × Int32 × (Nat → Int32)) (T : (Nat → Int32) × Int32) (P : Int32 × Int32 × (Nat → Int32) × Int32 × Int32) (h : Int64) (b : Int32) : CtE l g M_X3_isLeg [.ref (a 0), .int b] (mw g a row books S B T P h) (some (.int (bI (0 ≤ b ∧ b ≤ row 3 - 1)))) (mw g a row books S B T P h) := by
  refine Ct.start2 (M := M_X3_isLeg) rfl [(0, .ref (a 0)), (1, .int b)] rfl (by decide +kernel) (Nat.le_of_ble_eq_true rfl) ?_
  intro p e s m args below meth c A C
  refine v_iload_n C dX3_isLeg_0 1 rfl ?_
  refine v_iconst (v := 0) C dX3_isLeg_1 (by decide) ?_
  refine v_aload_n C dX3_isLeg_2 0 rfl ?_
  refine v_get C in_X3 rfl 0 rfl 0 (by decide) q1166 (fun _ h => h) rfl dX3_isLeg_3 ?_
  refine v_iconst (v := 3) C dX3_isLeg_6 (by decide) ?_
  refine v_iald C dX3_isLeg_7 1 rfl (j := 3) (ixl rfl) ?_
  refine v_iconst (v := 1) C dX3_isLeg_8 (by decide) ?_
  refine v_isub C dX3_isLeg_9 ?_
  refine v_callSp C (m_in l g _ _ _) ok_X3_in rfl q1218 rfl (Nat.le_of_ble_eq_true rfl) dX3_isLeg_10 (roomL rfl rfl) ⟨rfl, rfl⟩ ?_
  exact v_zret C (bI_nar _) dX3_isLeg_13 (Nat.le_of_ble_eq_true rfl) (Nat.le_of_ble_eq_true rfl) ⟨rfl, rfl⟩
def M_X3_isContract : Md := (yX3_isContract, cX3_isContract, 2, (some .boolean), 2, 62, 0, 0)
theorem ok_X3_isContract : MOKv M_X3_isContract 1 := ⟨q1449, qs76, q103, q1450, ⟨by decide +kernel, by decide +kernel, by decide +kernel⟩⟩
set_option maxHeartbeats 4000000 in
theorem m_isContract (l : Launch) (g : GT) (a : Nat → Nat) (row : Nat → Int32) (books : Nat → Int64) (S : Int32 × (Nat → Int32)) (B : (Nat → Int32) × Int32 × (Nat → Int32)) (T : (Nat → Int32) × Int32) (P : Int32 × Int32 × (Nat → Int32) × Int32 × Int32) (h : Int64) (b : Int32) : CtE l g M_X3_isContract [.ref (a 0), .int b] (mw g a row books S B T P h) (some (.int (bI (0 ≤ b ∧ b ≤ row 4 - 1)))) (mw g a row books S B T P h) := by
  refine Ct.start2 (M := M_X3_isContract) rfl [(0, .ref (a 0)), (1, .int b)] rfl (by decide +kernel) (Nat.le_of_ble_eq_true rfl) ?_
  intro p e s m args below meth c A C
  refine v_iload_n C dX3_isContract_0 1 rfl ?_
  refine v_iconst (v := 0) C dX3_isContract_1 (by decide) ?_
  refine v_aload_n C dX3_isContract_2 0 rfl ?_
  refine v_get C in_X3 rfl 0 rfl 0 (by decide) q1166 (fun _ h => h) rfl dX3_isContract_3 ?_
  refine v_iconst (v := 4) C dX3_isContract_6 (by decide) ?_
  refine v_iald C dX3_isContract_7 1 rfl (j := 4) (ixl rfl) ?_
  refine v_iconst (v := 1) C dX3_isContract_8 (by decide) ?_
  refine v_isub C dX3_isContract_9 ?_
  refine v_callSp C (m_in l g _ _ _) ok_X3_in rfl q1218 rfl (Nat.le_of_ble_eq_true rfl) dX3_isContract_10 (roomL rfl rfl) ⟨rfl, rfl⟩ ?_
  exact v_zret C (bI_nar _) dX3_isContract_13 (Nat.le_of_ble_eq_true rfl) (Nat.le_of_ble_eq_true rfl) ⟨rfl, rfl⟩
def M_X3_isClass : Md := (yX3_isClass, cX3_isClass, 1, (some .boolean), 2, 62, 0, 0)
theorem ok_X3_isClass : MOKs M_X3_isClass 1 := ⟨q1274, q103, q1275, ⟨by decide +kernel, by decide +kernel, by decide +kernel⟩⟩
set_option maxHeartbeats 4000000 in
theorem m_isClass (l : Launch) (g : GT) (k : Int32) : CtE l g M_X3_isClass [.int k] [] (some (.int (bI (0 ≤ k ∧ k ≤ 3)))) [] := by
  refine Ct.start2 (M := M_X3_isClass) rfl [(0, .int k)] rfl (by decide +kernel) (Nat.le_of_ble_eq_true rfl) ?_
  intro p e s m args below meth c A C
  refine v_iload_n C dX3_isClass_0 0 rfl ?_
  refine v_iconst (v := 0) C dX3_isClass_1 (by decide) ?_
  refine v_iconst (v := 3) C dX3_isClass_2 (by decide) ?_
  refine v_callSp C (m_in l g _ _ _) ok_X3_in rfl q1218 rfl (Nat.le_of_ble_eq_true rfl) dX3_isClass_3 (roomL rfl rfl) ⟨rfl, rfl⟩ ?_
  exact v_zret C (bI_nar _) dX3_isClass_6 (Nat.le_of_ble_eq_true rfl) (Nat.le_of_ble_eq_true rfl) ⟨rfl, rfl⟩
def M_X3_moisture : Md := (yX3_moisture, cX3_moisture, 2, (some .int), 2, 62, 0, 0)
theorem ok_X3_moisture : MOKv M_X3_moisture 1 := ⟨q1302, qs55, q103, q1303, ⟨by decide +kernel, by decide +kernel, by decide +kernel⟩⟩
set_option maxHeartbeats 4000000 in
theorem m_moisture (l : Launch) (g : GT) (a : Nat → Nat) (row : Nat → Int32) (books : Nat → Int64) (S : Int32 × (Nat → Int32)) (B : (Nat → Int32) × Int32 × (Nat → Int32)) (T : (Nat → Int32) × Int32) (P : Int32 × Int32 × (Nat → Int32) × Int32 × Int32) (h : Int64) (b : Nat) (bi : Int32) (eb : bi = nI b) (hb : b < 100) : CtE l g M_X3_moisture [.ref (a 0), .int bi] (mw g a row books S B T P h) (some (.int (p_moist row b))) (mw g a row books S B T P h) := by
  refine Ct.start2 (M := M_X3_moisture) rfl [(0, .ref (a 0)), (1, .int bi)] rfl (by decide +kernel) (Nat.le_of_ble_eq_true rfl) ?_
  intro p e s m args below meth c A C
  subst eb
  refine v_aload_n C dX3_moisture_0 0 rfl ?_
  refine v_iload_n C dX3_moisture_1 1 rfl ?_
  refine v_iconst (v := 3) C dX3_moisture_2 (by decide) ?_
  refine v_callVw C (m_of l g a _ _ _ _ _ _ _ b 3 _ _ rfl rfl (by omega)) ok_X3_of rfl q1241 rfl (Nat.le_of_ble_eq_true rfl) 0 rfl rfl rfl dX3_moisture_3 (roomL rfl rfl) ⟨rfl, rfl⟩ ?_
  refine v_if_ne C 13 dX3_moisture_6 (by decide) (fun c6_1 => ?_) (fun c6_1 => ?_)
  · skip
    refine v_aload_n C dX3_moisture_13 0 rfl ?_
    refine v_iload_n C dX3_moisture_14 1 rfl ?_
    refine v_iconst (v := 4) C dX3_moisture_15 (by decide) ?_
    refine v_callVw C (m_of l g a _ _ _ _ _ _ _ b 4 _ _ rfl rfl (by omega)) ok_X3_of rfl q1241 rfl (Nat.le_of_ble_eq_true rfl) 0 rfl rfl rfl dX3_moisture_16 (roomL rfl rfl) ⟨rfl, rfl⟩ ?_
    refine v_aload_n C dX3_moisture_19 0 rfl ?_
    refine v_iload_n C dX3_moisture_20 1 rfl ?_
    refine v_iconst (v := 3) C dX3_moisture_21 (by decide) ?_
    refine v_callVw C (m_of l g a _ _ _ _ _ _ _ b 3 _ _ rfl rfl (by omega)) ok_X3_of rfl q1241 rfl (Nat.le_of_ble_eq_true rfl) 0 rfl rfl rfl dX3_moisture_22 (roomL rfl rfl) ⟨rfl, rfl⟩ ?_
    refine v_idiv C dX3_moisture_25 c6_1 ?_
    exact v_iret C dX3_moisture_26 (Nat.le_of_ble_eq_true rfl) (Nat.le_of_ble_eq_true rfl) (by unfold p_moist; (try dsimp only); rw [if_neg c6_1]; exact ⟨rfl, rfl⟩)
  · skip
    refine v_iconst (v := -1) C dX3_moisture_9 (by decide) ?_
    refine v_goto C 26 dX3_moisture_10 (by decide) ?_
    exact v_iret C dX3_moisture_26 (Nat.le_of_ble_eq_true rfl) (Nat.le_of_ble_eq_true rfl) (by unfold p_moist; (try dsimp only); rw [if_pos c6_1]; exact ⟨rfl, rfl⟩)
def M_X3_isSpoilt : Md := (yX3_isSpoilt, cX3_isSpoilt, 2, (some .boolean), 2, 62, 0, 0)
theorem ok_X3_isSpoilt : MOKv M_X3_isSpoilt 1 := ⟨q1286, qs52, q103, q1287, ⟨by decide +kernel, by decide +kernel, by decide +kernel⟩⟩
set_option maxHeartbeats 4000000 in
theorem m_isSpoilt (l : Launch) (g : GT) (a : Nat → Nat) (row : Nat → Int32) (books : Nat → Int64) (S : Int32 × (Nat → Int32)) (B : (Nat → Int32) × Int32 × (Nat → Int32)) (T : (Nat → Int32) × Int32) (P : Int32 × Int32 × (Nat → Int32) × Int32 × Int32) (h : Int64) (b : Nat) (bi : Int32) (eb : bi = nI b) (hb : b < 100) : CtE l g M_X3_isSpoilt [.ref (a 0), .int bi] (mw g a row books S B T P h) (some (.int (bI (q_spoilt row b)))) (mw g a row books S B T P h) := by
  refine Ct.start2 (M := M_X3_isSpoilt) rfl [(0, .ref (a 0)), (1, .int bi)] rfl (by decide +kernel) (Nat.le_of_ble_eq_true rfl) ?_
  intro p e s m args below meth c A C
  subst eb
  refine v_aload_n C dX3_isSpoilt_0 0 rfl ?_
  refine v_iload_n C dX3_isSpoilt_1 1 rfl ?_
  refine v_bipush (v := 6) C dX3_isSpoilt_2 (by decide) ?_
  refine v_callVw C (m_of l g a _ _ _ _ _ _ _ b 6 _ _ rfl rfl (by omega)) ok_X3_of rfl q1241 rfl (Nat.le_of_ble_eq_true rfl) 0 rfl rfl rfl dX3_isSpoilt_4 (roomL rfl rfl) ⟨rfl, rfl⟩ ?_
  refine v_sipush (v := 10000) C dX3_isSpoilt_7 (by decide) ?_
  refine v_ternI C 17 18 dX3_isSpoilt_13 dX3_isSpoilt_14 dX3_isSpoilt_17 (by decide) rfl (fun ht hf => v_icmp_ne C 17 dX3_isSpoilt_10 (by decide) (fun q => ht q) (fun q => hf q)) ?_
  exact v_zret C (bI_nar _) dX3_isSpoilt_18 (Nat.le_of_ble_eq_true rfl) (Nat.le_of_ble_eq_true rfl) ⟨rfl, rfl⟩
def M_X3_stands : Md := (yX3_stands, cX3_stands, 2, (some .boolean), 2, 62, 0, 0)
theorem ok_X3_stands : MOKv M_X3_stands 1 := ⟨q1314, qs57, q103, q1315, ⟨by decide +kernel, by decide +kernel, by decide +kernel⟩⟩
set_option maxHeartbeats 4000000 in
theorem m_stands (l : Launch) (g : GT) (a : Nat → Nat) (row : Nat → Int32) (books : Nat → Int64) (S : Int32 × (Nat → Int32)) (B : (Nat → Int32) × Int32 × (Nat → Int32)) (T : (Nat → Int32) × Int32) (P : Int32 × Int32 × (Nat → Int32) × Int32 × Int32) (h : Int64) (b : Nat) (bi : Int32) (eb : bi = nI b) (hb : b < 100) : CtE l g M_X3_stands [.ref (a 0), .int bi] (mw g a row books S B T P h) (some (.int (bI (q_stands row b)))) (mw g a row books S B T P h) := by
  refine Ct.start2 (M := M_X3_stands) rfl [(0, .ref (a 0)), (1, .int bi)] rfl (by decide +kernel) (Nat.le_of_ble_eq_true rfl) ?_
  intro p e s m args below meth c A C
  subst eb
  refine v_aload_n C dX3_stands_0 0 rfl ?_
  refine v_iload_n C dX3_stands_1 1 rfl ?_
  refine v_iconst (v := 2) C dX3_stands_2 (by decide) ?_
  refine v_callVw C (m_ofLeg l g a _ _ _ _ _ _ _ b 2 _ _ rfl rfl (by omega)) ok_X3_ofLeg rfl q1257 rfl (Nat.le_of_ble_eq_true rfl) 0 rfl rfl rfl dX3_stands_3 (roomL rfl rfl) ⟨rfl, rfl⟩ ?_
  refine v_aload_n C dX3_stands_6 0 rfl ?_
  refine v_get C in_X3 rfl 0 rfl 0 (by decide) q1166 (fun _ h => h) rfl dX3_stands_7 ?_
  refine v_iconst (v := 1) C dX3_stands_10 (by decide) ?_
  refine v_iald C dX3_stands_11 1 rfl (j := 1) (ixl rfl) ?_
  refine v_ternI C 19 20 dX3_stands_15 dX3_stands_16 dX3_stands_19 (by decide) rfl (fun ht hf => v_icmp_lt C 19 dX3_stands_12 (by decide) (fun q => ht (fun n => n q)) (fun q => hf q)) ?_
  exact v_zret C (bI_nar _) dX3_stands_20 (Nat.le_of_ble_eq_true rfl) (Nat.le_of_ble_eq_true rfl) ⟨rfl, rfl⟩
def M_X3_leads : Md := (yX3_leads, cX3_leads, 3, (some .boolean), 2, 62, 0, 0)
theorem ok_X3_leads : MOKv M_X3_leads 2 := ⟨q1267, qs51, q103, q1268, ⟨by decide +kernel, by decide +kernel, by decide +kernel⟩⟩
set_option maxHeartbeats 4000000 in
theorem m_leads (l : Launch) (g : GT) (a : Nat → Nat) (row : Nat → Int32) (books : Nat → Int64) (S : Int32 × (Nat → Int32)) (B : (Nat → Int32) × Int32 × (Nat → Int32)) (T : (Nat → Int32) × Int32) (P : Int32 × Int32 × (Nat → Int32) × Int32 × Int32) (h : Int64) (b : Nat) (bi ci : Int32) (eb : bi = nI b) (hb : b < 100) : CtE l g M_X3_leads [.ref (a 0), .int bi, .int ci] (mw g a row books S B T P h) (some (.int (bI (q_leads row b ci)))) (mw g a row books S B T P h) := by
  refine Ct.start2 (M := M_X3_leads) rfl [(0, .ref (a 0)), (1, .int bi), (2, .int ci)] rfl (by decide +kernel) (Nat.le_of_ble_eq_true rfl) ?_
  intro p e s m args below meth c A C
  subst eb
  refine v_aload_n C dX3_leads_0 0 rfl ?_
  refine v_iload_n C dX3_leads_1 1 rfl ?_
  refine v_iconst (v := 1) C dX3_leads_2 (by decide) ?_
  refine v_callVw C (m_ofLeg l g a _ _ _ _ _ _ _ b 1 _ _ rfl rfl (by omega)) ok_X3_ofLeg rfl q1257 rfl (Nat.le_of_ble_eq_true rfl) 0 rfl rfl rfl dX3_leads_3 (roomL rfl rfl) ⟨rfl, rfl⟩ ?_
  refine v_iload_n C dX3_leads_6 2 rfl ?_
  refine v_ishr C dX3_leads_7 ?_
  refine v_iconst (v := 1) C dX3_leads_8 (by decide) ?_
  refine v_iand C dX3_leads_9 ?_
  refine v_iconst (v := 1) C dX3_leads_10 (by decide) ?_
  refine v_ternI C 18 19 dX3_leads_14 dX3_leads_15 dX3_leads_18 (by decide) rfl (fun ht hf => v_icmp_ne C 18 dX3_leads_11 (by decide) (fun q => ht q) (fun q => hf q)) ?_
  exact v_zret C (bI_nar _) dX3_leads_19 (Nat.le_of_ble_eq_true rfl) (Nat.le_of_ble_eq_true rfl) ⟨rfl, rfl⟩
def M_X3_saves : Md := (yX3_saves, cX3_saves, 2, none, 2, 63, 0, 0)
theorem ok_X3_saves : MOKv M_X3_saves 0 := ⟨q1223, qs44, q103, q1224, ⟨by decide +kernel, by decide +kernel, by decide +kernel⟩⟩
set_option maxHeartbeats 4000000 in
theorem m_saves (l : Launch) (g : GT) (a : Nat → Nat) (K : KT) (B : (Nat → Int32) × Int32 × (Nat → Int32)) (T : (Nat → Int32) × Int32) (P : Int32 × Int32 × (Nat → Int32) × Int32 × Int32) (h : Int64) (hs : K.2.2.1 = nI (svOf K)) (hs5 : svOf K ≤ 5) : CtE l g M_X3_saves [.ref (a 0)] (mw g a K.1 K.2.1 K.2.2 B T P h) none (mw g a (svK K).1 (svK K).2.1 (svK K).2.2 B T P h) := by
  refine Ct.start2 (M := M_X3_saves) rfl [(0, .ref (a 0))] rfl (by decide +kernel) (Nat.le_of_ble_eq_true rfl) ?_
  intro p e s m args below meth c A C
  obtain ⟨row, books, sd, kept⟩ := K
  unfold svK
  generalize hsv : svOf (row, books, sd, kept) = sv at hs hs5
  dsimp only at hs ⊢
  subst hs
  by_cases h5 : sv = 5
  · subst h5
    refine v_iconst (v := 1) C dX3_saves_0 (by decide) ?_
    refine v_istore_n (lv' := [(1, _), (0, _)]) C dX3_saves_1 rfl (by decide) rfl ?_
    refine v_loop 1 5 (fun k => [(1, .int (nI k)), (0, .ref (a 0))]) (fun k => mw g a (shN 130 row (k - 1)) (shN 6 books (k - 1)) (nI 5, kept) B T P h) rfl rfl (by omega) ?_ ?_
    · skip
      refine v_iload_n C dX3_saves_2 0 rfl ?_
      refine v_iconst (v := 5) C dX3_saves_3 (by decide) ?_
      refine v_icmp_ge C 29 dX3_saves_4 (by decide) (fun c4_1 => ?_) (fun c4_1 => ?_)
      · skip
        refine v_aload_n C dX3_saves_29 1 rfl ?_
        refine v_dup C dX3_saves_30 rfl ?_
        refine v_get C in_X3 rfl 0 rfl 2 (by decide) q1168 (fun _ h => h) rfl dX3_saves_31 ?_
        refine v_aload_n C dX3_saves_34 1 rfl ?_
        refine v_get C in_X3 rfl 0 rfl 2 (by decide) q1168 (fun _ h => h) rfl dX3_saves_35 ?_
        refine v_iconst (v := 5) C dX3_saves_38 (by decide) ?_
        refine v_icmp_ne C 46 dX3_saves_39 (by decide) (fun c39_2 => ?_) (fun c39_2 => ?_)
        · exact absurd rfl c39_2
        · skip
          refine v_iconst (v := 1) C dX3_saves_42 (by decide) ?_
          refine v_goto C 47 dX3_saves_43 (by decide) ?_
          refine v_isub C dX3_saves_47 ?_
          refine v_eqi (show nI 5 - 1 = nI 4 from rfl) ?_
          refine v_put (ws' := mw g a _ _ (_, _) _ _ _ _) C in_X3 tyX3 tyX3_ok nmX3 rfl 0 rfl 2 (by decide) q1168 (fun _ h => h) rfl rfl rfl (Nat.le_of_ble_eq_true rfl) dX3_saves_48 rfl ?_
          refine v_aload_n C dX3_saves_51 1 rfl ?_
          refine v_dup C dX3_saves_52 rfl ?_
          refine v_get C in_X3 rfl 0 rfl 2 (by decide) q1168 (fun _ h => h) rfl dX3_saves_53 ?_
          refine v_iconst (v := 1) C dX3_saves_56 (by decide) ?_
          refine v_iadd C dX3_saves_57 ?_
          refine v_eqi (show nI 4 + 1 = nI 5 from rfl) ?_
          refine v_put (ws' := mw g a _ _ (_, _) _ _ _ _) C in_X3 tyX3 tyX3_ok nmX3 rfl 0 rfl 2 (by decide) q1168 (fun _ h => h) rfl rfl rfl (Nat.le_of_ble_eq_true rfl) dX3_saves_58 rfl ?_
          refine v_aload_n C dX3_saves_61 1 rfl ?_
          refine v_iconst (v := 0) C dX3_saves_62 (by decide) ?_
          refine v_aload_n C dX3_saves_63 1 rfl ?_
          refine v_get C in_X3 rfl 0 rfl 2 (by decide) q1168 (fun _ h => h) rfl dX3_saves_64 ?_
          refine v_callVv C (m_copies l g a _ _ _ _ _ _ _ 0 5 _ _ rfl rfl (by omega) (by omega) (by omega)) ok_X3_copies rfl q1225 rfl (Nat.le_of_ble_eq_true rfl) 0 rfl rfl rfl dX3_saves_67 (roomL rfl rfl) ⟨rfl, rfl⟩ ?_
          exact v_vret C dX3_saves_70 (Nat.le_of_ble_eq_true rfl) (Nat.le_of_ble_eq_true rfl) ⟨rfl, rfl⟩
      · exact absurd (Int32.le_refl _) c4_1
    · intro k hk hk0 hback
      refine v_iload_n C dX3_saves_2 0 rfl ?_
      refine v_iconst (v := 5) C dX3_saves_3 (by decide) ?_
      refine v_icmp_ge C 29 dX3_saves_4 (by decide) (fun c4_3 => ?_) (fun c4_3 => ?_)
      · exact absurd c4_3 (nI_ge hk (by first | decide | omega))
      · skip
        refine v_aload_n C dX3_saves_7 1 rfl ?_
        refine v_get C in_X3 rfl 0 rfl 2 (by decide) q1168 (fun _ h => h) rfl dX3_saves_8 ?_
        refine v_iconst (v := 5) C dX3_saves_11 (by decide) ?_
        refine v_icmp_ne C 29 dX3_saves_12 (by decide) (fun c12_4 => ?_) (fun c12_4 => ?_)
        · exact absurd rfl c12_4
        · skip
          refine v_aload_n C dX3_saves_15 1 rfl ?_
          refine v_iload_n C dX3_saves_16 0 rfl ?_
          refine v_iconst (v := 1) C dX3_saves_17 (by decide) ?_
          refine v_iadd C dX3_saves_18 ?_
          refine v_iload_n C dX3_saves_19 0 rfl ?_
          refine v_callVv C (m_copies l g a _ _ _ _ _ _ _ (k + 1) k _ _ (nI_1 k) rfl (by omega) (by omega) (by omega)) ok_X3_copies rfl q1225 rfl (Nat.le_of_ble_eq_true rfl) 0 rfl rfl rfl dX3_saves_20 (roomL rfl rfl) ⟨rfl, rfl⟩ ?_
          refine v_iinc (lv' := [(1, _), (0, _)]) C dX3_saves_23 0 rfl (nI_1 k) (by decide) rfl ?_
          refine v_goto C 2 dX3_saves_26 (by decide) ?_
          obtain ⟨j, rfl⟩ : ∃ j, k = j + 1 := ⟨k - 1, by omega⟩
          exact hback
  · have e1 : svB 130 row sv = cpN row 130 0 (sv + 1) 130 := if_neg h5
    have e2 : svB 6 books sv = cpN books 6 0 (sv + 1) 6 := if_neg h5
    have e3 : svN sv = sv + 1 := if_neg h5
    rw [e1, e2, e3]
    refine v_iconst (v := 1) C dX3_saves_0 (by decide) ?_
    refine v_istore_n (lv' := [(1, _), (0, _)]) C dX3_saves_1 rfl (by decide) rfl ?_
    refine v_iload_n C dX3_saves_2 0 rfl ?_
    refine v_iconst (v := 5) C dX3_saves_3 (by decide) ?_
    refine v_icmp_ge C 29 dX3_saves_4 (by decide) (fun c4_1 => ?_) (fun c4_1 => ?_)
    · exact absurd c4_1 (by decide)
    · skip
      refine v_aload_n C dX3_saves_7 1 rfl ?_
      refine v_get C in_X3 rfl 0 rfl 2 (by decide) q1168 (fun _ h => h) rfl dX3_saves_8 ?_
      refine v_iconst (v := 5) C dX3_saves_11 (by decide) ?_
      refine v_icmp_ne C 29 dX3_saves_12 (by decide) (fun c12_2 => ?_) (fun c12_2 => ?_)
      · skip
        refine v_aload_n C dX3_saves_29 1 rfl ?_
        refine v_dup C dX3_saves_30 rfl ?_
        refine v_get C in_X3 rfl 0 rfl 2 (by decide) q1168 (fun _ h => h) rfl dX3_saves_31 ?_
        refine v_aload_n C dX3_saves_34 1 rfl ?_
        refine v_get C in_X3 rfl 0 rfl 2 (by decide) q1168 (fun _ h => h) rfl dX3_saves_35 ?_
        refine v_iconst (v := 5) C dX3_saves_38 (by decide) ?_
        refine v_icmp_ne C 46 dX3_saves_39 (by decide) (fun c39_3 => ?_) (fun c39_3 => ?_)
        · skip
          refine v_iconst (v := 0) C dX3_saves_46 (by decide) ?_
          refine v_isub C dX3_saves_47 ?_
          refine v_eqi (show nI sv - 0 = nI sv from pk_sub (Nat.zero_le sv)) ?_
          refine v_put (ws' := mw g a _ _ (_, _) _ _ _ _) C in_X3 tyX3 tyX3_ok nmX3 rfl 0 rfl 2 (by decide) q1168 (fun _ h => h) rfl rfl rfl (Nat.le_of_ble_eq_true rfl) dX3_saves_48 rfl ?_
          refine v_aload_n C dX3_saves_51 1 rfl ?_
          refine v_dup C dX3_saves_52 rfl ?_
          refine v_get C in_X3 rfl 0 rfl 2 (by decide) q1168 (fun _ h => h) rfl dX3_saves_53 ?_
          refine v_iconst (v := 1) C dX3_saves_56 (by decide) ?_
          refine v_iadd C dX3_saves_57 ?_
          refine v_eqi (nI_1 sv) ?_
          refine v_put (ws' := mw g a _ _ (_, _) _ _ _ _) C in_X3 tyX3 tyX3_ok nmX3 rfl 0 rfl 2 (by decide) q1168 (fun _ h => h) rfl rfl rfl (Nat.le_of_ble_eq_true rfl) dX3_saves_58 rfl ?_
          refine v_aload_n C dX3_saves_61 1 rfl ?_
          refine v_iconst (v := 0) C dX3_saves_62 (by decide) ?_
          refine v_aload_n C dX3_saves_63 1 rfl ?_
          refine v_get C in_X3 rfl 0 rfl 2 (by decide) q1168 (fun _ h => h) rfl dX3_saves_64 ?_
          refine v_callVv C (m_copies l g a _ _ _ _ _ _ _ 0 (sv + 1) _ _ rfl rfl (by omega) (by omega) (by omega)) ok_X3_copies rfl q1225 rfl (Nat.le_of_ble_eq_true rfl) 0 rfl rfl rfl dX3_saves_67 (roomL rfl rfl) ⟨rfl, rfl⟩ ?_
          exact v_vret C dX3_saves_70 (Nat.le_of_ble_eq_true rfl) (Nat.le_of_ble_eq_true rfl) ⟨rfl, rfl⟩
        · exact absurd ((nI_eq (by omega) (by decide)).mp c39_3) h5
      · exact absurd ((nI_eq (by omega) (by decide)).mp c12_2) h5
def M_X3_addBin : Md := (yX3_addBin, cX3_addBin, 4, (some .int), 3, 84, 0, 0)
theorem ok_X3_addBin : MOKv M_X3_addBin 1 := ⟨q1215, q1216, q103, q1217, ⟨by decide +kernel, by decide +kernel, by decide +kernel⟩⟩
set_option maxHeartbeats 4000000 in
theorem m_addBin (l : Launch) (g : GT) (a : Nat → Nat) (K : KT) (B : (Nat → Int32) × Int32 × (Nat → Int32)) (T : (Nat → Int32) × Int32) (P : Int32 × Int32 × (Nat → Int32) × Int32 × Int32) (h : Int64) (hK : KOk K) (cap : Int32) : CtE l g M_X3_addBin [.ref (a 0), .int cap] (mw g a K.1 K.2.1 K.2.2 B T P h) (some (.int (p_addBin K cap).1)) (mw g a (p_addBin K cap).2.1 (p_addBin K cap).2.2.1 (p_addBin K cap).2.2.2 B T P h) := by
  refine Ct.start2 (M := M_X3_addBin) rfl [(0, .ref (a 0)), (1, .int cap)] rfl (by decide +kernel) (Nat.le_of_ble_eq_true rfl) ?_
  intro p e s m args below meth c A C
  obtain ⟨⟨hnb, hb8⟩, ⟨hnl, hl3⟩, ⟨hnc, hc6⟩, hsv, hs5⟩ := id hK
  refine v_iload_n C dX3_addBin_0 1 rfl ?_
  refine v_bipush (v := 10) C dX3_addBin_1 (by decide) ?_
  refine v_sipush (v := 20000) C dX3_addBin_3 (by decide) ?_
  refine v_callSp C (m_in l g _ _ _) ok_X3_in rfl q1218 rfl (Nat.le_of_ble_eq_true rfl) dX3_addBin_6 (roomL rfl rfl) ⟨rfl, rfl⟩ ?_
  refine v_if_neB C 15 dX3_addBin_9 (by decide) (fun c9_1 => ?_) (fun c9_1 => ?_)
  · skip
    refine v_aload_n C dX3_addBin_15 0 rfl ?_
    refine v_get C in_X3 rfl 0 rfl 0 (by decide) q1166 (fun _ h => h) rfl dX3_addBin_16 ?_
    refine v_iconst (v := 2) C dX3_addBin_19 (by decide) ?_
    refine v_iald C dX3_addBin_20 1 rfl (j := 2) (ixl rfl) ?_
    refine v_bipush (v := 8) C dX3_addBin_21 (by decide) ?_
    refine v_icmp_ne C 29 dX3_addBin_23 (by decide) (fun c23_2 => ?_) (fun c23_2 => ?_)
    · skip
      refine v_aload_n C dX3_addBin_29 0 rfl ?_
      refine v_callVv C (m_saves l g a _ _ _ _ _ hK.2.2.2.1 hK.2.2.2.2) ok_X3_saves rfl q1221 rfl (Nat.le_of_ble_eq_true rfl) 0 rfl rfl rfl dX3_addBin_30 (roomL rfl rfl) ⟨rfl, rfl⟩ ?_
      refine v_aload_n C dX3_addBin_33 0 rfl ?_
      refine v_get C in_X3 rfl 0 rfl 0 (by decide) q1166 (fun _ h => h) rfl dX3_addBin_34 ?_
      refine v_iconst (v := 2) C dX3_addBin_37 (by decide) ?_
      refine v_iald C dX3_addBin_38 1 rfl (j := 2) (ixl rfl) ?_
      refine v_eqi (svK_2 hK) ?_
      refine v_istore_n (lv' := [(2, _), (0, _), (1, _)]) C dX3_addBin_39 rfl (by decide) rfl ?_
      refine v_iconst (v := 0) C dX3_addBin_40 (by decide) ?_
      refine v_istore_n (lv' := [(3, _), (2, _), (0, _), (1, _)]) C dX3_addBin_41 rfl (by decide) rfl ?_
      refine v_loop 0 9 (fun k => [(3, .int (nI k)), (2, .int (nI (nbK K))), (0, .ref (a 0)), (1, .int cap)]) (fun k => mw g a (z9 (svK K).1 (nbK K) k) (svK K).2.1 (svK K).2.2 B T P h) rfl rfl (by omega) ?_ ?_
      · skip
        refine v_iload_n C dX3_addBin_42 0 rfl ?_
        refine v_bipush (v := 9) C dX3_addBin_43 (by decide) ?_
        refine v_icmp_ge C 61 dX3_addBin_45 (by decide) (fun c45_3 => ?_) (fun c45_3 => ?_)
        · skip
          refine v_aload_n C dX3_addBin_61 2 rfl ?_
          refine v_iload_n C dX3_addBin_62 1 rfl ?_
          refine v_iconst (v := 0) C dX3_addBin_63 (by decide) ?_
          refine v_iload_n C dX3_addBin_64 3 rfl ?_
          refine v_callVv C (m_sets l g a _ _ _ _ _ _ _ (nbK K) 0 _ _ _ rfl rfl (by omega)) ok_X3_sets rfl q1229 rfl (Nat.le_of_ble_eq_true rfl) 0 rfl rfl rfl dX3_addBin_65 (roomL rfl rfl) ⟨rfl, rfl⟩ ?_
          refine v_aload_n C dX3_addBin_68 2 rfl ?_
          refine v_iload_n C dX3_addBin_69 1 rfl ?_
          refine v_iconst (v := 2) C dX3_addBin_70 (by decide) ?_
          refine v_sipush (v := 400) C dX3_addBin_71 (by decide) ?_
          refine v_callVv C (m_sets l g a _ _ _ _ _ _ _ (nbK K) 2 _ _ _ rfl rfl (by omega)) ok_X3_sets rfl q1229 rfl (Nat.le_of_ble_eq_true rfl) 0 rfl rfl rfl dX3_addBin_74 (roomL rfl rfl) ⟨rfl, rfl⟩ ?_
          refine v_aload_n C dX3_addBin_77 2 rfl ?_
          refine v_iload_n C dX3_addBin_78 1 rfl ?_
          refine v_iconst (v := 5) C dX3_addBin_79 (by decide) ?_
          refine v_iconst (v := -1) C dX3_addBin_80 (by decide) ?_
          refine v_callVv C (m_sets l g a _ _ _ _ _ _ _ (nbK K) 5 _ _ _ rfl rfl (by omega)) ok_X3_sets rfl q1229 rfl (Nat.le_of_ble_eq_true rfl) 0 rfl rfl rfl dX3_addBin_81 (roomL rfl rfl) ⟨rfl, rfl⟩ ?_
          refine v_aload_n C dX3_addBin_84 2 rfl ?_
          refine v_get C in_X3 rfl 0 rfl 0 (by decide) q1166 (fun _ h => h) rfl dX3_addBin_85 ?_
          refine v_iconst (v := 2) C dX3_addBin_88 (by decide) ?_
          refine v_dup2_11 C dX3_addBin_89 rfl rfl ?_
          refine v_iald C dX3_addBin_90 1 rfl (j := 2) (ixl rfl) ?_
          refine v_iconst (v := 1) C dX3_addBin_91 (by decide) ?_
          refine v_iadd C dX3_addBin_92 ?_
          refine v_iast (ws' := mw g a _ _ _ _ _ _ _) C dX3_addBin_93 1 rfl (j := 2) (ixl rfl) rfl ?_
          refine v_iload_n C dX3_addBin_94 1 rfl ?_
          exact v_iret C dX3_addBin_95 (Nat.le_of_ble_eq_true rfl) (Nat.le_of_ble_eq_true rfl) (by unfold p_addBin; (try dsimp only); rw [if_pos c9_1, if_neg c23_2]; exact ⟨rfl, rfl⟩)
        · exact absurd (Int32.le_refl _) c45_3
      · intro k hk hk0 hback
        refine v_iload_n C dX3_addBin_42 0 rfl ?_
        refine v_bipush (v := 9) C dX3_addBin_43 (by decide) ?_
        refine v_icmp_ge C 61 dX3_addBin_45 (by decide) (fun c45_4 => ?_) (fun c45_4 => ?_)
        · exact absurd c45_4 (nI_ge hk (by first | decide | omega))
        · skip
          refine v_aload_n C dX3_addBin_48 2 rfl ?_
          refine v_iload_n C dX3_addBin_49 1 rfl ?_
          refine v_iload_n C dX3_addBin_50 0 rfl ?_
          refine v_iconst (v := 0) C dX3_addBin_51 (by decide) ?_
          refine v_callVv C (m_sets l g a _ _ _ _ _ _ _ (nbK K) k _ _ _ rfl rfl (by omega)) ok_X3_sets rfl q1229 rfl (Nat.le_of_ble_eq_true rfl) 0 rfl rfl rfl dX3_addBin_52 (roomL rfl rfl) ⟨rfl, rfl⟩ ?_
          refine v_iinc (lv' := [(3, _), (2, _), (0, _), (1, _)]) C dX3_addBin_55 0 rfl (nI_1 k) (by decide) rfl ?_
          refine v_goto C 42 dX3_addBin_58 (by decide) ?_
          exact hback
    · skip
      refine v_bipush (v := -5) C dX3_addBin_26 (by decide) ?_
      exact v_iret C dX3_addBin_28 (Nat.le_of_ble_eq_true rfl) (Nat.le_of_ble_eq_true rfl) (by unfold p_addBin; (try dsimp only); rw [if_pos c9_1, if_pos c23_2]; exact ⟨rfl, rfl⟩)
  · skip
    refine v_bipush (v := -3) C dX3_addBin_12 (by decide) ?_
    exact v_iret C dX3_addBin_14 (Nat.le_of_ble_eq_true rfl) (Nat.le_of_ble_eq_true rfl) (by unfold p_addBin; (try dsimp only); rw [if_neg c9_1]; exact ⟨rfl, rfl⟩)
def M_X3_setBand : Md := (yX3_setBand, cX3_setBand, 5, (some .int), 3, 84, 0, 0)
theorem ok_X3_setBand : MOKv M_X3_setBand 3 := ⟨q1234, q1235, q103, q1236, ⟨by decide +kernel, by decide +kernel, by decide +kernel⟩⟩
set_option maxHeartbeats 4000000 in
theorem m_setBand (l : Launch) (g : GT) (a : Nat → Nat) (K : KT) (B : (Nat → Int32) × Int32 × (Nat → Int32)) (T : (Nat → Int32) × Int32) (P : Int32 × Int32 × (Nat → Int32) × Int32 × Int32) (h : Int64) (hK : KOk K) (bin low high : Int32) : CtE l g M_X3_setBand [.ref (a 0), .int bin, .int low, .int high] (mw g a K.1 K.2.1 K.2.2 B T P h) (some (.int (p_setBand K bin low high).1)) (mw g a (p_setBand K bin low high).2.1 (p_setBand K bin low high).2.2.1 (p_setBand K bin low high).2.2.2 B T P h) := by
  refine Ct.start2 (M := M_X3_setBand) rfl [(0, .ref (a 0)), (1, .int bin), (2, .int low), (3, .int high)] rfl (by decide +kernel) (Nat.le_of_ble_eq_true rfl) ?_
  intro p e s m args below meth c A C
  obtain ⟨⟨hnb, hb8⟩, ⟨hnl, hl3⟩, ⟨hnc, hc6⟩, hsv, hs5⟩ := id hK
  refine v_aload_n C dX3_setBand_0 0 rfl ?_
  refine v_iload_n C dX3_setBand_1 1 rfl ?_
  refine v_callVw C (m_isBin l g a _ _ _ _ _ _ _ _) ok_X3_isBin rfl q1237 rfl (Nat.le_of_ble_eq_true rfl) 0 rfl rfl rfl dX3_setBand_2 (roomL rfl rfl) ⟨rfl, rfl⟩ ?_
  refine v_if_neB C 11 dX3_setBand_5 (by decide) (fun c5_1 => ?_) (fun c5_1 => ?_)
  · skip
    obtain ⟨eb, hb⟩ := isB_c hnb (by omega) c5_1
    refine v_iload_n C dX3_setBand_11 2 rfl ?_
    refine v_iconst (v := 0) C dX3_setBand_12 (by decide) ?_
    refine v_sipush (v := 400) C dX3_setBand_13 (by decide) ?_
    refine v_callSp C (m_in l g _ _ _) ok_X3_in rfl q1218 rfl (Nat.le_of_ble_eq_true rfl) dX3_setBand_16 (roomL rfl rfl) ⟨rfl, rfl⟩ ?_
    refine v_if_eqB C 33 dX3_setBand_19 (by decide) (fun c19_2 => ?_) (fun c19_2 => ?_)
    · skip
      refine v_bipush (v := -3) C dX3_setBand_33 (by decide) ?_
      exact v_iret C dX3_setBand_35 (Nat.le_of_ble_eq_true rfl) (Nat.le_of_ble_eq_true rfl) (by unfold p_setBand; (try dsimp only); rw [if_pos c5_1, if_neg c19_2]; exact ⟨rfl, rfl⟩)
    · skip
      refine v_iload_n C dX3_setBand_22 3 rfl ?_
      refine v_iload_n C dX3_setBand_23 2 rfl ?_
      refine v_sipush (v := 400) C dX3_setBand_24 (by decide) ?_
      refine v_callSp C (m_in l g _ _ _) ok_X3_in rfl q1218 rfl (Nat.le_of_ble_eq_true rfl) dX3_setBand_27 (roomL rfl rfl) ⟨rfl, rfl⟩ ?_
      refine v_if_neB C 36 dX3_setBand_30 (by decide) (fun c30_3 => ?_) (fun c30_3 => ?_)
      · skip
        refine v_aload_n C dX3_setBand_36 0 rfl ?_
        refine v_callVv C (m_saves l g a _ _ _ _ _ hK.2.2.2.1 hK.2.2.2.2) ok_X3_saves rfl q1221 rfl (Nat.le_of_ble_eq_true rfl) 0 rfl rfl rfl dX3_setBand_37 (roomL rfl rfl) ⟨rfl, rfl⟩ ?_
        refine v_aload_n C dX3_setBand_40 0 rfl ?_
        refine v_iload_n C dX3_setBand_41 1 rfl ?_
        refine v_eqi eb ?_
        refine v_iconst (v := 1) C dX3_setBand_42 (by decide) ?_
        refine v_callVw C (m_of l g a _ _ _ _ _ _ _ (bin.toNatClampNeg) 1 _ _ rfl rfl (by omega)) ok_X3_of rfl q1241 rfl (Nat.le_of_ble_eq_true rfl) 0 rfl rfl rfl dX3_setBand_43 (roomL rfl rfl) ⟨rfl, rfl⟩ ?_
        refine v_istore (lv' := [(4, _), (0, _), (1, _), (2, _), (3, _)]) C dX3_setBand_46 (by decide) rfl ?_
        refine v_aload_n C dX3_setBand_48 1 rfl ?_
        refine v_iload_n C dX3_setBand_49 2 rfl ?_
        refine v_eqi eb ?_
        refine v_iconst (v := 1) C dX3_setBand_50 (by decide) ?_
        refine v_iload_n C dX3_setBand_51 3 rfl ?_
        refine v_callVv C (m_sets l g a _ _ _ _ _ _ _ (bin.toNatClampNeg) 1 _ _ _ rfl rfl (by omega)) ok_X3_sets rfl q1229 rfl (Nat.le_of_ble_eq_true rfl) 0 rfl rfl rfl dX3_setBand_52 (roomL rfl rfl) ⟨rfl, rfl⟩ ?_
        refine v_aload_n C dX3_setBand_55 1 rfl ?_
        refine v_iload_n C dX3_setBand_56 2 rfl ?_
        refine v_eqi eb ?_
        refine v_iconst (v := 2) C dX3_setBand_57 (by decide) ?_
        refine v_iload_n C dX3_setBand_58 4 rfl ?_
        refine v_callVv C (m_sets l g a _ _ _ _ _ _ _ (bin.toNatClampNeg) 2 _ _ _ rfl rfl (by omega)) ok_X3_sets rfl q1229 rfl (Nat.le_of_ble_eq_true rfl) 0 rfl rfl rfl dX3_setBand_59 (roomL rfl rfl) ⟨rfl, rfl⟩ ?_
        refine v_iload C dX3_setBand_62 0 rfl ?_
        exact v_iret C dX3_setBand_64 (Nat.le_of_ble_eq_true rfl) (Nat.le_of_ble_eq_true rfl) (by unfold p_setBand; (try dsimp only); rw [if_pos c5_1, if_pos c19_2, if_pos c30_3]; exact ⟨rfl, rfl⟩)
      · skip
        refine v_bipush (v := -3) C dX3_setBand_33 (by decide) ?_
        exact v_iret C dX3_setBand_35 (Nat.le_of_ble_eq_true rfl) (Nat.le_of_ble_eq_true rfl) (by unfold p_setBand; (try dsimp only); rw [if_pos c5_1, if_pos c19_2, if_neg c30_3]; exact ⟨rfl, rfl⟩)
  · skip
    refine v_bipush (v := -2) C dX3_setBand_8 (by decide) ?_
    exact v_iret C dX3_setBand_10 (Nat.le_of_ble_eq_true rfl) (Nat.le_of_ble_eq_true rfl) (by unfold p_setBand; (try dsimp only); rw [if_neg c5_1]; exact ⟨rfl, rfl⟩)
def M_X3_addLeg : Md := (yX3_addLeg, cX3_addLeg, 3, (some .int), 3, 84, 0, 0)
theorem ok_X3_addLeg : MOKv M_X3_addLeg 1 := ⟨q1246, q1247, q103, q1248, ⟨by decide +kernel, by decide +kernel, by decide +kernel⟩⟩
set_option maxHeartbeats 4000000 in
theorem m_addLeg (l : Launch) (g : GT) (a : Nat → Nat) (K : KT) (B : (Nat → Int32) × Int32 × (Nat → Int32)) (T : (Nat → Int32) × Int32) (P : Int32 × Int32 × (Nat → Int32) × Int32 × Int32) (h : Int64) (hK : KOk K) (speed : Int32) : CtE l g M_X3_addLeg [.ref (a 0), .int speed] (mw g a K.1 K.2.1 K.2.2 B T P h) (some (.int (p_addLeg K speed).1)) (mw g a (p_addLeg K speed).2.1 (p_addLeg K speed).2.2.1 (p_addLeg K speed).2.2.2 B T P h) := by
  refine Ct.start2 (M := M_X3_addLeg) rfl [(0, .ref (a 0)), (1, .int speed)] rfl (by decide +kernel) (Nat.le_of_ble_eq_true rfl) ?_
  intro p e s m args below meth c A C
  obtain ⟨⟨hnb, hb8⟩, ⟨hnl, hl3⟩, ⟨hnc, hc6⟩, hsv, hs5⟩ := id hK
  refine v_iload_n C dX3_addLeg_0 1 rfl ?_
  refine v_iconst (v := 1) C dX3_addLeg_1 (by decide) ?_
  refine v_sipush (v := 500) C dX3_addLeg_2 (by decide) ?_
  refine v_callSp C (m_in l g _ _ _) ok_X3_in rfl q1218 rfl (Nat.le_of_ble_eq_true rfl) dX3_addLeg_5 (roomL rfl rfl) ⟨rfl, rfl⟩ ?_
  refine v_if_neB C 14 dX3_addLeg_8 (by decide) (fun c8_1 => ?_) (fun c8_1 => ?_)
  · skip
    refine v_aload_n C dX3_addLeg_14 0 rfl ?_
    refine v_get C in_X3 rfl 0 rfl 0 (by decide) q1166 (fun _ h => h) rfl dX3_addLeg_15 ?_
    refine v_iconst (v := 3) C dX3_addLeg_18 (by decide) ?_
    refine v_iald C dX3_addLeg_19 1 rfl (j := 3) (ixl rfl) ?_
    refine v_iconst (v := 3) C dX3_addLeg_20 (by decide) ?_
    refine v_icmp_ne C 27 dX3_addLeg_21 (by decide) (fun c21_2 => ?_) (fun c21_2 => ?_)
    · skip
      refine v_aload_n C dX3_addLeg_27 0 rfl ?_
      refine v_callVv C (m_saves l g a _ _ _ _ _ hK.2.2.2.1 hK.2.2.2.2) ok_X3_saves rfl q1221 rfl (Nat.le_of_ble_eq_true rfl) 0 rfl rfl rfl dX3_addLeg_28 (roomL rfl rfl) ⟨rfl, rfl⟩ ?_
      refine v_bipush (v := 82) C dX3_addLeg_31 (by decide) ?_
      refine v_iconst (v := 4) C dX3_addLeg_33 (by decide) ?_
      refine v_aload_n C dX3_addLeg_34 0 rfl ?_
      refine v_get C in_X3 rfl 0 rfl 0 (by decide) q1166 (fun _ h => h) rfl dX3_addLeg_35 ?_
      refine v_iconst (v := 3) C dX3_addLeg_38 (by decide) ?_
      refine v_iald C dX3_addLeg_39 1 rfl (j := 3) (ixl rfl) ?_
      refine v_eqi (svK_3 hK) ?_
      refine v_imul C dX3_addLeg_40 ?_
      refine v_eqi (pk_mul 4 (nlK K)) ?_
      refine v_iadd C dX3_addLeg_41 ?_
      refine v_eqi (nI_add 82 (4 * (nlK K))) ?_
      refine v_istore_n (lv' := [(2, _), (0, _), (1, _)]) C dX3_addLeg_42 rfl (by decide) rfl ?_
      refine v_aload_n C dX3_addLeg_43 1 rfl ?_
      refine v_get C in_X3 rfl 0 rfl 0 (by decide) q1166 (fun _ h => h) rfl dX3_addLeg_44 ?_
      refine v_iload_n C dX3_addLeg_47 0 rfl ?_
      refine v_iload_n C dX3_addLeg_48 2 rfl ?_
      refine v_iast (ws' := mw g a _ _ _ _ _ _ _) C dX3_addLeg_49 1 rfl (ixn (by omega) (by decide)) rfl ?_
      refine v_aload_n C dX3_addLeg_50 1 rfl ?_
      refine v_get C in_X3 rfl 0 rfl 0 (by decide) q1166 (fun _ h => h) rfl dX3_addLeg_51 ?_
      refine v_iload_n C dX3_addLeg_54 0 rfl ?_
      refine v_iconst (v := 1) C dX3_addLeg_55 (by decide) ?_
      refine v_iadd C dX3_addLeg_56 ?_
      refine v_eqi (nI_add (82 + (4 * (nlK K))) 1) ?_
      refine v_iconst (v := 0) C dX3_addLeg_57 (by decide) ?_
      refine v_iast (ws' := mw g a _ _ _ _ _ _ _) C dX3_addLeg_58 1 rfl (ixn (by omega) (by decide)) rfl ?_
      refine v_aload_n C dX3_addLeg_59 1 rfl ?_
      refine v_get C in_X3 rfl 0 rfl 0 (by decide) q1166 (fun _ h => h) rfl dX3_addLeg_60 ?_
      refine v_iload_n C dX3_addLeg_63 0 rfl ?_
      refine v_iconst (v := 2) C dX3_addLeg_64 (by decide) ?_
      refine v_iadd C dX3_addLeg_65 ?_
      refine v_eqi (nI_add (82 + (4 * (nlK K))) 2) ?_
      refine v_iconst (v := 0) C dX3_addLeg_66 (by decide) ?_
      refine v_iast (ws' := mw g a _ _ _ _ _ _ _) C dX3_addLeg_67 1 rfl (ixn (by omega) (by decide)) rfl ?_
      refine v_aload_n C dX3_addLeg_68 1 rfl ?_
      refine v_get C in_X3 rfl 0 rfl 0 (by decide) q1166 (fun _ h => h) rfl dX3_addLeg_69 ?_
      refine v_iload_n C dX3_addLeg_72 0 rfl ?_
      refine v_iconst (v := 3) C dX3_addLeg_73 (by decide) ?_
      refine v_iadd C dX3_addLeg_74 ?_
      refine v_eqi (nI_add (82 + (4 * (nlK K))) 3) ?_
      refine v_iconst (v := 0) C dX3_addLeg_75 (by decide) ?_
      refine v_iast (ws' := mw g a _ _ _ _ _ _ _) C dX3_addLeg_76 1 rfl (ixn (by omega) (by decide)) rfl ?_
      refine v_aload_n C dX3_addLeg_77 1 rfl ?_
      refine v_get C in_X3 rfl 0 rfl 0 (by decide) q1166 (fun _ h => h) rfl dX3_addLeg_78 ?_
      refine v_iconst (v := 3) C dX3_addLeg_81 (by decide) ?_
      refine v_dup2_11 C dX3_addLeg_82 rfl rfl ?_
      refine v_iald C dX3_addLeg_83 1 rfl (j := 3) (ixl rfl) ?_
      refine v_iconst (v := 1) C dX3_addLeg_84 (by decide) ?_
      refine v_iadd C dX3_addLeg_85 ?_
      refine v_iast (ws' := mw g a _ _ _ _ _ _ _) C dX3_addLeg_86 1 rfl (j := 3) (ixl rfl) rfl ?_
      refine v_aload_n C dX3_addLeg_87 1 rfl ?_
      refine v_get C in_X3 rfl 0 rfl 0 (by decide) q1166 (fun _ h => h) rfl dX3_addLeg_88 ?_
      refine v_iconst (v := 3) C dX3_addLeg_91 (by decide) ?_
      refine v_iald C dX3_addLeg_92 1 rfl (j := 3) (ixl rfl) ?_
      refine v_iconst (v := 1) C dX3_addLeg_93 (by decide) ?_
      refine v_isub C dX3_addLeg_94 ?_
      exact v_iret C dX3_addLeg_95 (Nat.le_of_ble_eq_true rfl) (Nat.le_of_ble_eq_true rfl) (by unfold p_addLeg; (try dsimp only); rw [if_pos c8_1, if_neg c21_2]; exact ⟨rfl, rfl⟩)
    · skip
      refine v_bipush (v := -5) C dX3_addLeg_24 (by decide) ?_
      exact v_iret C dX3_addLeg_26 (Nat.le_of_ble_eq_true rfl) (Nat.le_of_ble_eq_true rfl) (by unfold p_addLeg; (try dsimp only); rw [if_pos c8_1, if_pos c21_2]; exact ⟨rfl, rfl⟩)
  · skip
    refine v_bipush (v := -3) C dX3_addLeg_11 (by decide) ?_
    exact v_iret C dX3_addLeg_13 (Nat.le_of_ble_eq_true rfl) (Nat.le_of_ble_eq_true rfl) (by unfold p_addLeg; (try dsimp only); rw [if_neg c8_1]; exact ⟨rfl, rfl⟩)
def M_X3_setSpeed : Md := (yX3_setSpeed, cX3_setSpeed, 4, (some .int), 3, 84, 0, 0)
theorem ok_X3_setSpeed : MOKv M_X3_setSpeed 2 := ⟨q1250, q1251, q103, q1252, ⟨by decide +kernel, by decide +kernel, by decide +kernel⟩⟩
set_option maxHeartbeats 4000000 in
theorem m_setSpeed (l : Launch) (g : GT) (a : Nat → Nat) (K : KT) (B : (Nat → Int32) × Int32 × (Nat → Int32)) (T : (Nat → Int32) × Int32) (P : Int32 × Int32 × (Nat → Int32) × Int32 × Int32) (h : Int64) (hK : KOk K) (leg speed : Int32) : CtE l g M_X3_setSpeed [.ref (a 0), .int leg, .int speed] (mw g a K.1 K.2.1 K.2.2 B T P h) (some (.int (p_setSpeed K leg speed).1)) (mw g a (p_setSpeed K leg speed).2.1 (p_setSpeed K leg speed).2.2.1 (p_setSpeed K leg speed).2.2.2 B T P h) := by
  refine Ct.start2 (M := M_X3_setSpeed) rfl [(0, .ref (a 0)), (1, .int leg), (2, .int speed)] rfl (by decide +kernel) (Nat.le_of_ble_eq_true rfl) ?_
  intro p e s m args below meth c A C
  obtain ⟨⟨hnb, hb8⟩, ⟨hnl, hl3⟩, ⟨hnc, hc6⟩, hsv, hs5⟩ := id hK
  refine v_aload_n C dX3_setSpeed_0 0 rfl ?_
  refine v_iload_n C dX3_setSpeed_1 1 rfl ?_
  refine v_callVw C (m_isLeg l g a _ _ _ _ _ _ _ _) ok_X3_isLeg rfl q1253 rfl (Nat.le_of_ble_eq_true rfl) 0 rfl rfl rfl dX3_setSpeed_2 (roomL rfl rfl) ⟨rfl, rfl⟩ ?_
  refine v_if_neB C 11 dX3_setSpeed_5 (by decide) (fun c5_1 => ?_) (fun c5_1 => ?_)
  · skip
    obtain ⟨eb, hb⟩ := isB_c hnl (by omega) c5_1
    refine v_iload_n C dX3_setSpeed_11 2 rfl ?_
    refine v_iconst (v := 1) C dX3_setSpeed_12 (by decide) ?_
    refine v_sipush (v := 500) C dX3_setSpeed_13 (by decide) ?_
    refine v_callSp C (m_in l g _ _ _) ok_X3_in rfl q1218 rfl (Nat.le_of_ble_eq_true rfl) dX3_setSpeed_16 (roomL rfl rfl) ⟨rfl, rfl⟩ ?_
    refine v_if_neB C 25 dX3_setSpeed_19 (by decide) (fun c19_2 => ?_) (fun c19_2 => ?_)
    · skip
      refine v_aload_n C dX3_setSpeed_25 0 rfl ?_
      refine v_callVv C (m_saves l g a _ _ _ _ _ hK.2.2.2.1 hK.2.2.2.2) ok_X3_saves rfl q1221 rfl (Nat.le_of_ble_eq_true rfl) 0 rfl rfl rfl dX3_setSpeed_26 (roomL rfl rfl) ⟨rfl, rfl⟩ ?_
      refine v_aload_n C dX3_setSpeed_29 0 rfl ?_
      refine v_iload_n C dX3_setSpeed_30 1 rfl ?_
      refine v_eqi eb ?_
      refine v_iconst (v := 0) C dX3_setSpeed_31 (by decide) ?_
      refine v_callVw C (m_ofLeg l g a _ _ _ _ _ _ _ (leg.toNatClampNeg) 0 _ _ rfl rfl (by omega)) ok_X3_ofLeg rfl q1257 rfl (Nat.le_of_ble_eq_true rfl) 0 rfl rfl rfl dX3_setSpeed_32 (roomL rfl rfl) ⟨rfl, rfl⟩ ?_
      refine v_istore_n (lv' := [(3, _), (0, _), (1, _), (2, _)]) C dX3_setSpeed_35 rfl (by decide) rfl ?_
      refine v_aload_n C dX3_setSpeed_36 1 rfl ?_
      refine v_get C in_X3 rfl 0 rfl 0 (by decide) q1166 (fun _ h => h) rfl dX3_setSpeed_37 ?_
      refine v_bipush (v := 82) C dX3_setSpeed_40 (by decide) ?_
      refine v_iconst (v := 4) C dX3_setSpeed_42 (by decide) ?_
      refine v_iload_n C dX3_setSpeed_43 2 rfl ?_
      refine v_eqi eb ?_
      refine v_imul C dX3_setSpeed_44 ?_
      refine v_eqi (pk_mul 4 (leg.toNatClampNeg)) ?_
      refine v_iadd C dX3_setSpeed_45 ?_
      refine v_eqi (nI_add 82 (4 * (leg.toNatClampNeg))) ?_
      refine v_iload_n C dX3_setSpeed_46 3 rfl ?_
      refine v_iast (ws' := mw g a _ _ _ _ _ _ _) C dX3_setSpeed_47 1 rfl (ixn (by omega) (by decide)) rfl ?_
      refine v_iload_n C dX3_setSpeed_48 0 rfl ?_
      exact v_iret C dX3_setSpeed_49 (Nat.le_of_ble_eq_true rfl) (Nat.le_of_ble_eq_true rfl) (by unfold p_setSpeed; (try dsimp only); rw [if_pos c5_1, if_pos c19_2]; exact ⟨rfl, rfl⟩)
    · skip
      refine v_bipush (v := -3) C dX3_setSpeed_22 (by decide) ?_
      exact v_iret C dX3_setSpeed_24 (Nat.le_of_ble_eq_true rfl) (Nat.le_of_ble_eq_true rfl) (by unfold p_setSpeed; (try dsimp only); rw [if_pos c5_1, if_neg c19_2]; exact ⟨rfl, rfl⟩)
  · skip
    refine v_bipush (v := -2) C dX3_setSpeed_8 (by decide) ?_
    exact v_iret C dX3_setSpeed_10 (Nat.le_of_ble_eq_true rfl) (Nat.le_of_ble_eq_true rfl) (by unfold p_setSpeed; (try dsimp only); rw [if_neg c5_1]; exact ⟨rfl, rfl⟩)
def M_X3_spout : Md := (yX3_spout, cX3_spout, 3, (some .int), 3, 84, 0, 0)
theorem ok_X3_spout : MOKv M_X3_spout 2 := ⟨q1262, q1263, q103, q1264, ⟨by decide +kernel, by decide +kernel, by decide +kernel⟩⟩
set_option maxHeartbeats 4000000 in
theorem m_spout (l : Launch) (g : GT) (a : Nat → Nat) (K : KT) (B : (Nat → Int32) × Int32 × (Nat → Int32)) (T : (Nat → Int32) × Int32) (P : Int32 × Int32 × (Nat → Int32) × Int32 × Int32) (h : Int64) (hK : KOk K) (leg bin : Int32) : CtE l g M_X3_spout [.ref (a 0), .int leg, .int bin] (mw g a K.1 K.2.1 K.2.2 B T P h) (some (.int (p_spout K leg bin).1)) (mw g a (p_spout K leg bin).2.1 (p_spout K leg bin).2.2.1 (p_spout K leg bin).2.2.2 B T P h) := by
  refine Ct.start2 (M := M_X3_spout) rfl [(0, .ref (a 0)), (1, .int leg), (2, .int bin)] rfl (by decide +kernel) (Nat.le_of_ble_eq_true rfl) ?_
  intro p e s m args below meth c A C
  obtain ⟨⟨hnb, hb8⟩, ⟨hnl, hl3⟩, ⟨hnc, hc6⟩, hsv, hs5⟩ := id hK
  refine v_aload_n C dX3_spout_0 0 rfl ?_
  refine v_iload_n C dX3_spout_1 1 rfl ?_
  refine v_callVw C (m_isLeg l g a _ _ _ _ _ _ _ _) ok_X3_isLeg rfl q1253 rfl (Nat.le_of_ble_eq_true rfl) 0 rfl rfl rfl dX3_spout_2 (roomL rfl rfl) ⟨rfl, rfl⟩ ?_
  refine v_if_eqB C 16 dX3_spout_5 (by decide) (fun c5_1 => ?_) (fun c5_1 => ?_)
  · skip
    refine v_bipush (v := -2) C dX3_spout_16 (by decide) ?_
    exact v_iret C dX3_spout_18 (Nat.le_of_ble_eq_true rfl) (Nat.le_of_ble_eq_true rfl) (by unfold p_spout; (try dsimp only); rw [if_neg c5_1]; exact ⟨rfl, rfl⟩)
  · skip
    obtain ⟨el, hl⟩ := isB_c hnl (by omega) c5_1
    refine v_aload_n C dX3_spout_8 0 rfl ?_
    refine v_iload_n C dX3_spout_9 2 rfl ?_
    refine v_callVw C (m_isBin l g a _ _ _ _ _ _ _ _) ok_X3_isBin rfl q1237 rfl (Nat.le_of_ble_eq_true rfl) 0 rfl rfl rfl dX3_spout_10 (roomL rfl rfl) ⟨rfl, rfl⟩ ?_
    refine v_if_neB C 19 dX3_spout_13 (by decide) (fun c13_2 => ?_) (fun c13_2 => ?_)
    · skip
      obtain ⟨eb, hb⟩ := isB_c hnb (by omega) c13_2
      refine v_aload_n C dX3_spout_19 0 rfl ?_
      refine v_callVv C (m_saves l g a _ _ _ _ _ hK.2.2.2.1 hK.2.2.2.2) ok_X3_saves rfl q1221 rfl (Nat.le_of_ble_eq_true rfl) 0 rfl rfl rfl dX3_spout_20 (roomL rfl rfl) ⟨rfl, rfl⟩ ?_
      refine v_aload_n C dX3_spout_23 0 rfl ?_
      refine v_get C in_X3 rfl 0 rfl 0 (by decide) q1166 (fun _ h => h) rfl dX3_spout_24 ?_
      refine v_bipush (v := 82) C dX3_spout_27 (by decide) ?_
      refine v_iconst (v := 4) C dX3_spout_29 (by decide) ?_
      refine v_iload_n C dX3_spout_30 1 rfl ?_
      refine v_eqi el ?_
      refine v_imul C dX3_spout_31 ?_
      refine v_eqi (pk_mul 4 (leg.toNatClampNeg)) ?_
      refine v_iadd C dX3_spout_32 ?_
      refine v_eqi (nI_add 82 (4 * (leg.toNatClampNeg))) ?_
      refine v_iconst (v := 1) C dX3_spout_33 (by decide) ?_
      refine v_iadd C dX3_spout_34 ?_
      refine v_eqi (nI_add (82 + (4 * (leg.toNatClampNeg))) 1) ?_
      refine v_dup2_11 C dX3_spout_35 rfl rfl ?_
      refine v_iald C dX3_spout_36 1 rfl (ixn (by omega) (by decide)) ?_
      refine v_iconst (v := 1) C dX3_spout_37 (by decide) ?_
      refine v_iload_n C dX3_spout_38 2 rfl ?_
      refine v_eqi eb ?_
      refine v_ishl C dX3_spout_39 ?_
      refine v_ixor C dX3_spout_40 ?_
      refine v_iast (ws' := mw g a _ _ _ _ _ _ _) C dX3_spout_41 1 rfl (ixn (by omega) (by decide)) rfl ?_
      refine v_aload_n C dX3_spout_42 0 rfl ?_
      refine v_iload_n C dX3_spout_43 1 rfl ?_
      refine v_eqi el ?_
      refine v_iload_n C dX3_spout_44 2 rfl ?_
      refine v_eqi eb ?_
      refine v_callVw C (m_leads l g a _ _ _ _ _ _ _ (leg.toNatClampNeg) _ _ rfl (by omega)) ok_X3_leads rfl q1265 rfl (Nat.le_of_ble_eq_true rfl) 0 rfl rfl rfl dX3_spout_45 (roomL rfl rfl) ⟨rfl, rfl⟩ ?_
      refine v_ternB C 55 56 dX3_spout_48 dX3_spout_51 dX3_spout_52 dX3_spout_55 (by decide) (by decide) rfl ?_
      exact v_iret C dX3_spout_56 (Nat.le_of_ble_eq_true rfl) (Nat.le_of_ble_eq_true rfl) (by unfold p_spout; (try dsimp only); rw [if_pos c5_1, if_pos c13_2]; exact ⟨rfl, rfl⟩)
    · skip
      refine v_bipush (v := -2) C dX3_spout_16 (by decide) ?_
      exact v_iret C dX3_spout_18 (Nat.le_of_ble_eq_true rfl) (Nat.le_of_ble_eq_true rfl) (by unfold p_spout; (try dsimp only); rw [if_pos c5_1, if_neg c13_2]; exact ⟨rfl, rfl⟩)
def M_X3_setPrice : Md := (yX3_setPrice, cX3_setPrice, 4, (some .int), 3, 84, 0, 0)
theorem ok_X3_setPrice : MOKv M_X3_setPrice 2 := ⟨q1270, q1271, q103, q1272, ⟨by decide +kernel, by decide +kernel, by decide +kernel⟩⟩
set_option maxHeartbeats 4000000 in
theorem m_setPrice (l : Launch) (g : GT) (a : Nat → Nat) (K : KT) (B : (Nat → Int32) × Int32 × (Nat → Int32)) (T : (Nat → Int32) × Int32) (P : Int32 × Int32 × (Nat → Int32) × Int32 × Int32) (h : Int64) (hK : KOk K) (kind price : Int32) : CtE l g M_X3_setPrice [.ref (a 0), .int kind, .int price] (mw g a K.1 K.2.1 K.2.2 B T P h) (some (.int (p_setPrice K kind price).1)) (mw g a (p_setPrice K kind price).2.1 (p_setPrice K kind price).2.2.1 (p_setPrice K kind price).2.2.2 B T P h) := by
  refine Ct.start2 (M := M_X3_setPrice) rfl [(0, .ref (a 0)), (1, .int kind), (2, .int price)] rfl (by decide +kernel) (Nat.le_of_ble_eq_true rfl) ?_
  intro p e s m args below meth c A C
  obtain ⟨⟨hnb, hb8⟩, ⟨hnl, hl3⟩, ⟨hnc, hc6⟩, hsv, hs5⟩ := id hK
  refine v_iload_n C dX3_setPrice_0 1 rfl ?_
  refine v_callSp C (m_isClass l g _) ok_X3_isClass rfl q1273 rfl (Nat.le_of_ble_eq_true rfl) dX3_setPrice_1 (roomL rfl rfl) ⟨rfl, rfl⟩ ?_
  refine v_if_neB C 10 dX3_setPrice_4 (by decide) (fun c4_1 => ?_) (fun c4_1 => ?_)
  · skip
    obtain ⟨eb, hb⟩ := in_c (n := 3) rfl (by decide) c4_1
    refine v_iload_n C dX3_setPrice_10 2 rfl ?_
    refine v_iconst (v := 1) C dX3_setPrice_11 (by decide) ?_
    refine v_sipush (v := 1000) C dX3_setPrice_12 (by decide) ?_
    refine v_callSp C (m_in l g _ _ _) ok_X3_in rfl q1218 rfl (Nat.le_of_ble_eq_true rfl) dX3_setPrice_15 (roomL rfl rfl) ⟨rfl, rfl⟩ ?_
    refine v_if_neB C 24 dX3_setPrice_18 (by decide) (fun c18_2 => ?_) (fun c18_2 => ?_)
    · skip
      refine v_aload_n C dX3_setPrice_24 0 rfl ?_
      refine v_callVv C (m_saves l g a _ _ _ _ _ hK.2.2.2.1 hK.2.2.2.2) ok_X3_saves rfl q1221 rfl (Nat.le_of_ble_eq_true rfl) 0 rfl rfl rfl dX3_setPrice_25 (roomL rfl rfl) ⟨rfl, rfl⟩ ?_
      refine v_aload_n C dX3_setPrice_28 0 rfl ?_
      refine v_get C in_X3 rfl 0 rfl 0 (by decide) q1166 (fun _ h => h) rfl dX3_setPrice_29 ?_
      refine v_bipush (v := 6) C dX3_setPrice_32 (by decide) ?_
      refine v_iload_n C dX3_setPrice_34 1 rfl ?_
      refine v_eqi eb ?_
      refine v_iadd C dX3_setPrice_35 ?_
      refine v_eqi (nI_add 6 (kind.toNatClampNeg)) ?_
      refine v_iald C dX3_setPrice_36 1 rfl (ixn (by omega) (by decide)) ?_
      refine v_istore_n (lv' := [(3, _), (0, _), (1, _), (2, _)]) C dX3_setPrice_37 rfl (by decide) rfl ?_
      refine v_aload_n C dX3_setPrice_38 1 rfl ?_
      refine v_get C in_X3 rfl 0 rfl 0 (by decide) q1166 (fun _ h => h) rfl dX3_setPrice_39 ?_
      refine v_bipush (v := 6) C dX3_setPrice_42 (by decide) ?_
      refine v_iload_n C dX3_setPrice_44 2 rfl ?_
      refine v_eqi eb ?_
      refine v_iadd C dX3_setPrice_45 ?_
      refine v_eqi (nI_add 6 (kind.toNatClampNeg)) ?_
      refine v_iload_n C dX3_setPrice_46 3 rfl ?_
      refine v_iast (ws' := mw g a _ _ _ _ _ _ _) C dX3_setPrice_47 1 rfl (ixn (by omega) (by decide)) rfl ?_
      refine v_iload_n C dX3_setPrice_48 0 rfl ?_
      exact v_iret C dX3_setPrice_49 (Nat.le_of_ble_eq_true rfl) (Nat.le_of_ble_eq_true rfl) (by unfold p_setPrice; (try dsimp only); rw [if_pos c4_1, if_pos c18_2]; exact ⟨rfl, rfl⟩)
    · skip
      refine v_bipush (v := -3) C dX3_setPrice_21 (by decide) ?_
      exact v_iret C dX3_setPrice_23 (Nat.le_of_ble_eq_true rfl) (Nat.le_of_ble_eq_true rfl) (by unfold p_setPrice; (try dsimp only); rw [if_pos c4_1, if_neg c18_2]; exact ⟨rfl, rfl⟩)
  · skip
    refine v_bipush (v := -2) C dX3_setPrice_7 (by decide) ?_
    exact v_iret C dX3_setPrice_9 (Nat.le_of_ble_eq_true rfl) (Nat.le_of_ble_eq_true rfl) (by unfold p_setPrice; (try dsimp only); rw [if_neg c4_1]; exact ⟨rfl, rfl⟩)
def M_X3_setDustLimit : Md := (yX3_setDustLimit, cX3_setDustLimit, 3, (some .int), 3, 84, 0, 0)
theorem ok_X3_setDustLimit : MOKv M_X3_setDustLimit 1 := ⟨q1277, q1278, q103, q1279, ⟨by decide +kernel, by decide +kernel, by decide +kernel⟩⟩
set_option maxHeartbeats 4000000 in
theorem m_setDustLimit (l : Launch) (g : GT) (a : Nat → Nat) (K : KT) (B : (Nat → Int32) × Int32 × (Nat → Int32)) (T : (Nat → Int32) × Int32) (P : Int32 × Int32 × (Nat → Int32) × Int32 × Int32) (h : Int64) (hK : KOk K) (limit : Int32) : CtE l g M_X3_setDustLimit [.ref (a 0), .int limit] (mw g a K.1 K.2.1 K.2.2 B T P h) (some (.int (p_setDustLimit K limit).1)) (mw g a (p_setDustLimit K limit).2.1 (p_setDustLimit K limit).2.2.1 (p_setDustLimit K limit).2.2.2 B T P h) := by
  refine Ct.start2 (M := M_X3_setDustLimit) rfl [(0, .ref (a 0)), (1, .int limit)] rfl (by decide +kernel) (Nat.le_of_ble_eq_true rfl) ?_
  intro p e s m args below meth c A C
  obtain ⟨⟨hnb, hb8⟩, ⟨hnl, hl3⟩, ⟨hnc, hc6⟩, hsv, hs5⟩ := id hK
  refine v_iload_n C dX3_setDustLimit_0 1 rfl ?_
  refine v_bipush (v := 100) C dX3_setDustLimit_1 (by decide) ?_
  refine v_sipush (v := 10000) C dX3_setDustLimit_3 (by decide) ?_
  refine v_callSp C (m_in l g _ _ _) ok_X3_in rfl q1218 rfl (Nat.le_of_ble_eq_true rfl) dX3_setDustLimit_6 (roomL rfl rfl) ⟨rfl, rfl⟩ ?_
  refine v_if_neB C 15 dX3_setDustLimit_9 (by decide) (fun c9_1 => ?_) (fun c9_1 => ?_)
  · skip
    refine v_aload_n C dX3_setDustLimit_15 0 rfl ?_
    refine v_callVv C (m_saves l g a _ _ _ _ _ hK.2.2.2.1 hK.2.2.2.2) ok_X3_saves rfl q1221 rfl (Nat.le_of_ble_eq_true rfl) 0 rfl rfl rfl dX3_setDustLimit_16 (roomL rfl rfl) ⟨rfl, rfl⟩ ?_
    refine v_aload_n C dX3_setDustLimit_19 0 rfl ?_
    refine v_get C in_X3 rfl 0 rfl 0 (by decide) q1166 (fun _ h => h) rfl dX3_setDustLimit_20 ?_
    refine v_iconst (v := 1) C dX3_setDustLimit_23 (by decide) ?_
    refine v_iald C dX3_setDustLimit_24 1 rfl (j := 1) (ixl rfl) ?_
    refine v_istore_n (lv' := [(2, _), (0, _), (1, _)]) C dX3_setDustLimit_25 rfl (by decide) rfl ?_
    refine v_aload_n C dX3_setDustLimit_26 1 rfl ?_
    refine v_get C in_X3 rfl 0 rfl 0 (by decide) q1166 (fun _ h => h) rfl dX3_setDustLimit_27 ?_
    refine v_iconst (v := 1) C dX3_setDustLimit_30 (by decide) ?_
    refine v_iload_n C dX3_setDustLimit_31 2 rfl ?_
    refine v_iast (ws' := mw g a _ _ _ _ _ _ _) C dX3_setDustLimit_32 1 rfl (j := 1) (ixl rfl) rfl ?_
    refine v_iload_n C dX3_setDustLimit_33 0 rfl ?_
    exact v_iret C dX3_setDustLimit_34 (Nat.le_of_ble_eq_true rfl) (Nat.le_of_ble_eq_true rfl) (by unfold p_setDustLimit; (try dsimp only); rw [if_pos c9_1]; exact ⟨rfl, rfl⟩)
  · skip
    refine v_bipush (v := -3) C dX3_setDustLimit_12 (by decide) ?_
    exact v_iret C dX3_setDustLimit_14 (Nat.le_of_ble_eq_true rfl) (Nat.le_of_ble_eq_true rfl) (by unfold p_setDustLimit; (try dsimp only); rw [if_neg c9_1]; exact ⟨rfl, rfl⟩)
