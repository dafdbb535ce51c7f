/-! the reference: contracts, blends -/
set_option maxRecDepth 100000
def M_X3_addContract : Md := (yX3_addContract, cX3_addContract, 6, (some .int), 3, 84, 0, 0)
theorem ok_X3_addContract : MOKv M_X3_addContract 4 := ⟨q1440, q1441, q103, q1442, ⟨by decide +kernel, by decide +kernel, by decide +kernel⟩⟩
set_option maxHeartbeats 4000000 in
theorem m_addContract (l : Launch) (g : GT) (a : Nat → Nat) (K : KT) (B : (Nat → Int32) × Int32 × (Nat → Int32)) (T : (Nat → Int32) × Int32) (P : Int32 × Int32 × (Nat → Int32) × Int32 × Int32) (h : Int64) (hK : KOk K) (kind amt most price : Int32) : CtE l g M_X3_addContract [.ref (a 0), .int kind, .int amt, .int most, .int price] (mw g a K.1 K.2.1 K.2.2 B T P h) (some (.int (p_addContract K kind amt most price).1)) (mw g a (p_addContract K kind amt most price).2.1 (p_addContract K kind amt most price).2.2.1 (p_addContract K kind amt most price).2.2.2 B T P h) := by
  refine Ct.start2 (M := M_X3_addContract) rfl [(0, .ref (a 0)), (1, .int kind), (2, .int amt), (3, .int most), (4, .int price)] rfl (by decide +kernel) (Nat.le_of_ble_eq_true rfl) ?_
  intro p e s m args below meth c A C
  obtain ⟨⟨hnb, hb8⟩, ⟨hnl, hl3⟩, ⟨hnc, hc6⟩, hsv, hs5⟩ := id hK
  refine v_iload_n C dX3_addContract_0 1 rfl ?_
  refine v_callSp C (m_isClass l g _) ok_X3_isClass rfl q1273 rfl (Nat.le_of_ble_eq_true rfl) dX3_addContract_1 (roomL rfl rfl) ⟨rfl, rfl⟩ ?_
  refine v_if_neB C 10 dX3_addContract_4 (by decide) (fun c4_1 => ?_) (fun c4_1 => ?_)
  · skip
    refine v_iload_n C dX3_addContract_10 2 rfl ?_
    refine v_iconst (v := 1) C dX3_addContract_11 (by decide) ?_
    refine v_sipush (v := 20000) C dX3_addContract_12 (by decide) ?_
    refine v_callSp C (m_in l g _ _ _) ok_X3_in rfl q1218 rfl (Nat.le_of_ble_eq_true rfl) dX3_addContract_15 (roomL rfl rfl) ⟨rfl, rfl⟩ ?_
    refine v_if_eqB C 45 dX3_addContract_18 (by decide) (fun c18_2 => ?_) (fun c18_2 => ?_)
    · skip
      refine v_bipush (v := -3) C dX3_addContract_45 (by decide) ?_
      exact v_iret C dX3_addContract_47 (Nat.le_of_ble_eq_true rfl) (Nat.le_of_ble_eq_true rfl) (by unfold p_addContract; (try dsimp only); rw [if_pos c4_1, if_neg c18_2]; exact ⟨rfl, rfl⟩)
    · skip
      refine v_iload_n C dX3_addContract_21 3 rfl ?_
      refine v_bipush (v := 50) C dX3_addContract_22 (by decide) ?_
      refine v_sipush (v := 400) C dX3_addContract_24 (by decide) ?_
      refine v_callSp C (m_in l g _ _ _) ok_X3_in rfl q1218 rfl (Nat.le_of_ble_eq_true rfl) dX3_addContract_27 (roomL rfl rfl) ⟨rfl, rfl⟩ ?_
      refine v_if_eqB C 45 dX3_addContract_30 (by decide) (fun c30_3 => ?_) (fun c30_3 => ?_)
      · skip
        refine v_bipush (v := -3) C dX3_addContract_45 (by decide) ?_
        exact v_iret C dX3_addContract_47 (Nat.le_of_ble_eq_true rfl) (Nat.le_of_ble_eq_true rfl) (by unfold p_addContract; (try dsimp only); rw [if_pos c4_1, if_pos c18_2, if_neg c30_3]; exact ⟨rfl, rfl⟩)
      · skip
        refine v_iload C dX3_addContract_33 4 rfl ?_
        refine v_iconst (v := 1) C dX3_addContract_35 (by decide) ?_
        refine v_sipush (v := 2000) C dX3_addContract_36 (by decide) ?_
        refine v_callSp C (m_in l g _ _ _) ok_X3_in rfl q1218 rfl (Nat.le_of_ble_eq_true rfl) dX3_addContract_39 (roomL rfl rfl) ⟨rfl, rfl⟩ ?_
        refine v_if_neB C 48 dX3_addContract_42 (by decide) (fun c42_4 => ?_) (fun c42_4 => ?_)
        · skip
          refine v_aload_n C dX3_addContract_48 0 rfl ?_
          refine v_get C in_X3 rfl 0 rfl 0 (by decide) q1166 (fun _ h => h) rfl dX3_addContract_49 ?_
          refine v_iconst (v := 4) C dX3_addContract_52 (by decide) ?_
          refine v_iald C dX3_addContract_53 1 rfl (j := 4) (ixl rfl) ?_
          refine v_bipush (v := 6) C dX3_addContract_54 (by decide) ?_
          refine v_icmp_ne C 62 dX3_addContract_56 (by decide) (fun c56_5 => ?_) (fun c56_5 => ?_)
          · skip
            refine v_aload_n C dX3_addContract_62 0 rfl ?_
            refine v_callVv C (m_saves l g a _ _ _ _ _ hK.2.2.2.1 hK.2.2.2.2) ok_X3_saves rfl q1221 rfl (Nat.le_of_ble_eq_true rfl) 0 rfl rfl rfl dX3_addContract_63 (roomL rfl rfl) ⟨rfl, rfl⟩ ?_
            refine v_bipush (v := 94) C dX3_addContract_66 (by decide) ?_
            refine v_bipush (v := 6) C dX3_addContract_68 (by decide) ?_
            refine v_aload_n C dX3_addContract_70 0 rfl ?_
            refine v_get C in_X3 rfl 0 rfl 0 (by decide) q1166 (fun _ h => h) rfl dX3_addContract_71 ?_
            refine v_iconst (v := 4) C dX3_addContract_74 (by decide) ?_
            refine v_iald C dX3_addContract_75 1 rfl (j := 4) (ixl rfl) ?_
            refine v_eqi (svK_4 hK) ?_
            refine v_imul C dX3_addContract_76 ?_
            refine v_eqi (pk_mul 6 (ncK K)) ?_
            refine v_iadd C dX3_addContract_77 ?_
            refine v_eqi (nI_add 94 (6 * (ncK K))) ?_
            refine v_istore (lv' := [(5, _), (0, _), (1, _), (2, _), (3, _), (4, _)]) C dX3_addContract_78 (by decide) rfl ?_
            refine v_aload_n C dX3_addContract_80 1 rfl ?_
            refine v_get C in_X3 rfl 0 rfl 0 (by decide) q1166 (fun _ h => h) rfl dX3_addContract_81 ?_
            refine v_iload C dX3_addContract_84 0 rfl ?_
            refine v_iload_n C dX3_addContract_86 2 rfl ?_
            refine v_iast (ws' := mw g a _ _ _ _ _ _ _) C dX3_addContract_87 1 rfl (ixn (by omega) (by decide)) rfl ?_
            refine v_aload_n C dX3_addContract_88 1 rfl ?_
            refine v_get C in_X3 rfl 0 rfl 0 (by decide) q1166 (fun _ h => h) rfl dX3_addContract_89 ?_
            refine v_iload C dX3_addContract_92 0 rfl ?_
            refine v_iconst (v := 1) C dX3_addContract_94 (by decide) ?_
            refine v_iadd C dX3_addContract_95 ?_
            refine v_eqi (nI_add (94 + (6 * (ncK K))) 1) ?_
            refine v_iload_n C dX3_addContract_96 3 rfl ?_
            refine v_iast (ws' := mw g a _ _ _ _ _ _ _) C dX3_addContract_97 1 rfl (ixn (by omega) (by decide)) rfl ?_
            refine v_aload_n C dX3_addContract_98 1 rfl ?_
            refine v_get C in_X3 rfl 0 rfl 0 (by decide) q1166 (fun _ h => h) rfl dX3_addContract_99 ?_
            refine v_iload C dX3_addContract_102 0 rfl ?_
            refine v_iconst (v := 2) C dX3_addContract_104 (by decide) ?_
            refine v_iadd C dX3_addContract_105 ?_
            refine v_eqi (nI_add (94 + (6 * (ncK K))) 2) ?_
            refine v_iload_n C dX3_addContract_106 4 rfl ?_
            refine v_iast (ws' := mw g a _ _ _ _ _ _ _) C dX3_addContract_107 1 rfl (ixn (by omega) (by decide)) rfl ?_
            refine v_aload_n C dX3_addContract_108 1 rfl ?_
            refine v_get C in_X3 rfl 0 rfl 0 (by decide) q1166 (fun _ h => h) rfl dX3_addContract_109 ?_
            refine v_iload C dX3_addContract_112 0 rfl ?_
            refine v_iconst (v := 3) C dX3_addContract_114 (by decide) ?_
            refine v_iadd C dX3_addContract_115 ?_
            refine v_eqi (nI_add (94 + (6 * (ncK K))) 3) ?_
            refine v_iload C dX3_addContract_116 5 rfl ?_
            refine v_iast (ws' := mw g a _ _ _ _ _ _ _) C dX3_addContract_118 1 rfl (ixn (by omega) (by decide)) rfl ?_
            refine v_aload_n C dX3_addContract_119 1 rfl ?_
            refine v_get C in_X3 rfl 0 rfl 0 (by decide) q1166 (fun _ h => h) rfl dX3_addContract_120 ?_
            refine v_iload C dX3_addContract_123 0 rfl ?_
            refine v_iconst (v := 4) C dX3_addContract_125 (by decide) ?_
            refine v_iadd C dX3_addContract_126 ?_
            refine v_eqi (nI_add (94 + (6 * (ncK K))) 4) ?_
            refine v_iconst (v := 1) C dX3_addContract_127 (by decide) ?_
            refine v_iast (ws' := mw g a _ _ _ _ _ _ _) C dX3_addContract_128 1 rfl (ixn (by omega) (by decide)) rfl ?_
            refine v_aload_n C dX3_addContract_129 1 rfl ?_
            refine v_get C in_X3 rfl 0 rfl 0 (by decide) q1166 (fun _ h => h) rfl dX3_addContract_130 ?_
            refine v_iload C dX3_addContract_133 0 rfl ?_
            refine v_iconst (v := 5) C dX3_addContract_135 (by decide) ?_
            refine v_iadd C dX3_addContract_136 ?_
            refine v_eqi (nI_add (94 + (6 * (ncK K))) 5) ?_
            refine v_iconst (v := -1) C dX3_addContract_137 (by decide) ?_
            refine v_iast (ws' := mw g a _ _ _ _ _ _ _) C dX3_addContract_138 1 rfl (ixn (by omega) (by decide)) rfl ?_
            refine v_aload_n C dX3_addContract_139 1 rfl ?_
            refine v_get C in_X3 rfl 0 rfl 0 (by decide) q1166 (fun _ h => h) rfl dX3_addContract_140 ?_
            refine v_iconst (v := 4) C dX3_addContract_143 (by decide) ?_
            refine v_dup2_11 C dX3_addContract_144 rfl rfl ?_
            refine v_iald C dX3_addContract_145 1 rfl (j := 4) (ixl rfl) ?_
            refine v_iconst (v := 1) C dX3_addContract_146 (by decide) ?_
            refine v_iadd C dX3_addContract_147 ?_
            refine v_iast (ws' := mw g a _ _ _ _ _ _ _) C dX3_addContract_148 1 rfl (j := 4) (ixl rfl) rfl ?_
            refine v_aload_n C dX3_addContract_149 1 rfl ?_
            refine v_get C in_X3 rfl 0 rfl 0 (by decide) q1166 (fun _ h => h) rfl dX3_addContract_150 ?_
            refine v_iconst (v := 4) C dX3_addContract_153 (by decide) ?_
            refine v_iald C dX3_addContract_154 1 rfl (j := 4) (ixl rfl) ?_
            refine v_iconst (v := 1) C dX3_addContract_155 (by decide) ?_
            refine v_isub C dX3_addContract_156 ?_
            exact v_iret C dX3_addContract_157 (Nat.le_of_ble_eq_true rfl) (Nat.le_of_ble_eq_true rfl) (by unfold p_addContract; (try dsimp only); rw [if_pos c4_1, if_pos c18_2, if_pos c30_3, if_pos c42_4, if_neg c56_5]; exact ⟨rfl, rfl⟩)
          · skip
            refine v_bipush (v := -5) C dX3_addContract_59 (by decide) ?_
            exact v_iret C dX3_addContract_61 (Nat.le_of_ble_eq_true rfl) (Nat.le_of_ble_eq_true rfl) (by unfold p_addContract; (try dsimp only); rw [if_pos c4_1, if_pos c18_2, if_pos c30_3, if_pos c42_4, if_pos c56_5]; exact ⟨rfl, rfl⟩)
        · skip
          refine v_bipush (v := -3) C dX3_addContract_45 (by decide) ?_
          exact v_iret C dX3_addContract_47 (Nat.le_of_ble_eq_true rfl) (Nat.le_of_ble_eq_true rfl) (by unfold p_addContract; (try dsimp only); rw [if_pos c4_1, if_pos c18_2, if_pos c30_3, if_neg c42_4]; exact ⟨rfl, rfl⟩)
  · skip
    refine v_bipush (v := -2) C dX3_addContract_7 (by decide) ?_
    exact v_iret C dX3_addContract_9 (Nat.le_of_ble_eq_true rfl) (Nat.le_of_ble_eq_true rfl) (by unfold p_addContract; (try dsimp only); rw [if_neg c4_1]; exact ⟨rfl, rfl⟩)
def M_X3_contract : Md := (yX3_contract, cX3_contract, 3, (some .int), 3, 83, 0, 0)
theorem ok_X3_contract : MOKv M_X3_contract 2 := ⟨q1444, q1445, q103, q1446, ⟨by decide +kernel, by decide +kernel, by decide +kernel⟩⟩
set_option maxHeartbeats 4000000 in
theorem m_contract (l : Launch) (g : GT) (a : Nat → Nat) (row : Nat → Int32) (books : Nat → Int64) (S : Int32 × (Nat → Int32)) (B : (Nat → Int32) × Int32 × (Nat → Int32)) (T : (Nat → Int32) × Int32) (P : Int32 × Int32 × (Nat → Int32) × Int32 × Int32) (h : Int64) (nc : Nat) (hnc : row 4 = nI nc) (hc6 : nc ≤ 6) (con what : Int32) : CtE l g M_X3_contract [.ref (a 0), .int con, .int what] (mw g a row books S B T P h) (some (.int (p_contract row con what))) (mw g a row books S B T P h) := by
  refine Ct.start2 (M := M_X3_contract) rfl [(0, .ref (a 0)), (1, .int con), (2, .int what)] rfl (by decide +kernel) (Nat.le_of_ble_eq_true rfl) ?_
  intro p e s m args below meth c A C
  refine v_aload_n C dX3_contract_0 0 rfl ?_
  refine v_iload_n C dX3_contract_1 1 rfl ?_
  refine v_callVw C (m_isContract l g a _ _ _ _ _ _ _ _) ok_X3_isContract rfl q1447 rfl (Nat.le_of_ble_eq_true rfl) 0 rfl rfl rfl dX3_contract_2 (roomL rfl rfl) ⟨rfl, rfl⟩ ?_
  refine v_if_neB C 11 dX3_contract_5 (by decide) (fun c5_1 => ?_) (fun c5_1 => ?_)
  · skip
    obtain ⟨ec, hc⟩ := isB_c hnc (by omega) c5_1
    refine v_iload_n C dX3_contract_11 2 rfl ?_
    refine v_iconst (v := 0) C dX3_contract_12 (by decide) ?_
    refine v_iconst (v := 5) C dX3_contract_13 (by decide) ?_
    refine v_callSp C (m_in l g _ _ _) ok_X3_in rfl q1218 rfl (Nat.le_of_ble_eq_true rfl) dX3_contract_14 (roomL rfl rfl) ⟨rfl, rfl⟩ ?_
    refine v_if_eqB C 29 dX3_contract_17 (by decide) (fun c17_2 => ?_) (fun c17_2 => ?_)
    · skip
      refine v_bipush (v := -3) C dX3_contract_29 (by decide) ?_
      exact v_iret C dX3_contract_31 (Nat.le_of_ble_eq_true rfl) (Nat.le_of_ble_eq_true rfl) (by unfold p_contract; (try dsimp only); rw [if_pos c5_1, if_neg c17_2]; exact ⟨rfl, rfl⟩)
    · skip
      obtain ⟨ew, hw⟩ := in_c (n := 5) rfl (by decide) c17_2
      refine v_aload_n C dX3_contract_20 0 rfl ?_
      refine v_iload_n C dX3_contract_21 1 rfl ?_
      refine v_eqi ec ?_
      refine v_iload_n C dX3_contract_22 2 rfl ?_
      refine v_eqi ew ?_
      refine v_callVw C (m_ofContract l g a _ _ _ _ _ _ _ (con.toNatClampNeg) (what.toNatClampNeg) _ _ rfl rfl (by omega)) ok_X3_ofContract rfl q1288 rfl (Nat.le_of_ble_eq_true rfl) 0 rfl rfl rfl dX3_contract_23 (roomL rfl rfl) ⟨rfl, rfl⟩ ?_
      refine v_goto C 31 dX3_contract_26 (by decide) ?_
      exact v_iret C dX3_contract_31 (Nat.le_of_ble_eq_true rfl) (Nat.le_of_ble_eq_true rfl) (by unfold p_contract; (try dsimp only); rw [if_pos c5_1, if_pos c17_2]; exact ⟨rfl, rfl⟩)
  · skip
    refine v_bipush (v := -2) C dX3_contract_8 (by decide) ?_
    exact v_iret C dX3_contract_10 (Nat.le_of_ble_eq_true rfl) (Nat.le_of_ble_eq_true rfl) (by unfold p_contract; (try dsimp only); rw [if_neg c5_1]; exact ⟨rfl, rfl⟩)
def M_X3_isDamper : Md := (yX3_isDamper, cX3_isDamper, 3, (some .boolean), 3, 83, 0, 0)
theorem ok_X3_isDamper : MOKv M_X3_isDamper 2 := ⟨q1465, qs79, q103, q1466, ⟨by decide +kernel, by decide +kernel, by decide +kernel⟩⟩
set_option maxHeartbeats 4000000 in
theorem m_isDamper (l : Launch) (g : GT) (a : Nat → Nat) (row : Nat → Int32) (books : Nat → Int64) (S : Int32 × (Nat → Int32)) (B : (Nat → Int32) × Int32 × (Nat → Int32)) (T : (Nat → Int32) × Int32) (P : Int32 × Int32 × (Nat → Int32) × Int32 × Int32) (h : Int64) (b o : Nat) (bi oi : Int32) (eb : bi = nI b) (eo : oi = nI o) (hb : b < 100) (ho : o < 100) : CtE l g M_X3_isDamper [.ref (a 0), .int bi, .int oi] (mw g a row books S B T P h) (some (.int (bI (q_damp row b o)))) (mw g a row books S B T P h) := by
  refine Ct.start2 (M := M_X3_isDamper) rfl [(0, .ref (a 0)), (1, .int bi), (2, .int oi)] rfl (by decide +kernel) (Nat.le_of_ble_eq_true rfl) ?_
  intro p e s m args below meth c A C
  subst eb; subst eo
  refine v_aload_n C dX3_isDamper_0 0 rfl ?_
  refine v_iload_n C dX3_isDamper_1 1 rfl ?_
  refine v_callVw C (m_moisture l g a _ _ _ _ _ _ _ b _ rfl (by omega)) ok_X3_moisture rfl q1300 rfl (Nat.le_of_ble_eq_true rfl) 0 rfl rfl rfl dX3_isDamper_2 (roomL rfl rfl) ⟨rfl, rfl⟩ ?_
  refine v_aload_n C dX3_isDamper_5 0 rfl ?_
  refine v_iload_n C dX3_isDamper_6 2 rfl ?_
  refine v_callVw C (m_moisture l g a _ _ _ _ _ _ _ o _ rfl (by omega)) ok_X3_moisture rfl q1300 rfl (Nat.le_of_ble_eq_true rfl) 0 rfl rfl rfl dX3_isDamper_7 (roomL rfl rfl) ⟨rfl, rfl⟩ ?_
  refine v_icmp_gt C 31 dX3_isDamper_10 (by decide) (fun c10_1 => ?_) (fun c10_1 => ?_)
  · skip
    refine v_iconst (v := 1) C dX3_isDamper_31 (by decide) ?_
    refine v_goto C 36 dX3_isDamper_32 (by decide) ?_
    exact v_zret C rfl dX3_isDamper_36 (Nat.le_of_ble_eq_true rfl) (Nat.le_of_ble_eq_true rfl) ⟨si (bI_t (Or.inl c10_1)).symm, rfl⟩
  · skip
    refine v_aload_n C dX3_isDamper_13 0 rfl ?_
    refine v_iload_n C dX3_isDamper_14 1 rfl ?_
    refine v_callVw C (m_moisture l g a _ _ _ _ _ _ _ b _ rfl (by omega)) ok_X3_moisture rfl q1300 rfl (Nat.le_of_ble_eq_true rfl) 0 rfl rfl rfl dX3_isDamper_15 (roomL rfl rfl) ⟨rfl, rfl⟩ ?_
    refine v_aload_n C dX3_isDamper_18 0 rfl ?_
    refine v_iload_n C dX3_isDamper_19 2 rfl ?_
    refine v_callVw C (m_moisture l g a _ _ _ _ _ _ _ o _ rfl (by omega)) ok_X3_moisture rfl q1300 rfl (Nat.le_of_ble_eq_true rfl) 0 rfl rfl rfl dX3_isDamper_20 (roomL rfl rfl) ⟨rfl, rfl⟩ ?_
    refine v_icmp_ne C 35 dX3_isDamper_23 (by decide) (fun c23_2 => ?_) (fun c23_2 => ?_)
    · skip
      refine v_iconst (v := 0) C dX3_isDamper_35 (by decide) ?_
      exact v_zret C rfl dX3_isDamper_36 (Nat.le_of_ble_eq_true rfl) (Nat.le_of_ble_eq_true rfl) ⟨si (bI_f (fun q => q.elim c10_1 (fun z => c23_2 z.1))).symm, rfl⟩
    · skip
      refine v_iload_n C dX3_isDamper_26 1 rfl ?_
      refine v_iload_n C dX3_isDamper_27 2 rfl ?_
      refine v_icmp_ge C 35 dX3_isDamper_28 (by decide) (fun c28_3 => ?_) (fun c28_3 => ?_)
      · skip
        refine v_iconst (v := 0) C dX3_isDamper_35 (by decide) ?_
        exact v_zret C rfl dX3_isDamper_36 (Nat.le_of_ble_eq_true rfl) (Nat.le_of_ble_eq_true rfl) ⟨si (bI_f (fun q => q.elim c10_1 (fun z => z.2 c28_3))).symm, rfl⟩
      · skip
        refine v_iconst (v := 1) C dX3_isDamper_31 (by decide) ?_
        refine v_goto C 36 dX3_isDamper_32 (by decide) ?_
        exact v_zret C rfl dX3_isDamper_36 (Nat.le_of_ble_eq_true rfl) (Nat.le_of_ble_eq_true rfl) ⟨si (bI_t (Or.inr ⟨c23_2, c28_3⟩)).symm, rfl⟩
def M_X3_finds : Md := (yX3_finds, cX3_finds, 6, (some .int), 4, 105, 0, 0)
theorem ok_X3_finds : MOKv M_X3_finds 2 := ⟨q1461, qs78, q103, q1462, ⟨by decide +kernel, by decide +kernel, by decide +kernel⟩⟩
set_option maxHeartbeats 4000000 in
theorem m_finds (l : Launch) (g : GT) (a : Nat → Nat) (row : Nat → Int32) (books : Nat → Int64) (S : Int32 × (Nat → Int32)) (B : (Nat → Int32) × Int32 × (Nat → Int32)) (T : (Nat → Int32) × Int32) (P : Int32 × Int32 × (Nat → Int32) × Int32 × Int32) (h : Int64) (nb : Nat) (hnb : row 2 = nI nb) (hb8 : nb ≤ 8) (cn lg : Nat) (ci li : Int32) (ec : ci = nI cn) (el : li = nI lg) (hc : cn < 6) (hl : lg < 3) : Ct l g M_X3_finds [.ref (a 0), .int ci, .int li] (mw g a row books S B T P h) (fun rv w => rv = some (.int (allU row cn lg nb)) ∧ ∃ f, w = mw g a row books S (f, nI (cnN row nb cn lg), B.2.2) T P h ∧ ordOk f (ogN row nb cn lg) (cnN row nb cn lg)) := by
  refine Ct.start2 (M := M_X3_finds) rfl [(0, .ref (a 0)), (1, .int ci), (2, .int li)] rfl (by decide +kernel) (Nat.le_of_ble_eq_true rfl) ?_
  intro p e s m args below meth c A C
  subst ec; subst el
  refine v_aload_n C dX3_finds_0 0 rfl ?_
  refine v_iconst (v := 0) C dX3_finds_1 (by decide) ?_
  refine v_put (ws' := mw g a _ _ _ (_, _, _) _ _ _) C in_X3 tyX3 tyX3_ok nmX3 rfl 0 rfl 5 (by decide) q1171 (fun _ h => h) rfl rfl rfl (Nat.le_of_ble_eq_true rfl) dX3_finds_2 rfl ?_
  refine v_iconst (v := 0) C dX3_finds_5 (by decide) ?_
  refine v_istore_n (lv' := [(3, _), (0, _), (1, _), (2, _)]) C dX3_finds_6 rfl (by decide) rfl ?_
  refine v_iconst (v := 0) C dX3_finds_7 (by decide) ?_
  refine v_istore (lv' := [(4, _), (3, _), (0, _), (1, _), (2, _)]) C dX3_finds_8 (by decide) rfl ?_
  refine v_while (α := Nat × (Nat → Int32)) (fun x => nb - x.1) (fun x => x.1 ≤ nb ∧ ordOk x.2 (ogC row cn lg x.1).1 (ogC row cn lg x.1).2) (fun x => [(4, .int (nI x.1)), (3, .int (allU row cn lg x.1)), (0, .ref (a 0)), (1, .int (nI cn)), (2, .int (nI lg))]) (fun x => mw g a row books S (x.2, nI (ogC row cn lg x.1).2, B.2.2) T P h) (0, B.1) rfl rfl ⟨Nat.zero_le _, fun j hj => absurd hj (Nat.not_lt_zero j)⟩ ?_
  rintro ⟨k, f⟩ ⟨hk, hf⟩ ih
  dsimp only at hk hf ih ⊢
  obtain ⟨hcn, hog⟩ := ogC_ok row cn lg k
  refine v_iload C dX3_finds_10 0 rfl ?_
  refine v_aload_n C dX3_finds_12 2 rfl ?_
  refine v_get C in_X3 rfl 0 rfl 0 (by decide) q1166 (fun _ h => h) rfl dX3_finds_13 ?_
  refine v_iconst (v := 2) C dX3_finds_16 (by decide) ?_
  refine v_iald C dX3_finds_17 1 rfl (j := 2) (ixl rfl) ?_
  refine v_eqi hnb ?_
  refine v_icmp_ge C 152 dX3_finds_18 (by decide) (fun c18_1 => ?_) (fun c18_1 => ?_)
  · skip
    have hkn := (nI_leI (by omega) (by omega)).mp c18_1
    refine v_iload_n C dX3_finds_152 1 rfl ?_
    exact v_iret C dX3_finds_153 (Nat.le_of_ble_eq_true rfl) (Nat.le_of_ble_eq_true rfl) ⟨by rw [show k = nb by omega], f, by rw [show k = nb by omega], by rw [show k = nb by omega] at hf; exact hf⟩
  · skip
    have hkn : k < nb := Nat.lt_of_le_of_ne hk (fun q => c18_1 (by rw [q]; exact Int32.le_refl _))
    refine v_aload_n C dX3_finds_21 2 rfl ?_
    refine v_iload C dX3_finds_22 0 rfl ?_
    refine v_iconst (v := 3) C dX3_finds_24 (by decide) ?_
    refine v_callVw C (m_of l g a _ _ _ _ _ _ _ k 3 _ _ rfl rfl (by omega)) ok_X3_of rfl q1241 rfl (Nat.le_of_ble_eq_true rfl) 0 rfl rfl rfl dX3_finds_25 (roomL rfl rfl) ⟨rfl, rfl⟩ ?_
    refine v_if_le C 146 dX3_finds_28 (by decide) (fun c28_2 => ?_) (fun c28_2 => ?_)
    · skip
      refine v_iinc (lv' := [(4, _), (3, _), (0, _), (1, _), (2, _)]) C dX3_finds_146 0 rfl (nI_1 k) (by decide) rfl ?_
      refine v_goto C 10 dX3_finds_149 (by decide) ?_
      have hsel : ¬ q_sel row cn lg k := fun q => q.1 c28_2
      have e1 := ih (k + 1, f) ⟨by dsimp only; omega, by dsimp only; rw [ogC, if_neg hsel]; exact hf⟩ (by dsimp only; omega)
      dsimp only at e1
      rw [ogC, if_neg hsel, allU, if_neg hsel] at e1
      exact e1
    · skip
      refine v_aload_n C dX3_finds_31 2 rfl ?_
      refine v_iload C dX3_finds_32 0 rfl ?_
      refine v_iconst (v := 5) C dX3_finds_34 (by decide) ?_
      refine v_callVw C (m_of l g a _ _ _ _ _ _ _ k 5 _ _ rfl rfl (by omega)) ok_X3_of rfl q1241 rfl (Nat.le_of_ble_eq_true rfl) 0 rfl rfl rfl dX3_finds_35 (roomL rfl rfl) ⟨rfl, rfl⟩ ?_
      refine v_aload_n C dX3_finds_38 2 rfl ?_
      refine v_iload_n C dX3_finds_39 3 rfl ?_
      refine v_iconst (v := 0) C dX3_finds_40 (by decide) ?_
      refine v_callVw C (m_ofContract l g a _ _ _ _ _ _ _ cn 0 _ _ rfl rfl (by omega)) ok_X3_ofContract rfl q1288 rfl (Nat.le_of_ble_eq_true rfl) 0 rfl rfl rfl dX3_finds_41 (roomL rfl rfl) ⟨rfl, rfl⟩ ?_
      refine v_icmp_ne C 146 dX3_finds_44 (by decide) (fun c44_3 => ?_) (fun c44_3 => ?_)
      · skip
        refine v_iinc (lv' := [(4, _), (3, _), (0, _), (1, _), (2, _)]) C dX3_finds_146 0 rfl (nI_1 k) (by decide) rfl ?_
        refine v_goto C 10 dX3_finds_149 (by decide) ?_
        have hsel : ¬ q_sel row cn lg k := fun q => c44_3 q.2.1
        have e1 := ih (k + 1, f) ⟨by dsimp only; omega, by dsimp only; rw [ogC, if_neg hsel]; exact hf⟩ (by dsimp only; omega)
        dsimp only at e1
        rw [ogC, if_neg hsel, allU, if_neg hsel] at e1
        exact e1
      · skip
        refine v_aload_n C dX3_finds_47 2 rfl ?_
        refine v_iload C dX3_finds_48 0 rfl ?_
        refine v_callVw C (m_isSpoilt l g a _ _ _ _ _ _ _ k _ rfl (by omega)) ok_X3_isSpoilt rfl q1284 rfl (Nat.le_of_ble_eq_true rfl) 0 rfl rfl rfl dX3_finds_50 (roomL rfl rfl) ⟨rfl, rfl⟩ ?_
        refine v_if_neB C 146 dX3_finds_53 (by decide) (fun c53_4 => ?_) (fun c53_4 => ?_)
        · skip
          refine v_iinc (lv' := [(4, _), (3, _), (0, _), (1, _), (2, _)]) C dX3_finds_146 0 rfl (nI_1 k) (by decide) rfl ?_
          refine v_goto C 10 dX3_finds_149 (by decide) ?_
          have hsel : ¬ q_sel row cn lg k := fun q => q.2.2.1 c53_4
          have e1 := ih (k + 1, f) ⟨by dsimp only; omega, by dsimp only; rw [ogC, if_neg hsel]; exact hf⟩ (by dsimp only; omega)
          dsimp only at e1
          rw [ogC, if_neg hsel, allU, if_neg hsel] at e1
          exact e1
        · skip
          refine v_aload_n C dX3_finds_56 2 rfl ?_
          refine v_iload_n C dX3_finds_57 4 rfl ?_
          refine v_iload C dX3_finds_58 0 rfl ?_
          refine v_callVw C (m_leads l g a _ _ _ _ _ _ _ lg _ _ rfl (by omega)) ok_X3_leads rfl q1265 rfl (Nat.le_of_ble_eq_true rfl) 0 rfl rfl rfl dX3_finds_60 (roomL rfl rfl) ⟨rfl, rfl⟩ ?_
          refine v_if_eqB C 146 dX3_finds_63 (by decide) (fun c63_5 => ?_) (fun c63_5 => ?_)
          · skip
            refine v_iinc (lv' := [(4, _), (3, _), (0, _), (1, _), (2, _)]) C dX3_finds_146 0 rfl (nI_1 k) (by decide) rfl ?_
            refine v_goto C 10 dX3_finds_149 (by decide) ?_
            have hsel : ¬ q_sel row cn lg k := fun q => c63_5 q.2.2.2
            have e1 := ih (k + 1, f) ⟨by dsimp only; omega, by dsimp only; rw [ogC, if_neg hsel]; exact hf⟩ (by dsimp only; omega)
            dsimp only at e1
            rw [ogC, if_neg hsel, allU, if_neg hsel] at e1
            exact e1
          · skip
            refine v_aload_n C dX3_finds_66 2 rfl ?_
            refine v_get C in_X3 rfl 0 rfl 5 (by decide) q1171 (fun _ h => h) rfl dX3_finds_67 ?_
            refine v_istore (lv' := [(5, _), (4, _), (3, _), (0, _), (1, _), (2, _)]) C dX3_finds_70 (by decide) rfl ?_
            refine v_while (α := Nat × (Nat → Int32)) (fun x => x.1) (fun x => x.1 ≤ (ogC row cn lg k).2 ∧ (∀ j, j < x.1 → x.2 j = nI ((ogC row cn lg k).1 j)) ∧ (∀ j, x.1 < j → j ≤ (ogC row cn lg k).2 → x.2 j = nI ((ogC row cn lg k).1 (j - 1))) ∧ atP row k (ogC row cn lg k).1 (ogC row cn lg k).2 = atP row k (ogC row cn lg k).1 x.1) (fun x => [(5, .int (nI x.1)), (4, .int (nI k)), (3, .int (allU row cn lg k)), (0, .ref (a 0)), (1, .int (nI cn)), (2, .int (nI lg))]) (fun x => mw g a row books S (x.2, nI (ogC row cn lg k).2, B.2.2) T P h) ((ogC row cn lg k).2, f) rfl rfl ⟨Nat.le_refl _, hf, fun j h1 h2 => absurd h1 (by dsimp only; omega), rfl⟩ ?_
            rintro ⟨at_, f2⟩ ⟨hat, hlo, hhi, hend⟩ ih2
            dsimp only at hat hlo hhi hend ih2 ⊢
            refine v_iload C dX3_finds_72 0 rfl ?_
            refine v_if_le C 117 dX3_finds_74 (by decide) (fun c74_6 => ?_) (fun c74_6 => ?_)
            · skip
              have h0 : at_ = 0 := by
                have := (nI_leI (b := 0) (by omega) (by decide)).mp c74_6
                omega
              have hend : atP row k (ogC row cn lg k).1 (ogC row cn lg k).2 = at_ := by rw [hend, h0]; rfl
              refine v_aload_n C dX3_finds_117 3 rfl ?_
              refine v_get C in_X3 rfl 0 rfl 4 (by decide) q1170 (fun _ h => h) rfl dX3_finds_118 ?_
              refine v_iload C dX3_finds_121 0 rfl ?_
              refine v_iload C dX3_finds_123 1 rfl ?_
              refine v_iast (ws' := mw g a _ _ _ ((upd f2 _ _), (nI (ogC row cn lg k).2), B.2.2) _ _ _) C dX3_finds_125 4 rfl (ixn (by omega) (by decide)) rfl ?_
              refine v_aload_n C dX3_finds_126 3 rfl ?_
              refine v_dup C dX3_finds_127 rfl ?_
              refine v_get C in_X3 rfl 0 rfl 5 (by decide) q1171 (fun _ h => h) rfl dX3_finds_128 ?_
              refine v_iconst (v := 1) C dX3_finds_131 (by decide) ?_
              refine v_iadd C dX3_finds_132 ?_
              refine v_topi (fun z7 ez7 => ?_)
              refine v_put (ws' := mw g a _ _ _ ((upd f2 _ _), z7, B.2.2) _ _ _) C in_X3 tyX3 tyX3_ok nmX3 rfl 0 rfl 5 (by decide) q1171 (fun _ h => h) rfl rfl rfl (Nat.le_of_ble_eq_true rfl) dX3_finds_133 rfl ?_
              refine v_iload_n C dX3_finds_136 2 rfl ?_
              refine v_aload_n C dX3_finds_137 3 rfl ?_
              refine v_iload C dX3_finds_138 1 rfl ?_
              refine v_iconst (v := 3) C dX3_finds_140 (by decide) ?_
              refine v_callVw C (m_of l g a _ _ _ _ _ _ _ k 3 _ _ rfl rfl (by omega)) ok_X3_of rfl q1241 rfl (Nat.le_of_ble_eq_true rfl) 0 rfl rfl rfl dX3_finds_141 (roomL rfl rfl) ⟨rfl, rfl⟩ ?_
              refine v_iadd C dX3_finds_144 ?_
              refine v_istore_n (lv' := [(3, _), (5, _), (4, _), (0, _), (1, _), (2, _)]) C dX3_finds_145 rfl (by decide) rfl ?_
              refine v_iinc (lv' := [(4, _), (3, _), (5, _), (0, _), (1, _), (2, _)]) C dX3_finds_146 2 rfl (nI_1 k) (by decide) rfl ?_
              refine v_goto C 10 dX3_finds_149 (by decide) ?_
              refine v_lvp (lv' := [(4, _), (3, _), (0, _), (1, _), (2, _)]) [0, 1, 3, 4, 5] rfl ?_
              have hsel : q_sel row cn lg k := ⟨c28_2, c44_3, c53_4, c63_5⟩
              have e1 := ih (k + 1, upd f2 at_ (nI k)) ⟨by dsimp only; omega, by
                dsimp only
                rw [ogC, if_pos hsel]
                intro j hj
                dsimp only at hj ⊢
                unfold insO
                rw [hend]
                by_cases j1 : j < at_
                · rw [if_pos j1, pk_un (by omega)]; exact hlo j j1
                · rw [if_neg j1]
                  by_cases j2 : j = at_
                  · rw [if_pos j2, j2, pk_us]
                  · rw [if_neg j2, pk_un j2]; exact hhi j (by omega) (by omega)⟩ (by dsimp only; omega)
              dsimp only at e1
              rw [ogC, if_pos hsel, allU, if_pos hsel] at e1
              dsimp only at e1
              rw [← nI_1 (ogC row cn lg k).2] at e1
              subst ez7
              exact e1
            · skip
              have h0 : 0 < at_ := by
                rcases Nat.eq_zero_or_pos at_ with q | q
                · exact absurd (by rw [q]; exact Int32.le_refl _) c74_6
                · exact q
              obtain ⟨at_, rfl⟩ : ∃ z, at_ = z + 1 := ⟨at_ - 1, by omega⟩
              refine v_aload_n C dX3_finds_77 3 rfl ?_
              refine v_iload C dX3_finds_78 1 rfl ?_
              refine v_aload_n C dX3_finds_80 3 rfl ?_
              refine v_get C in_X3 rfl 0 rfl 4 (by decide) q1170 (fun _ h => h) rfl dX3_finds_81 ?_
              refine v_iload C dX3_finds_84 0 rfl ?_
              refine v_iconst (v := 1) C dX3_finds_86 (by decide) ?_
              refine v_isub C dX3_finds_87 ?_
              refine v_eqi (nI_pred at_) ?_
              refine v_iald C dX3_finds_88 4 rfl (ixn (by omega) (by decide)) ?_
              refine v_eqi (hlo at_ (by omega)) ?_
              have hob := (hog at_ (by omega)).1
              refine v_callVw C (m_isDamper l g a _ _ _ _ _ _ _ k ((ogC row cn lg k).1 at_) _ _ rfl rfl (by omega) (by omega)) ok_X3_isDamper rfl q1463 rfl (Nat.le_of_ble_eq_true rfl) 0 rfl rfl rfl dX3_finds_89 (roomL rfl rfl) ⟨rfl, rfl⟩ ?_
              refine v_if_eqB C 117 dX3_finds_92 (by decide) (fun c92_8 => ?_) (fun c92_8 => ?_)
              · skip
                have hdd : ¬ p_moist row ((ogC row cn lg k).1 at_) < p_moist row k := fun q => c92_8 ((damp_lt hob (by omega)).mpr q)
                have hend : atP row k (ogC row cn lg k).1 (ogC row cn lg k).2 = at_ + 1 := by rw [hend, atP, if_neg hdd]
                generalize at_ + 1 = at_ at *
                refine v_aload_n C dX3_finds_117 3 rfl ?_
                refine v_get C in_X3 rfl 0 rfl 4 (by decide) q1170 (fun _ h => h) rfl dX3_finds_118 ?_
                refine v_iload C dX3_finds_121 0 rfl ?_
                refine v_iload C dX3_finds_123 1 rfl ?_
                refine v_iast (ws' := mw g a _ _ _ ((upd f2 _ _), (nI (ogC row cn lg k).2), B.2.2) _ _ _) C dX3_finds_125 4 rfl (ixn (by omega) (by decide)) rfl ?_
                refine v_aload_n C dX3_finds_126 3 rfl ?_
                refine v_dup C dX3_finds_127 rfl ?_
                refine v_get C in_X3 rfl 0 rfl 5 (by decide) q1171 (fun _ h => h) rfl dX3_finds_128 ?_
                refine v_iconst (v := 1) C dX3_finds_131 (by decide) ?_
                refine v_iadd C dX3_finds_132 ?_
                refine v_topi (fun z9 ez9 => ?_)
                refine v_put (ws' := mw g a _ _ _ ((upd f2 _ _), z9, B.2.2) _ _ _) C in_X3 tyX3 tyX3_ok nmX3 rfl 0 rfl 5 (by decide) q1171 (fun _ h => h) rfl rfl rfl (Nat.le_of_ble_eq_true rfl) dX3_finds_133 rfl ?_
                refine v_iload_n C dX3_finds_136 2 rfl ?_
                refine v_aload_n C dX3_finds_137 3 rfl ?_
                refine v_iload C dX3_finds_138 1 rfl ?_
                refine v_iconst (v := 3) C dX3_finds_140 (by decide) ?_
                refine v_callVw C (m_of l g a _ _ _ _ _ _ _ k 3 _ _ rfl rfl (by omega)) ok_X3_of rfl q1241 rfl (Nat.le_of_ble_eq_true rfl) 0 rfl rfl rfl dX3_finds_141 (roomL rfl rfl) ⟨rfl, rfl⟩ ?_
                refine v_iadd C dX3_finds_144 ?_
                refine v_istore_n (lv' := [(3, _), (5, _), (4, _), (0, _), (1, _), (2, _)]) C dX3_finds_145 rfl (by decide) rfl ?_
                refine v_iinc (lv' := [(4, _), (3, _), (5, _), (0, _), (1, _), (2, _)]) C dX3_finds_146 2 rfl (nI_1 k) (by decide) rfl ?_
                refine v_goto C 10 dX3_finds_149 (by decide) ?_
                refine v_lvp (lv' := [(4, _), (3, _), (0, _), (1, _), (2, _)]) [0, 1, 3, 4, 5] rfl ?_
                have hsel : q_sel row cn lg k := ⟨c28_2, c44_3, c53_4, c63_5⟩
                have e1 := ih (k + 1, upd f2 at_ (nI k)) ⟨by dsimp only; omega, by
                  dsimp only
                  rw [ogC, if_pos hsel]
                  intro j hj
                  dsimp only at hj ⊢
                  unfold insO
                  rw [hend]
                  by_cases j1 : j < at_
                  · rw [if_pos j1, pk_un (by omega)]; exact hlo j j1
                  · rw [if_neg j1]
                    by_cases j2 : j = at_
                    · rw [if_pos j2, j2, pk_us]
                    · rw [if_neg j2, pk_un j2]; exact hhi j (by omega) (by omega)⟩ (by dsimp only; omega)
                dsimp only at e1
                rw [ogC, if_pos hsel, allU, if_pos hsel] at e1
                dsimp only at e1
                rw [← nI_1 (ogC row cn lg k).2] at e1
                subst ez9
                exact e1
              · skip
                have hdd := (damp_lt hob (by omega)).mp c92_8
                refine v_aload_n C dX3_finds_95 3 rfl ?_
                refine v_get C in_X3 rfl 0 rfl 4 (by decide) q1170 (fun _ h => h) rfl dX3_finds_96 ?_
                refine v_iload C dX3_finds_99 0 rfl ?_
                refine v_aload_n C dX3_finds_101 3 rfl ?_
                refine v_get C in_X3 rfl 0 rfl 4 (by decide) q1170 (fun _ h => h) rfl dX3_finds_102 ?_
                refine v_iload C dX3_finds_105 0 rfl ?_
                refine v_iconst (v := 1) C dX3_finds_107 (by decide) ?_
                refine v_isub C dX3_finds_108 ?_
                refine v_eqi (nI_pred at_) ?_
                refine v_iald C dX3_finds_109 4 rfl (ixn (by omega) (by decide)) ?_
                refine v_iast (ws' := mw g a _ _ _ ((upd f2 _ _), (nI (ogC row cn lg k).2), B.2.2) _ _ _) C dX3_finds_110 4 rfl (ixn (by omega) (by decide)) rfl ?_
                refine v_iinc (lv' := [(5, _), (4, _), (3, _), (0, _), (1, _), (2, _)]) C dX3_finds_111 0 rfl (pk_m1 at_) (by decide) rfl ?_
                refine v_goto C 72 dX3_finds_114 (by decide) ?_
                have e2 := ih2 (at_, upd f2 (at_ + 1) (f2 at_)) ⟨by dsimp only; omega, fun j hj => by dsimp only at hj ⊢; rw [pk_un (by omega)]; exact hlo j (by omega), fun j h1 h2 => by
                  dsimp only at h1 h2 ⊢
                  by_cases j1 : j = at_ + 1
                  · rw [j1, pk_us]; exact hlo at_ (by omega)
                  · rw [pk_un j1]; exact hhi j (by omega) h2, by dsimp only; rw [hend, atP, if_pos hdd]⟩ (by dsimp only; omega)
                exact e2
