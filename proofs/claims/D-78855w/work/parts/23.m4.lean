/-! the reference: moves -/
set_option maxRecDepth 100000
def M_X3_minutes : Md := (yX3_minutes, cX3_minutes, 2, (some .int), 1, 40, 0, 0)
theorem ok_X3_minutes : MOKs M_X3_minutes 2 := ⟨q1349, q103, q1350, ⟨by decide +kernel, by decide +kernel, by decide +kernel⟩⟩
set_option maxHeartbeats 4000000 in
theorem m_minutes (l : Launch) (g : GT) (amt speed : Int32) (hs : ¬ speed = 0) : CtE l g M_X3_minutes [.int amt, .int speed] [] (some (.int (p_min amt speed))) [] := by
  refine Ct.start2 (M := M_X3_minutes) rfl [(0, .int amt), (1, .int speed)] rfl (by decide +kernel) (Nat.le_of_ble_eq_true rfl) ?_
  intro p e s m args below meth c A C
  refine v_iload_n C dX3_minutes_0 0 rfl ?_
  refine v_iload_n C dX3_minutes_1 1 rfl ?_
  refine v_iadd C dX3_minutes_2 ?_
  refine v_iconst (v := 1) C dX3_minutes_3 (by decide) ?_
  refine v_isub C dX3_minutes_4 ?_
  refine v_iload_n C dX3_minutes_5 1 rfl ?_
  refine v_idiv C dX3_minutes_6 hs ?_
  exact v_iret C dX3_minutes_7 (Nat.le_of_ble_eq_true rfl) (Nat.le_of_ble_eq_true rfl) ⟨rfl, rfl⟩
def M_X3_passes : Md := (yX3_passes, cX3_passes, 5, none, 3, 83, 0, 0)
theorem ok_X3_passes : MOKv M_X3_passes 1 := ⟨q1358, qs62, q103, q1359, ⟨by decide +kernel, by decide +kernel, by decide +kernel⟩⟩
set_option maxHeartbeats 4000000 in
theorem m_passes (l : Launch) (g : GT) (a : Nat → Nat) (row : Nat → Int32) (books : Nat → Int64) (S : Int32 × (Nat → Int32)) (B : (Nat → Int32) × Int32 × (Nat → Int32)) (T : (Nat → Int32) × Int32) (P : Int32 × Int32 × (Nat → Int32) × Int32 × Int32) (h : Int64) (nb : Nat) (hnb : row 2 = nI nb) (hb8 : nb ≤ 8) (mi : Int32) : CtE l g M_X3_passes [.ref (a 0), .int mi] (mw g a row books S B T P h) none (mw g a (p_passes mi row nb) books S B T P h) := by
  refine Ct.start2 (M := M_X3_passes) rfl [(0, .ref (a 0)), (1, .int mi)] rfl (by decide +kernel) (Nat.le_of_ble_eq_true rfl) ?_
  intro p e s m args below meth c A C
  refine v_iconst (v := 0) C dX3_passes_0 (by decide) ?_
  refine v_istore_n (lv' := [(2, _), (0, _), (1, _)]) C dX3_passes_1 rfl (by decide) rfl ?_
  refine v_loop 0 nb (fun k => [(2, .int (nI k)), (0, .ref (a 0)), (1, .int mi)]) (fun k => mw g a (p_passB mi row k) books S B T P h) rfl rfl (by omega) ?_ ?_
  · skip
    refine v_iload_n C dX3_passes_2 0 rfl ?_
    refine v_aload_n C dX3_passes_3 1 rfl ?_
    refine v_get C in_X3 rfl 0 rfl 0 (by decide) q1166 (fun _ h => h) rfl dX3_passes_4 ?_
    refine v_iconst (v := 2) C dX3_passes_7 (by decide) ?_
    refine v_iald C dX3_passes_8 1 rfl (j := 2) (ixl rfl) ?_
    refine v_eqi ((passB_lo (by decide)).trans hnb) ?_
    refine v_icmp_ge C 119 dX3_passes_9 (by decide) (fun c9_1 => ?_) (fun c9_1 => ?_)
    · skip
      refine v_aload_n C dX3_passes_119 1 rfl ?_
      refine v_get C in_X3 rfl 0 rfl 0 (by decide) q1166 (fun _ h => h) rfl dX3_passes_120 ?_
      refine v_iconst (v := 0) C dX3_passes_123 (by decide) ?_
      refine v_dup2_11 C dX3_passes_124 rfl rfl ?_
      refine v_iald C dX3_passes_125 1 rfl (j := 0) (ixl rfl) ?_
      refine v_iload_n C dX3_passes_126 2 rfl ?_
      refine v_iadd C dX3_passes_127 ?_
      refine v_iast (ws' := mw g a _ _ _ _ _ _ _) C dX3_passes_128 1 rfl (j := 0) (ixl rfl) rfl ?_
      exact v_vret C dX3_passes_129 (Nat.le_of_ble_eq_true rfl) (Nat.le_of_ble_eq_true rfl) ⟨rfl, rfl⟩
    · exact absurd (Int32.le_refl _) c9_1
  · intro k hk hk0 hback
    refine v_iload_n C dX3_passes_2 0 rfl ?_
    refine v_aload_n C dX3_passes_3 1 rfl ?_
    refine v_get C in_X3 rfl 0 rfl 0 (by decide) q1166 (fun _ h => h) rfl dX3_passes_4 ?_
    refine v_iconst (v := 2) C dX3_passes_7 (by decide) ?_
    refine v_iald C dX3_passes_8 1 rfl (j := 2) (ixl rfl) ?_
    refine v_eqi ((passB_lo (by decide)).trans hnb) ?_
    refine v_icmp_ge C 119 dX3_passes_9 (by decide) (fun c9_2 => ?_) (fun c9_2 => ?_)
    · exact absurd c9_2 (nI_ge hk (by first | decide | omega))
    · skip
      refine v_aload_n C dX3_passes_12 1 rfl ?_
      refine v_iload_n C dX3_passes_13 0 rfl ?_
      refine v_callVw C (m_moisture l g a _ _ _ _ _ _ _ k _ rfl (by omega)) ok_X3_moisture rfl q1300 rfl (Nat.le_of_ble_eq_true rfl) 0 rfl rfl rfl dX3_passes_14 (roomL rfl rfl) ⟨rfl, rfl⟩ ?_
      refine v_istore_n (lv' := [(3, _), (2, _), (0, _), (1, _)]) C dX3_passes_17 rfl (by decide) rfl ?_
      refine v_iload_n C dX3_passes_18 0 rfl ?_
      refine v_sipush (v := 150) C dX3_passes_19 (by decide) ?_
      refine v_icmp_le C 68 dX3_passes_22 (by decide) (fun c22_3 => ?_) (fun c22_3 => ?_)
      · skip
        refine v_iload_n C dX3_passes_68 0 rfl ?_
        refine v_iconst (v := -1) C dX3_passes_69 (by decide) ?_
        refine v_icmp_eq C 113 dX3_passes_70 (by decide) (fun c70_4 => ?_) (fun c70_4 => ?_)
        · skip
          refine v_iinc (lv' := [(2, _), (3, _), (0, _), (1, _)]) C dX3_passes_113 1 rfl (nI_1 k) (by decide) rfl ?_
          refine v_goto C 2 dX3_passes_116 (by decide) ?_
          refine v_lvp (lv' := [(2, _), (0, _), (1, _)]) [0, 2, 3] rfl ?_
          have e1 := hback
          rw [show p_passB mi row (k + 1) = p_pass1 mi k (p_passB mi row k) from rfl, p_pass1, if_pos c22_3, if_pos c70_4] at e1
          exact e1
        · skip
          refine v_aload_n C dX3_passes_73 2 rfl ?_
          refine v_iload_n C dX3_passes_74 1 rfl ?_
          refine v_callVw C (m_isSpoilt l g a _ _ _ _ _ _ _ k _ rfl (by omega)) ok_X3_isSpoilt rfl q1284 rfl (Nat.le_of_ble_eq_true rfl) 0 rfl rfl rfl dX3_passes_75 (roomL rfl rfl) ⟨rfl, rfl⟩ ?_
          refine v_if_neB C 113 dX3_passes_78 (by decide) (fun c78_5 => ?_) (fun c78_5 => ?_)
          · skip
            refine v_iinc (lv' := [(2, _), (3, _), (0, _), (1, _)]) C dX3_passes_113 1 rfl (nI_1 k) (by decide) rfl ?_
            refine v_goto C 2 dX3_passes_116 (by decide) ?_
            refine v_lvp (lv' := [(2, _), (0, _), (1, _)]) [0, 2, 3] rfl ?_
            have e1 := hback
            rw [show p_passB mi row (k + 1) = p_pass1 mi k (p_passB mi row k) from rfl, p_pass1, if_pos c22_3, if_neg c70_4, if_pos c78_5] at e1
            exact e1
          · skip
            refine v_aload_n C dX3_passes_81 2 rfl ?_
            refine v_iload_n C dX3_passes_82 1 rfl ?_
            refine v_bipush (v := 6) C dX3_passes_83 (by decide) ?_
            refine v_callVw C (m_of l g a _ _ _ _ _ _ _ k 6 _ _ rfl rfl (by omega)) ok_X3_of rfl q1241 rfl (Nat.le_of_ble_eq_true rfl) 0 rfl rfl rfl dX3_passes_85 (roomL rfl rfl) ⟨rfl, rfl⟩ ?_
            refine v_iload_n C dX3_passes_88 3 rfl ?_
            refine v_bipush (v := 20) C dX3_passes_89 (by decide) ?_
            refine v_imul C dX3_passes_91 ?_
            refine v_isub C dX3_passes_92 ?_
            refine v_istore (lv' := [(4, _), (3, _), (2, _), (0, _), (1, _)]) C dX3_passes_93 (by decide) rfl ?_
            refine v_aload_n C dX3_passes_95 3 rfl ?_
            refine v_iload_n C dX3_passes_96 2 rfl ?_
            refine v_bipush (v := 6) C dX3_passes_97 (by decide) ?_
            refine v_iload C dX3_passes_99 0 rfl ?_
            refine v_if_ge C 108 dX3_passes_101 (by decide) (fun c101_6 => ?_) (fun c101_6 => ?_)
            · skip
              refine v_iload C dX3_passes_108 0 rfl ?_
              refine v_callVv C (m_sets l g a _ _ _ _ _ _ _ k 6 _ _ _ rfl rfl (by omega)) ok_X3_sets rfl q1229 rfl (Nat.le_of_ble_eq_true rfl) 0 rfl rfl rfl dX3_passes_110 (roomL rfl rfl) ⟨rfl, rfl⟩ ?_
              refine v_iinc (lv' := [(2, _), (4, _), (3, _), (0, _), (1, _)]) C dX3_passes_113 2 rfl (nI_1 k) (by decide) rfl ?_
              refine v_goto C 2 dX3_passes_116 (by decide) ?_
              refine v_lvp (lv' := [(2, _), (0, _), (1, _)]) [0, 3, 4] rfl ?_
              have e1 := hback
              rw [show p_passB mi row (k + 1) = p_pass1 mi k (p_passB mi row k) from rfl, p_pass1, if_pos c22_3, if_neg c70_4, if_neg c78_5, if_pos c101_6] at e1
              exact e1
            · skip
              refine v_iconst (v := 0) C dX3_passes_104 (by decide) ?_
              refine v_goto C 110 dX3_passes_105 (by decide) ?_
              refine v_callVv C (m_sets l g a _ _ _ _ _ _ _ k 6 _ _ _ rfl rfl (by omega)) ok_X3_sets rfl q1229 rfl (Nat.le_of_ble_eq_true rfl) 0 rfl rfl rfl dX3_passes_110 (roomL rfl rfl) ⟨rfl, rfl⟩ ?_
              refine v_iinc (lv' := [(2, _), (4, _), (3, _), (0, _), (1, _)]) C dX3_passes_113 2 rfl (nI_1 k) (by decide) rfl ?_
              refine v_goto C 2 dX3_passes_116 (by decide) ?_
              refine v_lvp (lv' := [(2, _), (0, _), (1, _)]) [0, 3, 4] rfl ?_
              have e1 := hback
              rw [show p_passB mi row (k + 1) = p_pass1 mi k (p_passB mi row k) from rfl, p_pass1, if_pos c22_3, if_neg c70_4, if_neg c78_5, if_neg c101_6] at e1
              exact e1
      · skip
        refine v_aload_n C dX3_passes_25 2 rfl ?_
        refine v_iload_n C dX3_passes_26 1 rfl ?_
        refine v_bipush (v := 6) C dX3_passes_27 (by decide) ?_
        refine v_callVw C (m_of l g a _ _ _ _ _ _ _ k 6 _ _ rfl rfl (by omega)) ok_X3_of rfl q1241 rfl (Nat.le_of_ble_eq_true rfl) 0 rfl rfl rfl dX3_passes_29 (roomL rfl rfl) ⟨rfl, rfl⟩ ?_
        refine v_iload_n C dX3_passes_32 3 rfl ?_
        refine v_iload_n C dX3_passes_33 0 rfl ?_
        refine v_sipush (v := 150) C dX3_passes_34 (by decide) ?_
        refine v_isub C dX3_passes_37 ?_
        refine v_imul C dX3_passes_38 ?_
        refine v_iadd C dX3_passes_39 ?_
        refine v_istore (lv' := [(4, _), (3, _), (2, _), (0, _), (1, _)]) C dX3_passes_40 (by decide) rfl ?_
        refine v_aload_n C dX3_passes_42 3 rfl ?_
        refine v_iload_n C dX3_passes_43 2 rfl ?_
        refine v_bipush (v := 6) C dX3_passes_44 (by decide) ?_
        refine v_iload C dX3_passes_46 0 rfl ?_
        refine v_sipush (v := 10000) C dX3_passes_48 (by decide) ?_
        refine v_icmp_le C 60 dX3_passes_51 (by decide) (fun c51_7 => ?_) (fun c51_7 => ?_)
        · skip
          refine v_iload C dX3_passes_60 0 rfl ?_
          refine v_callVv C (m_sets l g a _ _ _ _ _ _ _ k 6 _ _ _ rfl rfl (by omega)) ok_X3_sets rfl q1229 rfl (Nat.le_of_ble_eq_true rfl) 0 rfl rfl rfl dX3_passes_62 (roomL rfl rfl) ⟨rfl, rfl⟩ ?_
          refine v_goto C 113 dX3_passes_65 (by decide) ?_
          refine v_iinc (lv' := [(2, _), (4, _), (3, _), (0, _), (1, _)]) C dX3_passes_113 2 rfl (nI_1 k) (by decide) rfl ?_
          refine v_goto C 2 dX3_passes_116 (by decide) ?_
          refine v_lvp (lv' := [(2, _), (0, _), (1, _)]) [0, 3, 4] rfl ?_
          have e1 := hback
          rw [show p_passB mi row (k + 1) = p_pass1 mi k (p_passB mi row k) from rfl, p_pass1, if_neg c22_3, if_pos c51_7] at e1
          exact e1
        · skip
          refine v_sipush (v := 10000) C dX3_passes_54 (by decide) ?_
          refine v_goto C 62 dX3_passes_57 (by decide) ?_
          refine v_callVv C (m_sets l g a _ _ _ _ _ _ _ k 6 _ _ _ rfl rfl (by omega)) ok_X3_sets rfl q1229 rfl (Nat.le_of_ble_eq_true rfl) 0 rfl rfl rfl dX3_passes_62 (roomL rfl rfl) ⟨rfl, rfl⟩ ?_
          refine v_goto C 113 dX3_passes_65 (by decide) ?_
          refine v_iinc (lv' := [(2, _), (4, _), (3, _), (0, _), (1, _)]) C dX3_passes_113 2 rfl (nI_1 k) (by decide) rfl ?_
          refine v_goto C 2 dX3_passes_116 (by decide) ?_
          refine v_lvp (lv' := [(2, _), (0, _), (1, _)]) [0, 3, 4] rfl ?_
          have e1 := hback
          rw [show p_passB mi row (k + 1) = p_pass1 mi k (p_passB mi row k) from rfl, p_pass1, if_neg c22_3, if_neg c51_7] at e1
          exact e1
def M_X3_share : Md := (yX3_share, cX3_share, 3, (some .int), 2, 62, 0, 0)
theorem ok_X3_share : MOKv M_X3_share 2 := ⟨q1388, qs68, q103, q1389, ⟨by decide +kernel, by decide +kernel, by decide +kernel⟩⟩
set_option maxHeartbeats 4000000 in
theorem m_share (l : Launch) (g : GT) (a : Nat → Nat) (row : Nat → Int32) (books : Nat → Int64) (S : Int32 × (Nat → Int32)) (B : (Nat → Int32) × Int32 × (Nat → Int32)) (T : (Nat → Int32) × Int32) (P : Int32 × Int32 × (Nat → Int32) × Int32 × Int32) (h : Int64) (b : Nat) (bi amt : Int32) (eb : bi = nI b) (hb : b < 100) (hz : ¬ amt = row (10 + 9 * b + 3) → ¬ (row (10 + 9 * b + 3)).toInt64 = 0) : CtE l g M_X3_share [.ref (a 0), .int bi, .int amt] (mw g a row books S B T P h) (some (.int (p_share row b amt))) (mw g a row books S B T P h) := by
  refine Ct.start2 (M := M_X3_share) rfl [(0, .ref (a 0)), (1, .int bi), (2, .int amt)] rfl (by decide +kernel) (Nat.le_of_ble_eq_true rfl) ?_
  intro p e s m args below meth c A C
  subst eb
  refine v_iload_n C dX3_share_0 2 rfl ?_
  refine v_aload_n C dX3_share_1 0 rfl ?_
  refine v_iload_n C dX3_share_2 1 rfl ?_
  refine v_iconst (v := 3) C dX3_share_3 (by decide) ?_
  refine v_callVw C (m_of l g a _ _ _ _ _ _ _ b 3 _ _ rfl rfl (by omega)) ok_X3_of rfl q1241 rfl (Nat.le_of_ble_eq_true rfl) 0 rfl rfl rfl dX3_share_4 (roomL rfl rfl) ⟨rfl, rfl⟩ ?_
  refine v_icmp_ne C 19 dX3_share_7 (by decide) (fun c7_1 => ?_) (fun c7_1 => ?_)
  · skip
    refine v_aload_n C dX3_share_19 0 rfl ?_
    refine v_iload_n C dX3_share_20 1 rfl ?_
    refine v_iconst (v := 4) C dX3_share_21 (by decide) ?_
    refine v_callVw C (m_of l g a _ _ _ _ _ _ _ b 4 _ _ rfl rfl (by omega)) ok_X3_of rfl q1241 rfl (Nat.le_of_ble_eq_true rfl) 0 rfl rfl rfl dX3_share_22 (roomL rfl rfl) ⟨rfl, rfl⟩ ?_
    refine v_i2l C dX3_share_25 ?_
    refine v_iload_n C dX3_share_26 2 rfl ?_
    refine v_i2l C dX3_share_27 ?_
    refine v_lmul C dX3_share_28 ?_
    refine v_aload_n C dX3_share_29 0 rfl ?_
    refine v_iload_n C dX3_share_30 1 rfl ?_
    refine v_iconst (v := 3) C dX3_share_31 (by decide) ?_
    refine v_callVw C (m_of l g a _ _ _ _ _ _ _ b 3 _ _ rfl rfl (by omega)) ok_X3_of rfl q1241 rfl (Nat.le_of_ble_eq_true rfl) 0 rfl rfl rfl dX3_share_32 (roomL rfl rfl) ⟨rfl, rfl⟩ ?_
    refine v_i2l C dX3_share_35 ?_
    refine v_ldiv C dX3_share_36 (hz c7_1) ?_
    refine v_l2i C dX3_share_37 ?_
    exact v_iret C dX3_share_38 (Nat.le_of_ble_eq_true rfl) (Nat.le_of_ble_eq_true rfl) (by unfold p_share; (try dsimp only); rw [if_neg c7_1]; exact ⟨rfl, rfl⟩)
  · skip
    refine v_aload_n C dX3_share_10 0 rfl ?_
    refine v_iload_n C dX3_share_11 1 rfl ?_
    refine v_iconst (v := 4) C dX3_share_12 (by decide) ?_
    refine v_callVw C (m_of l g a _ _ _ _ _ _ _ b 4 _ _ rfl rfl (by omega)) ok_X3_of rfl q1241 rfl (Nat.le_of_ble_eq_true rfl) 0 rfl rfl rfl dX3_share_13 (roomL rfl rfl) ⟨rfl, rfl⟩ ?_
    refine v_goto C 38 dX3_share_16 (by decide) ?_
    exact v_iret C dX3_share_38 (Nat.le_of_ble_eq_true rfl) (Nat.le_of_ble_eq_true rfl) (by unfold p_share; (try dsimp only); rw [if_pos c7_1]; exact ⟨rfl, rfl⟩)
def M_X3_dusts : Md := (yX3_dusts, cX3_dusts, 4, none, 2, 62, 0, 0)
theorem ok_X3_dusts : MOKv M_X3_dusts 3 := ⟨q1366, qs64, q103, q1367, ⟨by decide +kernel, by decide +kernel, by decide +kernel⟩⟩
set_option maxHeartbeats 4000000 in
theorem m_dusts (l : Launch) (g : GT) (a : Nat → Nat) (row : Nat → Int32) (books : Nat → Int64) (S : Int32 × (Nat → Int32)) (B : (Nat → Int32) × Int32 × (Nat → Int32)) (T : (Nat → Int32) × Int32) (P : Int32 × Int32 × (Nat → Int32) × Int32 × Int32) (h : Int64) (b : Nat) (bi amt pts : Int32) (eb : bi = nI b) (hb : b < 100) (ha : ¬ amt = 0) : CtE l g M_X3_dusts [.ref (a 0), .int bi, .int amt, .int pts] (mw g a row books S B T P h) none (mw g a (p_dusts row b amt pts) books S B T P h) := by
  refine Ct.start2 (M := M_X3_dusts) rfl [(0, .ref (a 0)), (1, .int bi), (2, .int amt), (3, .int pts)] rfl (by decide +kernel) (Nat.le_of_ble_eq_true rfl) ?_
  intro p e s m args below meth c A C
  subst eb
  refine v_aload_n C dX3_dusts_0 0 rfl ?_
  refine v_get C in_X3 rfl 0 rfl 0 (by decide) q1166 (fun _ h => h) rfl dX3_dusts_1 ?_
  refine v_bipush (v := 82) C dX3_dusts_4 (by decide) ?_
  refine v_iconst (v := 4) C dX3_dusts_6 (by decide) ?_
  refine v_iload_n C dX3_dusts_7 1 rfl ?_
  refine v_imul C dX3_dusts_8 ?_
  refine v_eqi (pk_mul 4 b) ?_
  refine v_iadd C dX3_dusts_9 ?_
  refine v_eqi (nI_add 82 (4 * b)) ?_
  refine v_iconst (v := 2) C dX3_dusts_10 (by decide) ?_
  refine v_iadd C dX3_dusts_11 ?_
  refine v_eqi (nI_add (82 + (4 * b)) 2) ?_
  refine v_dup2_11 C dX3_dusts_12 rfl rfl ?_
  refine v_iald C dX3_dusts_13 1 rfl (ixn (by omega) (by decide)) ?_
  refine v_iload_n C dX3_dusts_14 2 rfl ?_
  refine v_i2l C dX3_dusts_15 ?_
  refine v_aload_n C dX3_dusts_16 0 rfl ?_
  refine v_iload_n C dX3_dusts_17 1 rfl ?_
  refine v_iconst (v := 0) C dX3_dusts_18 (by decide) ?_
  refine v_callVw C (m_ofLeg l g a _ _ _ _ _ _ _ b 0 _ _ rfl rfl (by omega)) ok_X3_ofLeg rfl q1257 rfl (Nat.le_of_ble_eq_true rfl) 0 rfl rfl rfl dX3_dusts_19 (roomL rfl rfl) ⟨rfl, rfl⟩ ?_
  refine v_i2l C dX3_dusts_22 ?_
  refine v_lmul C dX3_dusts_23 ?_
  refine v_sipush (v := 400) C dX3_dusts_24 (by decide) ?_
  refine v_iload_n C dX3_dusts_27 3 rfl ?_
  refine v_iload_n C dX3_dusts_28 2 rfl ?_
  refine v_idiv C dX3_dusts_29 ha ?_
  refine v_isub C dX3_dusts_30 ?_
  refine v_i2l C dX3_dusts_31 ?_
  refine v_lmul C dX3_dusts_32 ?_
  refine v_ldc2 C dX3_dusts_33 q1368 ?_
  refine v_ldiv C dX3_dusts_36 (by decide) ?_
  refine v_l2i C dX3_dusts_37 ?_
  refine v_iadd C dX3_dusts_38 ?_
  refine v_iast (ws' := mw g a _ _ _ _ _ _ _) C dX3_dusts_39 1 rfl (ixn (by omega) (by decide)) rfl ?_
  refine v_aload_n C dX3_dusts_40 0 rfl ?_
  refine v_get C in_X3 rfl 0 rfl 0 (by decide) q1166 (fun _ h => h) rfl dX3_dusts_41 ?_
  refine v_bipush (v := 82) C dX3_dusts_44 (by decide) ?_
  refine v_iconst (v := 4) C dX3_dusts_46 (by decide) ?_
  refine v_iload_n C dX3_dusts_47 1 rfl ?_
  refine v_imul C dX3_dusts_48 ?_
  refine v_eqi (pk_mul 4 b) ?_
  refine v_iadd C dX3_dusts_49 ?_
  refine v_eqi (nI_add 82 (4 * b)) ?_
  refine v_iconst (v := 3) C dX3_dusts_50 (by decide) ?_
  refine v_iadd C dX3_dusts_51 ?_
  refine v_eqi (nI_add (82 + (4 * b)) 3) ?_
  refine v_dup2_11 C dX3_dusts_52 rfl rfl ?_
  refine v_iald C dX3_dusts_53 1 rfl (ixn (by omega) (by decide)) ?_
  refine v_iload_n C dX3_dusts_54 2 rfl ?_
  refine v_iadd C dX3_dusts_55 ?_
  refine v_iast (ws' := mw g a _ _ _ _ _ _ _) C dX3_dusts_56 1 rfl (ixn (by omega) (by decide)) rfl ?_
  exact v_vret C dX3_dusts_57 (Nat.le_of_ble_eq_true rfl) (Nat.le_of_ble_eq_true rfl) ⟨rfl, rfl⟩
def M_X3_empties : Md := (yX3_empties, cX3_empties, 2, none, 2, 63, 0, 0)
theorem ok_X3_empties : MOKv M_X3_empties 1 := ⟨q1400, qs71, q103, q1401, ⟨by decide +kernel, by decide +kernel, by decide +kernel⟩⟩
set_option maxHeartbeats 4000000 in
theorem m_empties (l : Launch) (g : GT) (a : Nat → Nat) (row : Nat → Int32) (books : Nat → Int64) (S : Int32 × (Nat → Int32)) (B : (Nat → Int32) × Int32 × (Nat → Int32)) (T : (Nat → Int32) × Int32) (P : Int32 × Int32 × (Nat → Int32) × Int32 × Int32) (h : Int64) (b : Nat) (bi : Int32) (eb : bi = nI b) (hb : b < 100) : CtE l g M_X3_empties [.ref (a 0), .int bi] (mw g a row books S B T P h) none (mw g a (p_empties row b) books S B T P h) := by
  refine Ct.start2 (M := M_X3_empties) rfl [(0, .ref (a 0)), (1, .int bi)] rfl (by decide +kernel) (Nat.le_of_ble_eq_true rfl) ?_
  intro p e s m args below meth c A C
  subst eb
  refine v_aload_n C dX3_empties_0 0 rfl ?_
  refine v_iload_n C dX3_empties_1 1 rfl ?_
  refine v_iconst (v := 4) C dX3_empties_2 (by decide) ?_
  refine v_iconst (v := 0) C dX3_empties_3 (by decide) ?_
  refine v_callVv C (m_sets l g a _ _ _ _ _ _ _ b 4 _ _ _ rfl rfl (by omega)) ok_X3_sets rfl q1229 rfl (Nat.le_of_ble_eq_true rfl) 0 rfl rfl rfl dX3_empties_4 (roomL rfl rfl) ⟨rfl, rfl⟩ ?_
  refine v_aload_n C dX3_empties_7 0 rfl ?_
  refine v_iload_n C dX3_empties_8 1 rfl ?_
  refine v_iconst (v := 5) C dX3_empties_9 (by decide) ?_
  refine v_iconst (v := -1) C dX3_empties_10 (by decide) ?_
  refine v_callVv C (m_sets l g a _ _ _ _ _ _ _ b 5 _ _ _ rfl rfl (by omega)) ok_X3_sets rfl q1229 rfl (Nat.le_of_ble_eq_true rfl) 0 rfl rfl rfl dX3_empties_11 (roomL rfl rfl) ⟨rfl, rfl⟩ ?_
  refine v_aload_n C dX3_empties_14 0 rfl ?_
  refine v_iload_n C dX3_empties_15 1 rfl ?_
  refine v_bipush (v := 6) C dX3_empties_16 (by decide) ?_
  refine v_iconst (v := 0) C dX3_empties_18 (by decide) ?_
  refine v_callVv C (m_sets l g a _ _ _ _ _ _ _ b 6 _ _ _ rfl rfl (by omega)) ok_X3_sets rfl q1229 rfl (Nat.le_of_ble_eq_true rfl) 0 rfl rfl rfl dX3_empties_19 (roomL rfl rfl) ⟨rfl, rfl⟩ ?_
  exact v_vret C dX3_empties_22 (Nat.le_of_ble_eq_true rfl) (Nat.le_of_ble_eq_true rfl) ⟨rfl, rfl⟩
def M_X3_takes : Md := (yX3_takes, cX3_takes, 4, (some .int), 3, 84, 0, 0)
theorem ok_X3_takes : MOKv M_X3_takes 2 := ⟨q1396, qs70, q103, q1397, ⟨by decide +kernel, by decide +kernel, by decide +kernel⟩⟩
set_option maxHeartbeats 4000000 in
theorem m_takes (l : Launch) (g : GT) (a : Nat → Nat) (row : Nat → Int32) (books : Nat → Int64) (S : Int32 × (Nat → Int32)) (B : (Nat → Int32) × Int32 × (Nat → Int32)) (T : (Nat → Int32) × Int32) (P : Int32 × Int32 × (Nat → Int32) × Int32 × Int32) (h : Int64) (b : Nat) (bi amt : Int32) (eb : bi = nI b) (hb : b < 100) (hz : ¬ amt = row (10 + 9 * b + 3) → ¬ (row (10 + 9 * b + 3)).toInt64 = 0) : CtE l g M_X3_takes [.ref (a 0), .int bi, .int amt] (mw g a row books S B T P h) (some (.int (p_takes row b amt).1)) (mw g a (p_takes row b amt).2 books S B T P h) := by
  refine Ct.start2 (M := M_X3_takes) rfl [(0, .ref (a 0)), (1, .int bi), (2, .int amt)] rfl (by decide +kernel) (Nat.le_of_ble_eq_true rfl) ?_
  intro p e s m args below meth c A C
  subst eb
  refine v_aload_n C dX3_takes_0 0 rfl ?_
  refine v_iload_n C dX3_takes_1 1 rfl ?_
  refine v_iload_n C dX3_takes_2 2 rfl ?_
  refine v_callVw C (m_share l g a _ _ _ _ _ _ _ b _ _ rfl (by omega) hz) ok_X3_share rfl q1386 rfl (Nat.le_of_ble_eq_true rfl) 0 rfl rfl rfl dX3_takes_3 (roomL rfl rfl) ⟨rfl, rfl⟩ ?_
  refine v_istore_n (lv' := [(3, _), (0, _), (1, _), (2, _)]) C dX3_takes_6 rfl (by decide) rfl ?_
  refine v_aload_n C dX3_takes_7 1 rfl ?_
  refine v_iload_n C dX3_takes_8 2 rfl ?_
  refine v_iconst (v := 3) C dX3_takes_9 (by decide) ?_
  refine v_aload_n C dX3_takes_10 1 rfl ?_
  refine v_iload_n C dX3_takes_11 2 rfl ?_
  refine v_iconst (v := 3) C dX3_takes_12 (by decide) ?_
  refine v_callVw C (m_of l g a _ _ _ _ _ _ _ b 3 _ _ rfl rfl (by omega)) ok_X3_of rfl q1241 rfl (Nat.le_of_ble_eq_true rfl) 0 rfl rfl rfl dX3_takes_13 (roomL rfl rfl) ⟨rfl, rfl⟩ ?_
  refine v_iload_n C dX3_takes_16 3 rfl ?_
  refine v_isub C dX3_takes_17 ?_
  refine v_callVv C (m_sets l g a _ _ _ _ _ _ _ b 3 _ _ _ rfl rfl (by omega)) ok_X3_sets rfl q1229 rfl (Nat.le_of_ble_eq_true rfl) 0 rfl rfl rfl dX3_takes_18 (roomL rfl rfl) ⟨rfl, rfl⟩ ?_
  refine v_aload_n C dX3_takes_21 1 rfl ?_
  refine v_iload_n C dX3_takes_22 2 rfl ?_
  refine v_iconst (v := 4) C dX3_takes_23 (by decide) ?_
  refine v_aload_n C dX3_takes_24 1 rfl ?_
  refine v_iload_n C dX3_takes_25 2 rfl ?_
  refine v_iconst (v := 4) C dX3_takes_26 (by decide) ?_
  refine v_callVw C (m_of l g a _ _ _ _ _ _ _ b 4 _ _ rfl rfl (by omega)) ok_X3_of rfl q1241 rfl (Nat.le_of_ble_eq_true rfl) 0 rfl rfl rfl dX3_takes_27 (roomL rfl rfl) ⟨rfl, rfl⟩ ?_
  refine v_iload_n C dX3_takes_30 0 rfl ?_
  refine v_isub C dX3_takes_31 ?_
  refine v_callVv C (m_sets l g a _ _ _ _ _ _ _ b 4 _ _ _ rfl rfl (by omega)) ok_X3_sets rfl q1229 rfl (Nat.le_of_ble_eq_true rfl) 0 rfl rfl rfl dX3_takes_32 (roomL rfl rfl) ⟨rfl, rfl⟩ ?_
  refine v_aload_n C dX3_takes_35 1 rfl ?_
  refine v_iload_n C dX3_takes_36 2 rfl ?_
  refine v_bipush (v := 8) C dX3_takes_37 (by decide) ?_
  refine v_aload_n C dX3_takes_39 1 rfl ?_
  refine v_iload_n C dX3_takes_40 2 rfl ?_
  refine v_bipush (v := 8) C dX3_takes_41 (by decide) ?_
  refine v_callVw C (m_of l g a _ _ _ _ _ _ _ b 8 _ _ rfl rfl (by omega)) ok_X3_of rfl q1241 rfl (Nat.le_of_ble_eq_true rfl) 0 rfl rfl rfl dX3_takes_43 (roomL rfl rfl) ⟨rfl, rfl⟩ ?_
  refine v_iload_n C dX3_takes_46 3 rfl ?_
  refine v_iadd C dX3_takes_47 ?_
  refine v_callVv C (m_sets l g a _ _ _ _ _ _ _ b 8 _ _ _ rfl rfl (by omega)) ok_X3_sets rfl q1229 rfl (Nat.le_of_ble_eq_true rfl) 0 rfl rfl rfl dX3_takes_48 (roomL rfl rfl) ⟨rfl, rfl⟩ ?_
  refine v_aload_n C dX3_takes_51 1 rfl ?_
  refine v_iload_n C dX3_takes_52 2 rfl ?_
  refine v_iconst (v := 3) C dX3_takes_53 (by decide) ?_
  refine v_callVw C (m_of l g a _ _ _ _ _ _ _ b 3 _ _ rfl rfl (by omega)) ok_X3_of rfl q1241 rfl (Nat.le_of_ble_eq_true rfl) 0 rfl rfl rfl dX3_takes_54 (roomL rfl rfl) ⟨rfl, rfl⟩ ?_
  refine v_if_ne C 65 dX3_takes_57 (by decide) (fun c57_1 => ?_) (fun c57_1 => ?_)
  · skip
    refine v_iload_n C dX3_takes_65 0 rfl ?_
    exact v_iret C dX3_takes_66 (Nat.le_of_ble_eq_true rfl) (Nat.le_of_ble_eq_true rfl) (by unfold p_takes; (try dsimp only); rw [if_neg c57_1]; exact ⟨rfl, rfl⟩)
  · skip
    refine v_aload_n C dX3_takes_60 1 rfl ?_
    refine v_iload_n C dX3_takes_61 2 rfl ?_
    refine v_callVv C (m_empties l g a _ _ _ _ _ _ _ b _ rfl (by omega)) ok_X3_empties rfl q1398 rfl (Nat.le_of_ble_eq_true rfl) 0 rfl rfl rfl dX3_takes_62 (roomL rfl rfl) ⟨rfl, rfl⟩ ?_
    refine v_iload_n C dX3_takes_65 0 rfl ?_
    exact v_iret C dX3_takes_66 (Nat.le_of_ble_eq_true rfl) (Nat.le_of_ble_eq_true rfl) (by unfold p_takes; (try dsimp only); rw [if_pos c57_1]; exact ⟨rfl, rfl⟩)
def M_X3_brings : Md := (yX3_brings, cX3_brings, 5, none, 2, 63, 0, 0)
theorem ok_X3_brings : MOKv M_X3_brings 4 := ⟨q1362, qs63, q103, q1363, ⟨by decide +kernel, by decide +kernel, by decide +kernel⟩⟩
set_option maxHeartbeats 4000000 in
theorem m_brings (l : Launch) (g : GT) (a : Nat → Nat) (row : Nat → Int32) (books : Nat → Int64) (S : Int32 × (Nat → Int32)) (B : (Nat → Int32) × Int32 × (Nat → Int32)) (T : (Nat → Int32) × Int32) (P : Int32 × Int32 × (Nat → Int32) × Int32 × Int32) (h : Int64) (b : Nat) (bi kind amt pts : Int32) (eb : bi = nI b) (hb : b < 100) : CtE l g M_X3_brings [.ref (a 0), .int bi, .int kind, .int amt, .int pts] (mw g a row books S B T P h) none (mw g a (p_brings row b kind amt pts) books S B T P h) := by
  refine Ct.start2 (M := M_X3_brings) rfl [(0, .ref (a 0)), (1, .int bi), (2, .int kind), (3, .int amt), (4, .int pts)] rfl (by decide +kernel) (Nat.le_of_ble_eq_true rfl) ?_
  intro p e s m args below meth c A C
  subst eb
  refine v_aload_n C dX3_brings_0 0 rfl ?_
  refine v_iload_n C dX3_brings_1 1 rfl ?_
  refine v_iconst (v := 3) C dX3_brings_2 (by decide) ?_
  refine v_aload_n C dX3_brings_3 0 rfl ?_
  refine v_iload_n C dX3_brings_4 1 rfl ?_
  refine v_iconst (v := 3) C dX3_brings_5 (by decide) ?_
  refine v_callVw C (m_of l g a _ _ _ _ _ _ _ b 3 _ _ rfl rfl (by omega)) ok_X3_of rfl q1241 rfl (Nat.le_of_ble_eq_true rfl) 0 rfl rfl rfl dX3_brings_6 (roomL rfl rfl) ⟨rfl, rfl⟩ ?_
  refine v_iload_n C dX3_brings_9 3 rfl ?_
  refine v_iadd C dX3_brings_10 ?_
  refine v_callVv C (m_sets l g a _ _ _ _ _ _ _ b 3 _ _ _ rfl rfl (by omega)) ok_X3_sets rfl q1229 rfl (Nat.le_of_ble_eq_true rfl) 0 rfl rfl rfl dX3_brings_11 (roomL rfl rfl) ⟨rfl, rfl⟩ ?_
  refine v_aload_n C dX3_brings_14 0 rfl ?_
  refine v_iload_n C dX3_brings_15 1 rfl ?_
  refine v_iconst (v := 4) C dX3_brings_16 (by decide) ?_
  refine v_aload_n C dX3_brings_17 0 rfl ?_
  refine v_iload_n C dX3_brings_18 1 rfl ?_
  refine v_iconst (v := 4) C dX3_brings_19 (by decide) ?_
  refine v_callVw C (m_of l g a _ _ _ _ _ _ _ b 4 _ _ rfl rfl (by omega)) ok_X3_of rfl q1241 rfl (Nat.le_of_ble_eq_true rfl) 0 rfl rfl rfl dX3_brings_20 (roomL rfl rfl) ⟨rfl, rfl⟩ ?_
  refine v_iload C dX3_brings_23 4 rfl ?_
  refine v_iadd C dX3_brings_25 ?_
  refine v_callVv C (m_sets l g a _ _ _ _ _ _ _ b 4 _ _ _ rfl rfl (by omega)) ok_X3_sets rfl q1229 rfl (Nat.le_of_ble_eq_true rfl) 0 rfl rfl rfl dX3_brings_26 (roomL rfl rfl) ⟨rfl, rfl⟩ ?_
  refine v_aload_n C dX3_brings_29 0 rfl ?_
  refine v_iload_n C dX3_brings_30 1 rfl ?_
  refine v_iconst (v := 5) C dX3_brings_31 (by decide) ?_
  refine v_iload_n C dX3_brings_32 2 rfl ?_
  refine v_callVv C (m_sets l g a _ _ _ _ _ _ _ b 5 _ _ _ rfl rfl (by omega)) ok_X3_sets rfl q1229 rfl (Nat.le_of_ble_eq_true rfl) 0 rfl rfl rfl dX3_brings_33 (roomL rfl rfl) ⟨rfl, rfl⟩ ?_
  refine v_aload_n C dX3_brings_36 0 rfl ?_
  refine v_iload_n C dX3_brings_37 1 rfl ?_
  refine v_bipush (v := 7) C dX3_brings_38 (by decide) ?_
  refine v_aload_n C dX3_brings_40 0 rfl ?_
  refine v_iload_n C dX3_brings_41 1 rfl ?_
  refine v_bipush (v := 7) C dX3_brings_42 (by decide) ?_
  refine v_callVw C (m_of l g a _ _ _ _ _ _ _ b 7 _ _ rfl rfl (by omega)) ok_X3_of rfl q1241 rfl (Nat.le_of_ble_eq_true rfl) 0 rfl rfl rfl dX3_brings_44 (roomL rfl rfl) ⟨rfl, rfl⟩ ?_
  refine v_iload_n C dX3_brings_47 3 rfl ?_
  refine v_iadd C dX3_brings_48 ?_
  refine v_callVv C (m_sets l g a _ _ _ _ _ _ _ b 7 _ _ _ rfl rfl (by omega)) ok_X3_sets rfl q1229 rfl (Nat.le_of_ble_eq_true rfl) 0 rfl rfl rfl dX3_brings_49 (roomL rfl rfl) ⟨rfl, rfl⟩ ?_
  exact v_vret C dX3_brings_52 (Nat.le_of_ble_eq_true rfl) (Nat.le_of_ble_eq_true rfl) ⟨rfl, rfl⟩
def M_X3_against : Md := (yX3_against, cX3_against, 7, (some .int), 3, 84, 0, 0)
theorem ok_X3_against : MOKv M_X3_against 6 := ⟨q1342, qs59, q103, q1343, ⟨by decide +kernel, by decide +kernel, by decide +kernel⟩⟩
set_option maxHeartbeats 4000000 in
theorem m_against (l : Launch) (g : GT) (a : Nat → Nat) (row : Nat → Int32) (books : Nat → Int64) (S : Int32 × (Nat → Int32)) (B : (Nat → Int32) × Int32 × (Nat → Int32)) (T : (Nat → Int32) × Int32) (P : Int32 × Int32 × (Nat → Int32) × Int32 × Int32) (h : Int64) (lg b : Nat) (li bi fr kind amt moist : Int32) (el : li = nI lg) (eb : bi = nI b) (hl : lg < 100) (hb : b < 100) : CtE l g M_X3_against [.ref (a 0), .int li, .int fr, .int bi, .int kind, .int amt, .int moist] (mw g a row books S B T P h) (some (.int (p_against row lg fr b kind amt moist))) (mw g a row books S B T P h) := by
  refine Ct.start2 (M := M_X3_against) rfl [(0, .ref (a 0)), (1, .int li), (2, .int fr), (3, .int bi), (4, .int kind), (5, .int amt), (6, .int moist)] rfl (by decide +kernel) (Nat.le_of_ble_eq_true rfl) ?_
  intro p e s m args below meth c A C
  subst el; subst eb
  refine v_aload_n C dX3_against_0 0 rfl ?_
  refine v_iload_n C dX3_against_1 1 rfl ?_
  refine v_callVw C (m_stands l g a _ _ _ _ _ _ _ lg _ rfl (by omega)) ok_X3_stands rfl q1312 rfl (Nat.le_of_ble_eq_true rfl) 0 rfl rfl rfl dX3_against_2 (roomL rfl rfl) ⟨rfl, rfl⟩ ?_
  refine v_if_eqB C 10 dX3_against_5 (by decide) (fun c5_1 => ?_) (fun c5_1 => ?_)
  · skip
    refine v_aload_n C dX3_against_10 0 rfl ?_
    refine v_iload_n C dX3_against_11 1 rfl ?_
    refine v_iload_n C dX3_against_12 3 rfl ?_
    refine v_callVw C (m_leads l g a _ _ _ _ _ _ _ lg _ _ rfl (by omega)) ok_X3_leads rfl q1265 rfl (Nat.le_of_ble_eq_true rfl) 0 rfl rfl rfl dX3_against_13 (roomL rfl rfl) ⟨rfl, rfl⟩ ?_
    refine v_if_eqB C 33 dX3_against_16 (by decide) (fun c16_2 => ?_) (fun c16_2 => ?_)
    · skip
      refine v_iconst (v := 2) C dX3_against_33 (by decide) ?_
      exact v_iret C dX3_against_34 (Nat.le_of_ble_eq_true rfl) (Nat.le_of_ble_eq_true rfl) (by unfold p_against; (try unfold p_ag1 p_ag2); rw [if_neg c5_1, if_neg c16_2]; exact ⟨rfl, rfl⟩)
    · skip
      refine v_iload_n C dX3_against_19 2 rfl ?_
      refine v_iconst (v := -1) C dX3_against_20 (by decide) ?_
      refine v_icmp_eq C 35 dX3_against_21 (by decide) (fun c21_3 => ?_) (fun c21_3 => ?_)
      · skip
        refine v_aload_n C dX3_against_35 0 rfl ?_
        refine v_iload_n C dX3_against_36 3 rfl ?_
        refine v_iconst (v := 3) C dX3_against_37 (by decide) ?_
        refine v_callVw C (m_of l g a _ _ _ _ _ _ _ b 3 _ _ rfl rfl (by omega)) ok_X3_of rfl q1241 rfl (Nat.le_of_ble_eq_true rfl) 0 rfl rfl rfl dX3_against_38 (roomL rfl rfl) ⟨rfl, rfl⟩ ?_
        refine v_if_le C 57 dX3_against_41 (by decide) (fun c41_4 => ?_) (fun c41_4 => ?_)
        · skip
          refine v_iload C dX3_against_57 6 rfl ?_
          refine v_aload_n C dX3_against_59 0 rfl ?_
          refine v_iload_n C dX3_against_60 3 rfl ?_
          refine v_iconst (v := 1) C dX3_against_61 (by decide) ?_
          refine v_callVw C (m_of l g a _ _ _ _ _ _ _ b 1 _ _ rfl rfl (by omega)) ok_X3_of rfl q1241 rfl (Nat.le_of_ble_eq_true rfl) 0 rfl rfl rfl dX3_against_62 (roomL rfl rfl) ⟨rfl, rfl⟩ ?_
          refine v_aload_n C dX3_against_65 0 rfl ?_
          refine v_iload_n C dX3_against_66 3 rfl ?_
          refine v_iconst (v := 2) C dX3_against_67 (by decide) ?_
          refine v_callVw C (m_of l g a _ _ _ _ _ _ _ b 2 _ _ rfl rfl (by omega)) ok_X3_of rfl q1241 rfl (Nat.le_of_ble_eq_true rfl) 0 rfl rfl rfl dX3_against_68 (roomL rfl rfl) ⟨rfl, rfl⟩ ?_
          refine v_callSp C (m_in l g _ _ _) ok_X3_in rfl q1218 rfl (Nat.le_of_ble_eq_true rfl) dX3_against_71 (roomL rfl rfl) ⟨rfl, rfl⟩ ?_
          refine v_if_neB C 79 dX3_against_74 (by decide) (fun c74_5 => ?_) (fun c74_5 => ?_)
          · skip
            refine v_iload C dX3_against_79 5 rfl ?_
            refine v_aload_n C dX3_against_81 0 rfl ?_
            refine v_iload_n C dX3_against_82 3 rfl ?_
            refine v_iconst (v := 0) C dX3_against_83 (by decide) ?_
            refine v_callVw C (m_of l g a _ _ _ _ _ _ _ b 0 _ _ rfl rfl (by omega)) ok_X3_of rfl q1241 rfl (Nat.le_of_ble_eq_true rfl) 0 rfl rfl rfl dX3_against_84 (roomL rfl rfl) ⟨rfl, rfl⟩ ?_
            refine v_aload_n C dX3_against_87 0 rfl ?_
            refine v_iload_n C dX3_against_88 3 rfl ?_
            refine v_iconst (v := 3) C dX3_against_89 (by decide) ?_
            refine v_callVw C (m_of l g a _ _ _ _ _ _ _ b 3 _ _ rfl rfl (by omega)) ok_X3_of rfl q1241 rfl (Nat.le_of_ble_eq_true rfl) 0 rfl rfl rfl dX3_against_90 (roomL rfl rfl) ⟨rfl, rfl⟩ ?_
            refine v_isub C dX3_against_93 ?_
            refine v_icmp_le C 99 dX3_against_94 (by decide) (fun c94_6 => ?_) (fun c94_6 => ?_)
            · skip
              refine v_aload_n C dX3_against_99 0 rfl ?_
              refine v_iload_n C dX3_against_100 3 rfl ?_
              refine v_callVw C (m_isSpoilt l g a _ _ _ _ _ _ _ b _ rfl (by omega)) ok_X3_isSpoilt rfl q1284 rfl (Nat.le_of_ble_eq_true rfl) 0 rfl rfl rfl dX3_against_101 (roomL rfl rfl) ⟨rfl, rfl⟩ ?_
              refine v_if_eqB C 112 dX3_against_104 (by decide) (fun c104_7 => ?_) (fun c104_7 => ?_)
              · skip
                refine v_iconst (v := 0) C dX3_against_112 (by decide) ?_
                exact v_iret C dX3_against_113 (Nat.le_of_ble_eq_true rfl) (Nat.le_of_ble_eq_true rfl) (by unfold p_against; (try unfold p_ag1 p_ag2); rw [if_neg c5_1, if_pos c16_2, if_pos c21_3, if_pos c41_4, if_pos c74_5, if_pos c94_6, if_neg c104_7]; exact ⟨rfl, rfl⟩)
              · skip
                refine v_bipush (v := 6) C dX3_against_107 (by decide) ?_
                refine v_goto C 113 dX3_against_109 (by decide) ?_
                exact v_iret C dX3_against_113 (Nat.le_of_ble_eq_true rfl) (Nat.le_of_ble_eq_true rfl) (by unfold p_against; (try unfold p_ag1 p_ag2); rw [if_neg c5_1, if_pos c16_2, if_pos c21_3, if_pos c41_4, if_pos c74_5, if_pos c94_6, if_pos c104_7]; exact ⟨rfl, rfl⟩)
            · skip
              refine v_iconst (v := 5) C dX3_against_97 (by decide) ?_
              exact v_iret C dX3_against_98 (Nat.le_of_ble_eq_true rfl) (Nat.le_of_ble_eq_true rfl) (by unfold p_against; (try unfold p_ag1 p_ag2); rw [if_neg c5_1, if_pos c16_2, if_pos c21_3, if_pos c41_4, if_pos c74_5, if_neg c94_6]; exact ⟨rfl, rfl⟩)
          · skip
            refine v_iconst (v := 4) C dX3_against_77 (by decide) ?_
            exact v_iret C dX3_against_78 (Nat.le_of_ble_eq_true rfl) (Nat.le_of_ble_eq_true rfl) (by unfold p_against; (try unfold p_ag1 p_ag2); rw [if_neg c5_1, if_pos c16_2, if_pos c21_3, if_pos c41_4, if_neg c74_5]; exact ⟨rfl, rfl⟩)
        · skip
          refine v_aload_n C dX3_against_44 0 rfl ?_
          refine v_iload_n C dX3_against_45 3 rfl ?_
          refine v_iconst (v := 5) C dX3_against_46 (by decide) ?_
          refine v_callVw C (m_of l g a _ _ _ _ _ _ _ b 5 _ _ rfl rfl (by omega)) ok_X3_of rfl q1241 rfl (Nat.le_of_ble_eq_true rfl) 0 rfl rfl rfl dX3_against_47 (roomL rfl rfl) ⟨rfl, rfl⟩ ?_
          refine v_iload C dX3_against_50 4 rfl ?_
          refine v_icmp_eq C 57 dX3_against_52 (by decide) (fun c52_8 => ?_) (fun c52_8 => ?_)
          · skip
            refine v_iload C dX3_against_57 6 rfl ?_
            refine v_aload_n C dX3_against_59 0 rfl ?_
            refine v_iload_n C dX3_against_60 3 rfl ?_
            refine v_iconst (v := 1) C dX3_against_61 (by decide) ?_
            refine v_callVw C (m_of l g a _ _ _ _ _ _ _ b 1 _ _ rfl rfl (by omega)) ok_X3_of rfl q1241 rfl (Nat.le_of_ble_eq_true rfl) 0 rfl rfl rfl dX3_against_62 (roomL rfl rfl) ⟨rfl, rfl⟩ ?_
            refine v_aload_n C dX3_against_65 0 rfl ?_
            refine v_iload_n C dX3_against_66 3 rfl ?_
            refine v_iconst (v := 2) C dX3_against_67 (by decide) ?_
            refine v_callVw C (m_of l g a _ _ _ _ _ _ _ b 2 _ _ rfl rfl (by omega)) ok_X3_of rfl q1241 rfl (Nat.le_of_ble_eq_true rfl) 0 rfl rfl rfl dX3_against_68 (roomL rfl rfl) ⟨rfl, rfl⟩ ?_
            refine v_callSp C (m_in l g _ _ _) ok_X3_in rfl q1218 rfl (Nat.le_of_ble_eq_true rfl) dX3_against_71 (roomL rfl rfl) ⟨rfl, rfl⟩ ?_
            refine v_if_neB C 79 dX3_against_74 (by decide) (fun c74_9 => ?_) (fun c74_9 => ?_)
            · skip
              refine v_iload C dX3_against_79 5 rfl ?_
              refine v_aload_n C dX3_against_81 0 rfl ?_
              refine v_iload_n C dX3_against_82 3 rfl ?_
              refine v_iconst (v := 0) C dX3_against_83 (by decide) ?_
              refine v_callVw C (m_of l g a _ _ _ _ _ _ _ b 0 _ _ rfl rfl (by omega)) ok_X3_of rfl q1241 rfl (Nat.le_of_ble_eq_true rfl) 0 rfl rfl rfl dX3_against_84 (roomL rfl rfl) ⟨rfl, rfl⟩ ?_
              refine v_aload_n C dX3_against_87 0 rfl ?_
              refine v_iload_n C dX3_against_88 3 rfl ?_
              refine v_iconst (v := 3) C dX3_against_89 (by decide) ?_
              refine v_callVw C (m_of l g a _ _ _ _ _ _ _ b 3 _ _ rfl rfl (by omega)) ok_X3_of rfl q1241 rfl (Nat.le_of_ble_eq_true rfl) 0 rfl rfl rfl dX3_against_90 (roomL rfl rfl) ⟨rfl, rfl⟩ ?_
              refine v_isub C dX3_against_93 ?_
              refine v_icmp_le C 99 dX3_against_94 (by decide) (fun c94_10 => ?_) (fun c94_10 => ?_)
              · skip
                refine v_aload_n C dX3_against_99 0 rfl ?_
                refine v_iload_n C dX3_against_100 3 rfl ?_
                refine v_callVw C (m_isSpoilt l g a _ _ _ _ _ _ _ b _ rfl (by omega)) ok_X3_isSpoilt rfl q1284 rfl (Nat.le_of_ble_eq_true rfl) 0 rfl rfl rfl dX3_against_101 (roomL rfl rfl) ⟨rfl, rfl⟩ ?_
                refine v_if_eqB C 112 dX3_against_104 (by decide) (fun c104_11 => ?_) (fun c104_11 => ?_)
                · skip
                  refine v_iconst (v := 0) C dX3_against_112 (by decide) ?_
                  exact v_iret C dX3_against_113 (Nat.le_of_ble_eq_true rfl) (Nat.le_of_ble_eq_true rfl) (by unfold p_against; (try unfold p_ag1 p_ag2); rw [if_neg c5_1, if_pos c16_2, if_pos c21_3, if_neg c41_4, if_pos c52_8, if_pos c74_9, if_pos c94_10, if_neg c104_11]; exact ⟨rfl, rfl⟩)
                · skip
                  refine v_bipush (v := 6) C dX3_against_107 (by decide) ?_
                  refine v_goto C 113 dX3_against_109 (by decide) ?_
                  exact v_iret C dX3_against_113 (Nat.le_of_ble_eq_true rfl) (Nat.le_of_ble_eq_true rfl) (by unfold p_against; (try unfold p_ag1 p_ag2); rw [if_neg c5_1, if_pos c16_2, if_pos c21_3, if_neg c41_4, if_pos c52_8, if_pos c74_9, if_pos c94_10, if_pos c104_11]; exact ⟨rfl, rfl⟩)
              · skip
                refine v_iconst (v := 5) C dX3_against_97 (by decide) ?_
                exact v_iret C dX3_against_98 (Nat.le_of_ble_eq_true rfl) (Nat.le_of_ble_eq_true rfl) (by unfold p_against; (try unfold p_ag1 p_ag2); rw [if_neg c5_1, if_pos c16_2, if_pos c21_3, if_neg c41_4, if_pos c52_8, if_pos c74_9, if_neg c94_10]; exact ⟨rfl, rfl⟩)
            · skip
              refine v_iconst (v := 4) C dX3_against_77 (by decide) ?_
              exact v_iret C dX3_against_78 (Nat.le_of_ble_eq_true rfl) (Nat.le_of_ble_eq_true rfl) (by unfold p_against; (try unfold p_ag1 p_ag2); rw [if_neg c5_1, if_pos c16_2, if_pos c21_3, if_neg c41_4, if_pos c52_8, if_neg c74_9]; exact ⟨rfl, rfl⟩)
          · skip
            refine v_iconst (v := 3) C dX3_against_55 (by decide) ?_
            exact v_iret C dX3_against_56 (Nat.le_of_ble_eq_true rfl) (Nat.le_of_ble_eq_true rfl) (by unfold p_against; (try unfold p_ag1 p_ag2); rw [if_neg c5_1, if_pos c16_2, if_pos c21_3, if_neg c41_4, if_neg c52_8]; exact ⟨rfl, rfl⟩)
      · skip
        refine v_aload_n C dX3_against_24 0 rfl ?_
        refine v_iload_n C dX3_against_25 1 rfl ?_
        refine v_iload_n C dX3_against_26 2 rfl ?_
        refine v_callVw C (m_leads l g a _ _ _ _ _ _ _ lg _ _ rfl (by omega)) ok_X3_leads rfl q1265 rfl (Nat.le_of_ble_eq_true rfl) 0 rfl rfl rfl dX3_against_27 (roomL rfl rfl) ⟨rfl, rfl⟩ ?_
        refine v_if_neB C 35 dX3_against_30 (by decide) (fun c30_12 => ?_) (fun c30_12 => ?_)
        · skip
          refine v_aload_n C dX3_against_35 0 rfl ?_
          refine v_iload_n C dX3_against_36 3 rfl ?_
          refine v_iconst (v := 3) C dX3_against_37 (by decide) ?_
          refine v_callVw C (m_of l g a _ _ _ _ _ _ _ b 3 _ _ rfl rfl (by omega)) ok_X3_of rfl q1241 rfl (Nat.le_of_ble_eq_true rfl) 0 rfl rfl rfl dX3_against_38 (roomL rfl rfl) ⟨rfl, rfl⟩ ?_
          refine v_if_le C 57 dX3_against_41 (by decide) (fun c41_13 => ?_) (fun c41_13 => ?_)
          · skip
            refine v_iload C dX3_against_57 6 rfl ?_
            refine v_aload_n C dX3_against_59 0 rfl ?_
            refine v_iload_n C dX3_against_60 3 rfl ?_
            refine v_iconst (v := 1) C dX3_against_61 (by decide) ?_
            refine v_callVw C (m_of l g a _ _ _ _ _ _ _ b 1 _ _ rfl rfl (by omega)) ok_X3_of rfl q1241 rfl (Nat.le_of_ble_eq_true rfl) 0 rfl rfl rfl dX3_against_62 (roomL rfl rfl) ⟨rfl, rfl⟩ ?_
            refine v_aload_n C dX3_against_65 0 rfl ?_
            refine v_iload_n C dX3_against_66 3 rfl ?_
            refine v_iconst (v := 2) C dX3_against_67 (by decide) ?_
            refine v_callVw C (m_of l g a _ _ _ _ _ _ _ b 2 _ _ rfl rfl (by omega)) ok_X3_of rfl q1241 rfl (Nat.le_of_ble_eq_true rfl) 0 rfl rfl rfl dX3_against_68 (roomL rfl rfl) ⟨rfl, rfl⟩ ?_
            refine v_callSp C (m_in l g _ _ _) ok_X3_in rfl q1218 rfl (Nat.le_of_ble_eq_true rfl) dX3_against_71 (roomL rfl rfl) ⟨rfl, rfl⟩ ?_
            refine v_if_neB C 79 dX3_against_74 (by decide) (fun c74_14 => ?_) (fun c74_14 => ?_)
            · skip
              refine v_iload C dX3_against_79 5 rfl ?_
              refine v_aload_n C dX3_against_81 0 rfl ?_
              refine v_iload_n C dX3_against_82 3 rfl ?_
              refine v_iconst (v := 0) C dX3_against_83 (by decide) ?_
              refine v_callVw C (m_of l g a _ _ _ _ _ _ _ b 0 _ _ rfl rfl (by omega)) ok_X3_of rfl q1241 rfl (Nat.le_of_ble_eq_true rfl) 0 rfl rfl rfl dX3_against_84 (roomL rfl rfl) ⟨rfl, rfl⟩ ?_
              refine v_aload_n C dX3_against_87 0 rfl ?_
              refine v_iload_n C dX3_against_88 3 rfl ?_
              refine v_iconst (v := 3) C dX3_against_89 (by decide) ?_
              refine v_callVw C (m_of l g a _ _ _ _ _ _ _ b 3 _ _ rfl rfl (by omega)) ok_X3_of rfl q1241 rfl (Nat.le_of_ble_eq_true rfl) 0 rfl rfl rfl dX3_against_90 (roomL rfl rfl) ⟨rfl, rfl⟩ ?_
              refine v_isub C dX3_against_93 ?_
              refine v_icmp_le C 99 dX3_against_94 (by decide) (fun c94_15 => ?_) (fun c94_15 => ?_)
              · skip
                refine v_aload_n C dX3_against_99 0 rfl ?_
                refine v_iload_n C dX3_against_100 3 rfl ?_
                refine v_callVw C (m_isSpoilt l g a _ _ _ _ _ _ _ b _ rfl (by omega)) ok_X3_isSpoilt rfl q1284 rfl (Nat.le_of_ble_eq_true rfl) 0 rfl rfl rfl dX3_against_101 (roomL rfl rfl) ⟨rfl, rfl⟩ ?_
                refine v_if_eqB C 112 dX3_against_104 (by decide) (fun c104_16 => ?_) (fun c104_16 => ?_)
                · skip
                  refine v_iconst (v := 0) C dX3_against_112 (by decide) ?_
                  exact v_iret C dX3_against_113 (Nat.le_of_ble_eq_true rfl) (Nat.le_of_ble_eq_true rfl) (by unfold p_against; (try unfold p_ag1 p_ag2); rw [if_neg c5_1, if_pos c16_2, if_neg c21_3, if_pos c30_12, if_pos c41_13, if_pos c74_14, if_pos c94_15, if_neg c104_16]; exact ⟨rfl, rfl⟩)
                · skip
                  refine v_bipush (v := 6) C dX3_against_107 (by decide) ?_
                  refine v_goto C 113 dX3_against_109 (by decide) ?_
                  exact v_iret C dX3_against_113 (Nat.le_of_ble_eq_true rfl) (Nat.le_of_ble_eq_true rfl) (by unfold p_against; (try unfold p_ag1 p_ag2); rw [if_neg c5_1, if_pos c16_2, if_neg c21_3, if_pos c30_12, if_pos c41_13, if_pos c74_14, if_pos c94_15, if_pos c104_16]; exact ⟨rfl, rfl⟩)
              · skip
                refine v_iconst (v := 5) C dX3_against_97 (by decide) ?_
                exact v_iret C dX3_against_98 (Nat.le_of_ble_eq_true rfl) (Nat.le_of_ble_eq_true rfl) (by unfold p_against; (try unfold p_ag1 p_ag2); rw [if_neg c5_1, if_pos c16_2, if_neg c21_3, if_pos c30_12, if_pos c41_13, if_pos c74_14, if_neg c94_15]; exact ⟨rfl, rfl⟩)
            · skip
              refine v_iconst (v := 4) C dX3_against_77 (by decide) ?_
              exact v_iret C dX3_against_78 (Nat.le_of_ble_eq_true rfl) (Nat.le_of_ble_eq_true rfl) (by unfold p_against; (try unfold p_ag1 p_ag2); rw [if_neg c5_1, if_pos c16_2, if_neg c21_3, if_pos c30_12, if_pos c41_13, if_neg c74_14]; exact ⟨rfl, rfl⟩)
          · skip
            refine v_aload_n C dX3_against_44 0 rfl ?_
            refine v_iload_n C dX3_against_45 3 rfl ?_
            refine v_iconst (v := 5) C dX3_against_46 (by decide) ?_
            refine v_callVw C (m_of l g a _ _ _ _ _ _ _ b 5 _ _ rfl rfl (by omega)) ok_X3_of rfl q1241 rfl (Nat.le_of_ble_eq_true rfl) 0 rfl rfl rfl dX3_against_47 (roomL rfl rfl) ⟨rfl, rfl⟩ ?_
            refine v_iload C dX3_against_50 4 rfl ?_
            refine v_icmp_eq C 57 dX3_against_52 (by decide) (fun c52_17 => ?_) (fun c52_17 => ?_)
            · skip
              refine v_iload C dX3_against_57 6 rfl ?_
              refine v_aload_n C dX3_against_59 0 rfl ?_
              refine v_iload_n C dX3_against_60 3 rfl ?_
              refine v_iconst (v := 1) C dX3_against_61 (by decide) ?_
              refine v_callVw C (m_of l g a _ _ _ _ _ _ _ b 1 _ _ rfl rfl (by omega)) ok_X3_of rfl q1241 rfl (Nat.le_of_ble_eq_true rfl) 0 rfl rfl rfl dX3_against_62 (roomL rfl rfl) ⟨rfl, rfl⟩ ?_
              refine v_aload_n C dX3_against_65 0 rfl ?_
              refine v_iload_n C dX3_against_66 3 rfl ?_
              refine v_iconst (v := 2) C dX3_against_67 (by decide) ?_
              refine v_callVw C (m_of l g a _ _ _ _ _ _ _ b 2 _ _ rfl rfl (by omega)) ok_X3_of rfl q1241 rfl (Nat.le_of_ble_eq_true rfl) 0 rfl rfl rfl dX3_against_68 (roomL rfl rfl) ⟨rfl, rfl⟩ ?_
              refine v_callSp C (m_in l g _ _ _) ok_X3_in rfl q1218 rfl (Nat.le_of_ble_eq_true rfl) dX3_against_71 (roomL rfl rfl) ⟨rfl, rfl⟩ ?_
              refine v_if_neB C 79 dX3_against_74 (by decide) (fun c74_18 => ?_) (fun c74_18 => ?_)
              · skip
                refine v_iload C dX3_against_79 5 rfl ?_
                refine v_aload_n C dX3_against_81 0 rfl ?_
                refine v_iload_n C dX3_against_82 3 rfl ?_
                refine v_iconst (v := 0) C dX3_against_83 (by decide) ?_
                refine v_callVw C (m_of l g a _ _ _ _ _ _ _ b 0 _ _ rfl rfl (by omega)) ok_X3_of rfl q1241 rfl (Nat.le_of_ble_eq_true rfl) 0 rfl rfl rfl dX3_against_84 (roomL rfl rfl) ⟨rfl, rfl⟩ ?_
                refine v_aload_n C dX3_against_87 0 rfl ?_
                refine v_iload_n C dX3_against_88 3 rfl ?_
                refine v_iconst (v := 3) C dX3_against_89 (by decide) ?_
                refine v_callVw C (m_of l g a _ _ _ _ _ _ _ b 3 _ _ rfl rfl (by omega)) ok_X3_of rfl q1241 rfl (Nat.le_of_ble_eq_true rfl) 0 rfl rfl rfl dX3_against_90 (roomL rfl rfl) ⟨rfl, rfl⟩ ?_
                refine v_isub C dX3_against_93 ?_
                refine v_icmp_le C 99 dX3_against_94 (by decide) (fun c94_19 => ?_) (fun c94_19 => ?_)
                · skip
                  refine v_aload_n C dX3_against_99 0 rfl ?_
                  refine v_iload_n C dX3_against_100 3 rfl ?_
                  refine v_callVw C (m_isSpoilt l g a _ _ _ _ _ _ _ b _ rfl (by omega)) ok_X3_isSpoilt rfl q1284 rfl (Nat.le_of_ble_eq_true rfl) 0 rfl rfl rfl dX3_against_101 (roomL rfl rfl) ⟨rfl, rfl⟩ ?_
                  refine v_if_eqB C 112 dX3_against_104 (by decide) (fun c104_20 => ?_) (fun c104_20 => ?_)
                  · skip
                    refine v_iconst (v := 0) C dX3_against_112 (by decide) ?_
                    exact v_iret C dX3_against_113 (Nat.le_of_ble_eq_true rfl) (Nat.le_of_ble_eq_true rfl) (by unfold p_against; (try unfold p_ag1 p_ag2); rw [if_neg c5_1, if_pos c16_2, if_neg c21_3, if_pos c30_12, if_neg c41_13, if_pos c52_17, if_pos c74_18, if_pos c94_19, if_neg c104_20]; exact ⟨rfl, rfl⟩)
                  · skip
                    refine v_bipush (v := 6) C dX3_against_107 (by decide) ?_
                    refine v_goto C 113 dX3_against_109 (by decide) ?_
                    exact v_iret C dX3_against_113 (Nat.le_of_ble_eq_true rfl) (Nat.le_of_ble_eq_true rfl) (by unfold p_against; (try unfold p_ag1 p_ag2); rw [if_neg c5_1, if_pos c16_2, if_neg c21_3, if_pos c30_12, if_neg c41_13, if_pos c52_17, if_pos c74_18, if_pos c94_19, if_pos c104_20]; exact ⟨rfl, rfl⟩)
                · skip
                  refine v_iconst (v := 5) C dX3_against_97 (by decide) ?_
                  exact v_iret C dX3_against_98 (Nat.le_of_ble_eq_true rfl) (Nat.le_of_ble_eq_true rfl) (by unfold p_against; (try unfold p_ag1 p_ag2); rw [if_neg c5_1, if_pos c16_2, if_neg c21_3, if_pos c30_12, if_neg c41_13, if_pos c52_17, if_pos c74_18, if_neg c94_19]; exact ⟨rfl, rfl⟩)
              · skip
                refine v_iconst (v := 4) C dX3_against_77 (by decide) ?_
                exact v_iret C dX3_against_78 (Nat.le_of_ble_eq_true rfl) (Nat.le_of_ble_eq_true rfl) (by unfold p_against; (try unfold p_ag1 p_ag2); rw [if_neg c5_1, if_pos c16_2, if_neg c21_3, if_pos c30_12, if_neg c41_13, if_pos c52_17, if_neg c74_18]; exact ⟨rfl, rfl⟩)
            · skip
              refine v_iconst (v := 3) C dX3_against_55 (by decide) ?_
              exact v_iret C dX3_against_56 (Nat.le_of_ble_eq_true rfl) (Nat.le_of_ble_eq_true rfl) (by unfold p_against; (try unfold p_ag1 p_ag2); rw [if_neg c5_1, if_pos c16_2, if_neg c21_3, if_pos c30_12, if_neg c41_13, if_neg c52_17]; exact ⟨rfl, rfl⟩)
        · skip
          refine v_iconst (v := 2) C dX3_against_33 (by decide) ?_
          exact v_iret C dX3_against_34 (Nat.le_of_ble_eq_true rfl) (Nat.le_of_ble_eq_true rfl) (by unfold p_against; (try unfold p_ag1 p_ag2); rw [if_neg c5_1, if_pos c16_2, if_neg c21_3, if_neg c30_12]; exact ⟨rfl, rfl⟩)
  · skip
    refine v_iconst (v := 1) C dX3_against_8 (by decide) ?_
    exact v_iret C dX3_against_9 (Nat.le_of_ble_eq_true rfl) (Nat.le_of_ble_eq_true rfl) (by unfold p_against; (try unfold p_ag1 p_ag2); rw [if_pos c5_1]; exact ⟨rfl, rfl⟩)
def M_X3_refuses : Md := (yX3_refuses, cX3_refuses, 2, (some .int), 1, 40, 0, 0)
theorem ok_X3_refuses : MOKv M_X3_refuses 1 := ⟨q1346, qs60, q103, q1347, ⟨by decide +kernel, by decide +kernel, by decide +kernel⟩⟩
set_option maxHeartbeats 4000000 in
theorem m_refuses (l : Launch) (g : GT) (a : Nat → Nat) (row : Nat → Int32) (books : Nat → Int64) (S : Int32 × (Nat → Int32)) (B : (Nat → Int32) × Int32 × (Nat → Int32)) (T : (Nat → Int32) × Int32) (P : Int32 × Int32 × (Nat → Int32) × Int32 × Int32) (h : Int64) (why : Int32) : CtE l g M_X3_refuses [.ref (a 0), .int why] (mw g a row books S B T P h) (some (.int (-4))) (mw g a (upd row 5 why) books S B T P h) := by
  refine Ct.start2 (M := M_X3_refuses) rfl [(0, .ref (a 0)), (1, .int why)] rfl (by decide +kernel) (Nat.le_of_ble_eq_true rfl) ?_
  intro p e s m args below meth c A C
  refine v_aload_n C dX3_refuses_0 0 rfl ?_
  refine v_get C in_X3 rfl 0 rfl 0 (by decide) q1166 (fun _ h => h) rfl dX3_refuses_1 ?_
  refine v_iconst (v := 5) C dX3_refuses_4 (by decide) ?_
  refine v_iload_n C dX3_refuses_5 1 rfl ?_
  refine v_iast (ws' := mw g a _ _ _ _ _ _ _) C dX3_refuses_6 1 rfl (j := 5) (ixl rfl) rfl ?_
  refine v_bipush (v := -4) C dX3_refuses_7 (by decide) ?_
  exact v_iret C dX3_refuses_9 (Nat.le_of_ble_eq_true rfl) (Nat.le_of_ble_eq_true rfl) ⟨rfl, rfl⟩
def M_X3_isTruck : Md := (yX3_isTruck, cX3_isTruck, 2, (some .boolean), 2, 62, 0, 0)
theorem ok_X3_isTruck : MOKs M_X3_isTruck 2 := ⟨q1338, q103, q1339, ⟨by decide +kernel, by decide +kernel, by decide +kernel⟩⟩
set_option maxHeartbeats 4000000 in
theorem m_isTruck (l : Launch) (g : GT) (amt moist : Int32) : CtE l g M_X3_isTruck [.int amt, .int moist] [] (some (.int (bI (q_truck amt moist)))) [] := by
  refine Ct.start2 (M := M_X3_isTruck) rfl [(0, .int amt), (1, .int moist)] rfl (by decide +kernel) (Nat.le_of_ble_eq_true rfl) ?_
  intro p e s m args below meth c A C
  refine v_iload_n C dX3_isTruck_0 0 rfl ?_
  refine v_iconst (v := 1) C dX3_isTruck_1 (by decide) ?_
  refine v_sipush (v := 5000) C dX3_isTruck_2 (by decide) ?_
  refine v_callSp C (m_in l g _ _ _) ok_X3_in rfl q1218 rfl (Nat.le_of_ble_eq_true rfl) dX3_isTruck_5 (roomL rfl rfl) ⟨rfl, rfl⟩ ?_
  refine v_if_eqB C 27 dX3_isTruck_8 (by decide) (fun c8_1 => ?_) (fun c8_1 => ?_)
  · skip
    refine v_iconst (v := 0) C dX3_isTruck_27 (by decide) ?_
    exact v_zret C rfl dX3_isTruck_28 (Nat.le_of_ble_eq_true rfl) (Nat.le_of_ble_eq_true rfl) ⟨si (bI_and0 c8_1), rfl⟩
  · skip
    refine v_iload_n C dX3_isTruck_11 1 rfl ?_
    refine v_bipush (v := 50) C dX3_isTruck_12 (by decide) ?_
    refine v_sipush (v := 400) C dX3_isTruck_14 (by decide) ?_
    refine v_callSp C (m_in l g _ _ _) ok_X3_in rfl q1218 rfl (Nat.le_of_ble_eq_true rfl) dX3_isTruck_17 (roomL rfl rfl) ⟨rfl, rfl⟩ ?_
    refine v_ternB C 27 28 dX3_isTruck_20 dX3_isTruck_23 dX3_isTruck_24 dX3_isTruck_27 (by decide) (by decide) rfl ?_
    exact v_zret C (bI_nar _) dX3_isTruck_28 (Nat.le_of_ble_eq_true rfl) (Nat.le_of_ble_eq_true rfl) ⟨si (bI_and1 c8_1), rfl⟩
def M_X3_cannotReceive : Md := (yX3_cannotReceive, cX3_cannotReceive, 7, (some .int), 4, 110, 0, 0)
theorem ok_X3_cannotReceive : MOKv M_X3_cannotReceive 5 := ⟨q1335, qs58, q103, q1336, ⟨by decide +kernel, by decide +kernel, by decide +kernel⟩⟩
set_option maxHeartbeats 4000000 in
theorem m_cannotReceive (l : Launch) (g : GT) (a : Nat → Nat) (row : Nat → Int32) (books : Nat → Int64) (S : Int32 × (Nat → Int32)) (B : (Nat → Int32) × Int32 × (Nat → Int32)) (T : (Nat → Int32) × Int32) (P : Int32 × Int32 × (Nat → Int32) × Int32 × Int32) (h : Int64) (nb nl : Nat) (hnb : row 2 = nI nb) (hb8 : nb ≤ 8) (hnl : row 3 = nI nl) (hl3 : nl ≤ 3) (hsp : ∀ l, l < nl → ¬ row (82 + 4 * l + 0) = 0) (leg bin kind amt moist : Int32) : CtE l g M_X3_cannotReceive [.ref (a 0), .int leg, .int bin, .int kind, .int amt, .int moist] (mw g a row books S B T P h) (some (.int (p_cannotReceive row leg bin kind amt moist).1)) (mw g a (p_cannotReceive row leg bin kind amt moist).2 books S B T P h) := by
  refine Ct.start2 (M := M_X3_cannotReceive) rfl [(0, .ref (a 0)), (1, .int leg), (2, .int bin), (3, .int kind), (4, .int amt), (5, .int moist)] rfl (by decide +kernel) (Nat.le_of_ble_eq_true rfl) ?_
  intro p e s m args below meth c A C
  refine v_aload_n C dX3_cannotReceive_0 0 rfl ?_
  refine v_iload_n C dX3_cannotReceive_1 1 rfl ?_
  refine v_callVw C (m_isLeg l g a _ _ _ _ _ _ _ _) ok_X3_isLeg rfl q1253 rfl (Nat.le_of_ble_eq_true rfl) 0 rfl rfl rfl dX3_cannotReceive_2 (roomL rfl rfl) ⟨rfl, rfl⟩ ?_
  refine v_if_eqB C 23 dX3_cannotReceive_5 (by decide) (fun c5_1 => ?_) (fun c5_1 => ?_)
  · skip
    refine v_bipush (v := -2) C dX3_cannotReceive_23 (by decide) ?_
    exact v_iret C dX3_cannotReceive_25 (Nat.le_of_ble_eq_true rfl) (Nat.le_of_ble_eq_true rfl) (by unfold p_cannotReceive; (try dsimp only); rw [if_neg c5_1]; exact ⟨rfl, rfl⟩)
  · skip
    obtain ⟨el, hl⟩ := isB_c hnl (by omega) c5_1
    refine v_aload_n C dX3_cannotReceive_8 0 rfl ?_
    refine v_iload_n C dX3_cannotReceive_9 2 rfl ?_
    refine v_callVw C (m_isBin l g a _ _ _ _ _ _ _ _) ok_X3_isBin rfl q1237 rfl (Nat.le_of_ble_eq_true rfl) 0 rfl rfl rfl dX3_cannotReceive_10 (roomL rfl rfl) ⟨rfl, rfl⟩ ?_
    refine v_if_eqB C 23 dX3_cannotReceive_13 (by decide) (fun c13_2 => ?_) (fun c13_2 => ?_)
    · skip
      refine v_bipush (v := -2) C dX3_cannotReceive_23 (by decide) ?_
      exact v_iret C dX3_cannotReceive_25 (Nat.le_of_ble_eq_true rfl) (Nat.le_of_ble_eq_true rfl) (by unfold p_cannotReceive; (try dsimp only); rw [if_pos c5_1, if_neg c13_2]; exact ⟨rfl, rfl⟩)
    · skip
      obtain ⟨eb, hb⟩ := isB_c hnb (by omega) c13_2
      refine v_iload_n C dX3_cannotReceive_16 3 rfl ?_
      refine v_callSp C (m_isClass l g _) ok_X3_isClass rfl q1273 rfl (Nat.le_of_ble_eq_true rfl) dX3_cannotReceive_17 (roomL rfl rfl) ⟨rfl, rfl⟩ ?_
      refine v_if_neB C 26 dX3_cannotReceive_20 (by decide) (fun c20_3 => ?_) (fun c20_3 => ?_)
      · skip
        refine v_iload C dX3_cannotReceive_26 4 rfl ?_
        refine v_iload C dX3_cannotReceive_28 5 rfl ?_
        refine v_callSp C (m_isTruck l g _ _) ok_X3_isTruck rfl q1337 rfl (Nat.le_of_ble_eq_true rfl) dX3_cannotReceive_30 (roomL rfl rfl) ⟨rfl, rfl⟩ ?_
        refine v_if_neB C 39 dX3_cannotReceive_33 (by decide) (fun c33_4 => ?_) (fun c33_4 => ?_)
        · skip
          refine v_aload_n C dX3_cannotReceive_39 0 rfl ?_
          refine v_iload_n C dX3_cannotReceive_40 1 rfl ?_
          refine v_eqi el ?_
          refine v_iconst (v := -1) C dX3_cannotReceive_41 (by decide) ?_
          refine v_iload_n C dX3_cannotReceive_42 2 rfl ?_
          refine v_eqi eb ?_
          refine v_iload_n C dX3_cannotReceive_43 3 rfl ?_
          refine v_iload C dX3_cannotReceive_44 4 rfl ?_
          refine v_iload C dX3_cannotReceive_46 5 rfl ?_
          refine v_callVw C (m_against l g a _ _ _ _ _ _ _ (leg.toNatClampNeg) (bin.toNatClampNeg) _ _ _ _ _ _ rfl rfl (by omega) (by omega)) ok_X3_against rfl q1340 rfl (Nat.le_of_ble_eq_true rfl) 0 rfl rfl rfl dX3_cannotReceive_48 (roomL rfl rfl) ⟨rfl, rfl⟩ ?_
          refine v_istore (lv' := [(6, _), (0, _), (1, _), (2, _), (3, _), (4, _), (5, _)]) C dX3_cannotReceive_51 (by decide) rfl ?_
          refine v_iload C dX3_cannotReceive_53 0 rfl ?_
          refine v_if_le C 65 dX3_cannotReceive_55 (by decide) (fun c55_5 => ?_) (fun c55_5 => ?_)
          · skip
            refine v_aload_n C dX3_cannotReceive_65 1 rfl ?_
            refine v_get C in_X3 rfl 0 rfl 0 (by decide) q1166 (fun _ h => h) rfl dX3_cannotReceive_66 ?_
            refine v_iconst (v := 0) C dX3_cannotReceive_69 (by decide) ?_
            refine v_iald C dX3_cannotReceive_70 1 rfl (j := 0) (ixl rfl) ?_
            refine v_iload C dX3_cannotReceive_71 5 rfl ?_
            refine v_aload_n C dX3_cannotReceive_73 1 rfl ?_
            refine v_iload_n C dX3_cannotReceive_74 2 rfl ?_
            refine v_eqi el ?_
            refine v_iconst (v := 0) C dX3_cannotReceive_75 (by decide) ?_
            refine v_callVw C (m_ofLeg l g a _ _ _ _ _ _ _ (leg.toNatClampNeg) 0 _ _ rfl rfl (by omega)) ok_X3_ofLeg rfl q1257 rfl (Nat.le_of_ble_eq_true rfl) 0 rfl rfl rfl dX3_cannotReceive_76 (roomL rfl rfl) ⟨rfl, rfl⟩ ?_
            have hsp1 := hsp _ hl
            refine v_callSp C (m_minutes l g _ _ hsp1) ok_X3_minutes rfl q1348 rfl (Nat.le_of_ble_eq_true rfl) dX3_cannotReceive_79 (roomL rfl rfl) ⟨rfl, rfl⟩ ?_
            refine v_iadd C dX3_cannotReceive_82 ?_
            refine v_ldc C dX3_cannotReceive_83 q1351 ?_
            refine v_icmp_le C 93 dX3_cannotReceive_85 (by decide) (fun c85_6 => ?_) (fun c85_6 => ?_)
            · skip
              refine v_iconst (v := 0) C dX3_cannotReceive_93 (by decide) ?_
              exact v_iret C dX3_cannotReceive_94 (Nat.le_of_ble_eq_true rfl) (Nat.le_of_ble_eq_true rfl) (by unfold p_cannotReceive; (try dsimp only); rw [if_pos c5_1, if_pos c13_2, if_pos c20_3, if_pos c33_4, if_pos c55_5, if_pos c85_6]; exact ⟨rfl, rfl⟩)
            · skip
              refine v_bipush (v := -5) C dX3_cannotReceive_88 (by decide) ?_
              refine v_goto C 94 dX3_cannotReceive_90 (by decide) ?_
              exact v_iret C dX3_cannotReceive_94 (Nat.le_of_ble_eq_true rfl) (Nat.le_of_ble_eq_true rfl) (by unfold p_cannotReceive; (try dsimp only); rw [if_pos c5_1, if_pos c13_2, if_pos c20_3, if_pos c33_4, if_pos c55_5, if_neg c85_6]; exact ⟨rfl, rfl⟩)
          · skip
            refine v_aload_n C dX3_cannotReceive_58 1 rfl ?_
            refine v_iload C dX3_cannotReceive_59 0 rfl ?_
            refine v_callVw C (m_refuses l g a _ _ _ _ _ _ _ _) ok_X3_refuses rfl q1344 rfl (Nat.le_of_ble_eq_true rfl) 0 rfl rfl rfl dX3_cannotReceive_61 (roomL rfl rfl) ⟨rfl, rfl⟩ ?_
            exact v_iret C dX3_cannotReceive_64 (Nat.le_of_ble_eq_true rfl) (Nat.le_of_ble_eq_true rfl) (by unfold p_cannotReceive; (try dsimp only); rw [if_pos c5_1, if_pos c13_2, if_pos c20_3, if_pos c33_4, if_neg c55_5]; exact ⟨rfl, rfl⟩)
        · skip
          refine v_bipush (v := -3) C dX3_cannotReceive_36 (by decide) ?_
          exact v_iret C dX3_cannotReceive_38 (Nat.le_of_ble_eq_true rfl) (Nat.le_of_ble_eq_true rfl) (by unfold p_cannotReceive; (try dsimp only); rw [if_pos c5_1, if_pos c13_2, if_pos c20_3, if_neg c33_4]; exact ⟨rfl, rfl⟩)
      · skip
        refine v_bipush (v := -2) C dX3_cannotReceive_23 (by decide) ?_
        exact v_iret C dX3_cannotReceive_25 (Nat.le_of_ble_eq_true rfl) (Nat.le_of_ble_eq_true rfl) (by unfold p_cannotReceive; (try dsimp only); rw [if_pos c5_1, if_pos c13_2, if_neg c20_3]; exact ⟨rfl, rfl⟩)
def M_X3_receives : Md := (yX3_receives, cX3_receives, 8, (some .int), 4, 107, 0, 0)
theorem ok_X3_receives : MOKv M_X3_receives 5 := ⟨q1354, qs61, q103, q1355, ⟨by decide +kernel, by decide +kernel, by decide +kernel⟩⟩
set_option maxHeartbeats 4000000 in
theorem m_receives (l : Launch) (g : GT) (a : Nat → Nat) (row : Nat → Int32) (books : Nat → Int64) (S : Int32 × (Nat → Int32)) (B : (Nat → Int32) × Int32 × (Nat → Int32)) (T : (Nat → Int32) × Int32) (P : Int32 × Int32 × (Nat → Int32) × Int32 × Int32) (h : Int64) (nb : Nat) (hnb : row 2 = nI nb) (hb8 : nb ≤ 8) (lg b : Nat) (li bi kind amt moist : Int32) (el : li = nI lg) (eb : bi = nI b) (hl : lg < 3) (hb : b < 8) (ek : kind = nI kind.toNatClampNeg) (hk : kind.toNatClampNeg ≤ 3) (hsp1 : ¬ row (82 + 4 * lg + 0) = 0) (ha : ¬ amt = 0) : CtE l g M_X3_receives [.ref (a 0), .int li, .int bi, .int kind, .int amt, .int moist] (mw g a row books S B T P h) (some (.int (p_receives row books nb lg b kind amt moist).1)) (mw g a (p_receives row books nb lg b kind amt moist).2.1 (p_receives row books nb lg b kind amt moist).2.2 S B T P h) := by
  refine Ct.start2 (M := M_X3_receives) rfl [(0, .ref (a 0)), (1, .int li), (2, .int bi), (3, .int kind), (4, .int amt), (5, .int moist)] rfl (by decide +kernel) (Nat.le_of_ble_eq_true rfl) ?_
  intro p e s m args below meth c A C
  subst el; subst eb
  refine v_aload_n C dX3_receives_0 0 rfl ?_
  refine v_iload C dX3_receives_1 4 rfl ?_
  refine v_aload_n C dX3_receives_3 0 rfl ?_
  refine v_iload_n C dX3_receives_4 1 rfl ?_
  refine v_iconst (v := 0) C dX3_receives_5 (by decide) ?_
  refine v_callVw C (m_ofLeg l g a _ _ _ _ _ _ _ lg 0 _ _ rfl rfl (by omega)) ok_X3_ofLeg rfl q1257 rfl (Nat.le_of_ble_eq_true rfl) 0 rfl rfl rfl dX3_receives_6 (roomL rfl rfl) ⟨rfl, rfl⟩ ?_
  refine v_callSp C (m_minutes l g _ _ hsp1) ok_X3_minutes rfl q1348 rfl (Nat.le_of_ble_eq_true rfl) dX3_receives_9 (roomL rfl rfl) ⟨rfl, rfl⟩ ?_
  refine v_callVv C (m_passes l g a _ _ _ _ _ _ _ nb (by assumption) hb8 _) ok_X3_passes rfl q1356 rfl (Nat.le_of_ble_eq_true rfl) 0 rfl rfl rfl dX3_receives_12 (roomL rfl rfl) ⟨rfl, rfl⟩ ?_
  refine v_aload_n C dX3_receives_15 0 rfl ?_
  refine v_iload_n C dX3_receives_16 2 rfl ?_
  refine v_iload_n C dX3_receives_17 3 rfl ?_
  refine v_iload C dX3_receives_18 4 rfl ?_
  refine v_iload C dX3_receives_20 4 rfl ?_
  refine v_iload C dX3_receives_22 5 rfl ?_
  refine v_imul C dX3_receives_24 ?_
  refine v_callVv C (m_brings l g a _ _ _ _ _ _ _ b _ _ _ _ rfl (by omega)) ok_X3_brings rfl q1360 rfl (Nat.le_of_ble_eq_true rfl) 0 rfl rfl rfl dX3_receives_25 (roomL rfl rfl) ⟨rfl, rfl⟩ ?_
  refine v_aload_n C dX3_receives_28 0 rfl ?_
  refine v_iload_n C dX3_receives_29 1 rfl ?_
  refine v_iload C dX3_receives_30 4 rfl ?_
  refine v_iload C dX3_receives_32 4 rfl ?_
  refine v_iload C dX3_receives_34 5 rfl ?_
  refine v_imul C dX3_receives_36 ?_
  refine v_callVv C (m_dusts l g a _ _ _ _ _ _ _ lg _ _ _ rfl (by omega) ha) ok_X3_dusts rfl q1364 rfl (Nat.le_of_ble_eq_true rfl) 0 rfl rfl rfl dX3_receives_37 (roomL rfl rfl) ⟨rfl, rfl⟩ ?_
  refine v_iload C dX3_receives_40 5 rfl ?_
  refine v_sipush (v := 140) C dX3_receives_42 (by decide) ?_
  refine v_icmp_le C 57 dX3_receives_45 (by decide) (fun c45_1 => ?_) (fun c45_1 => ?_)
  · skip
    refine v_iconst (v := 0) C dX3_receives_57 (by decide) ?_
    refine v_istore (lv' := [(6, _), (0, _), (1, _), (2, _), (3, _), (4, _), (5, _)]) C dX3_receives_58 (by decide) rfl ?_
    refine v_iload C dX3_receives_60 5 rfl ?_
    refine v_i2l C dX3_receives_62 ?_
    refine v_aload_n C dX3_receives_63 1 rfl ?_
    refine v_get C in_X3 rfl 0 rfl 0 (by decide) q1166 (fun _ h => h) rfl dX3_receives_64 ?_
    refine v_bipush (v := 6) C dX3_receives_67 (by decide) ?_
    refine v_iload_n C dX3_receives_69 4 rfl ?_
    refine v_eqi ek ?_
    refine v_iadd C dX3_receives_70 ?_
    refine v_eqi (nI_add 6 (kind.toNatClampNeg)) ?_
    refine v_iald C dX3_receives_71 1 rfl (ixn (by omega) (by decide)) ?_
    refine v_i2l C dX3_receives_72 ?_
    refine v_lmul C dX3_receives_73 ?_
    refine v_sipush (v := 1000) C dX3_receives_74 (by decide) ?_
    refine v_iconst (v := 2) C dX3_receives_77 (by decide) ?_
    refine v_iload C dX3_receives_78 0 rfl ?_
    refine v_imul C dX3_receives_80 ?_
    refine v_isub C dX3_receives_81 ?_
    refine v_i2l C dX3_receives_82 ?_
    refine v_lmul C dX3_receives_83 ?_
    refine v_ldc2 C dX3_receives_84 q1369 ?_
    refine v_ldiv C dX3_receives_87 (by decide) ?_
    refine v_l2i C dX3_receives_88 ?_
    refine v_istore (lv' := [(7, _), (6, _), (0, _), (1, _), (2, _), (3, _), (4, _), (5, _)]) C dX3_receives_89 (by decide) rfl ?_
    refine v_aload_n C dX3_receives_91 2 rfl ?_
    refine v_get C in_X3 rfl 0 rfl 1 (by decide) q1167 (fun _ h => h) rfl dX3_receives_92 ?_
    refine v_iconst (v := 0) C dX3_receives_95 (by decide) ?_
    refine v_dup2_11 C dX3_receives_96 rfl rfl ?_
    refine v_lald C dX3_receives_97 2 rfl (j := 0) (ixl rfl) ?_
    refine v_iload C dX3_receives_98 6 rfl ?_
    refine v_i2l C dX3_receives_100 ?_
    refine v_ladd C dX3_receives_101 ?_
    refine v_last (ws' := mw g a _ _ _ _ _ _ _) C dX3_receives_102 2 rfl (j := 0) (ixl rfl) rfl ?_
    refine v_aload_n C dX3_receives_103 2 rfl ?_
    refine v_get C in_X3 rfl 0 rfl 1 (by decide) q1167 (fun _ h => h) rfl dX3_receives_104 ?_
    refine v_iconst (v := 3) C dX3_receives_107 (by decide) ?_
    refine v_dup2_11 C dX3_receives_108 rfl rfl ?_
    refine v_lald C dX3_receives_109 2 rfl (j := 3) (ixl rfl) ?_
    refine v_iload C dX3_receives_110 0 rfl ?_
    refine v_i2l C dX3_receives_112 ?_
    refine v_ladd C dX3_receives_113 ?_
    refine v_last (ws' := mw g a _ _ _ _ _ _ _) C dX3_receives_114 2 rfl (j := 3) (ixl rfl) rfl ?_
    refine v_iload C dX3_receives_115 0 rfl ?_
    exact v_iret C dX3_receives_117 (Nat.le_of_ble_eq_true rfl) (Nat.le_of_ble_eq_true rfl) (by unfold p_receives p_above; (try dsimp only); rw [if_pos c45_1]; exact ⟨rfl, rfl⟩)
  · skip
    refine v_iload C dX3_receives_48 5 rfl ?_
    refine v_sipush (v := 140) C dX3_receives_50 (by decide) ?_
    refine v_isub C dX3_receives_53 ?_
    refine v_goto C 58 dX3_receives_54 (by decide) ?_
    refine v_istore (lv' := [(6, _), (0, _), (1, _), (2, _), (3, _), (4, _), (5, _)]) C dX3_receives_58 (by decide) rfl ?_
    refine v_iload C dX3_receives_60 5 rfl ?_
    refine v_i2l C dX3_receives_62 ?_
    refine v_aload_n C dX3_receives_63 1 rfl ?_
    refine v_get C in_X3 rfl 0 rfl 0 (by decide) q1166 (fun _ h => h) rfl dX3_receives_64 ?_
    refine v_bipush (v := 6) C dX3_receives_67 (by decide) ?_
    refine v_iload_n C dX3_receives_69 4 rfl ?_
    refine v_eqi ek ?_
    refine v_iadd C dX3_receives_70 ?_
    refine v_eqi (nI_add 6 (kind.toNatClampNeg)) ?_
    refine v_iald C dX3_receives_71 1 rfl (ixn (by omega) (by decide)) ?_
    refine v_i2l C dX3_receives_72 ?_
    refine v_lmul C dX3_receives_73 ?_
    refine v_sipush (v := 1000) C dX3_receives_74 (by decide) ?_
    refine v_iconst (v := 2) C dX3_receives_77 (by decide) ?_
    refine v_iload C dX3_receives_78 0 rfl ?_
    refine v_imul C dX3_receives_80 ?_
    refine v_isub C dX3_receives_81 ?_
    refine v_i2l C dX3_receives_82 ?_
    refine v_lmul C dX3_receives_83 ?_
    refine v_ldc2 C dX3_receives_84 q1369 ?_
    refine v_ldiv C dX3_receives_87 (by decide) ?_
    refine v_l2i C dX3_receives_88 ?_
    refine v_istore (lv' := [(7, _), (6, _), (0, _), (1, _), (2, _), (3, _), (4, _), (5, _)]) C dX3_receives_89 (by decide) rfl ?_
    refine v_aload_n C dX3_receives_91 2 rfl ?_
    refine v_get C in_X3 rfl 0 rfl 1 (by decide) q1167 (fun _ h => h) rfl dX3_receives_92 ?_
    refine v_iconst (v := 0) C dX3_receives_95 (by decide) ?_
    refine v_dup2_11 C dX3_receives_96 rfl rfl ?_
    refine v_lald C dX3_receives_97 2 rfl (j := 0) (ixl rfl) ?_
    refine v_iload C dX3_receives_98 6 rfl ?_
    refine v_i2l C dX3_receives_100 ?_
    refine v_ladd C dX3_receives_101 ?_
    refine v_last (ws' := mw g a _ _ _ _ _ _ _) C dX3_receives_102 2 rfl (j := 0) (ixl rfl) rfl ?_
    refine v_aload_n C dX3_receives_103 2 rfl ?_
    refine v_get C in_X3 rfl 0 rfl 1 (by decide) q1167 (fun _ h => h) rfl dX3_receives_104 ?_
    refine v_iconst (v := 3) C dX3_receives_107 (by decide) ?_
    refine v_dup2_11 C dX3_receives_108 rfl rfl ?_
    refine v_lald C dX3_receives_109 2 rfl (j := 3) (ixl rfl) ?_
    refine v_iload C dX3_receives_110 0 rfl ?_
    refine v_i2l C dX3_receives_112 ?_
    refine v_ladd C dX3_receives_113 ?_
    refine v_last (ws' := mw g a _ _ _ _ _ _ _) C dX3_receives_114 2 rfl (j := 3) (ixl rfl) rfl ?_
    refine v_iload C dX3_receives_115 0 rfl ?_
    exact v_iret C dX3_receives_117 (Nat.le_of_ble_eq_true rfl) (Nat.le_of_ble_eq_true rfl) (by unfold p_receives p_above; (try dsimp only); rw [if_neg c45_1]; exact ⟨rfl, rfl⟩)
def M_X3_receive : Md := (yX3_receive, cX3_receive, 7, (some .int), 5, 136, 0, 0)
theorem ok_X3_receive : MOKv M_X3_receive 5 := ⟨q1330, q1331, q103, q1332, ⟨by decide +kernel, by decide +kernel, by decide +kernel⟩⟩
set_option maxHeartbeats 4000000 in
theorem m_receive (l : Launch) (g : GT) (a : Nat → Nat) (K : KT) (B : (Nat → Int32) × Int32 × (Nat → Int32)) (T : (Nat → Int32) × Int32) (P : Int32 × Int32 × (Nat → Int32) × Int32 × Int32) (h : Int64) (hK : KOk K) (hsp : ∀ l, l < nlK K → ¬ K.1 (82 + 4 * l + 0) = 0) (leg bin kind amt moist : Int32) : CtE l g M_X3_receive [.ref (a 0), .int leg, .int bin, .int kind, .int amt, .int moist] (mw g a K.1 K.2.1 K.2.2 B T P h) (some (.int (p_receive K leg bin kind amt moist).1)) (mw g a (p_receive K leg bin kind amt moist).2.1 (p_receive K leg bin kind amt moist).2.2.1 (p_receive K leg bin kind amt moist).2.2.2 B T P h) := by
  refine Ct.start2 (M := M_X3_receive) rfl [(0, .ref (a 0)), (1, .int leg), (2, .int bin), (3, .int kind), (4, .int amt), (5, .int moist)] rfl (by decide +kernel) (Nat.le_of_ble_eq_true rfl) ?_
  intro p e s m args below meth c A C
  obtain ⟨⟨hnb, hb8⟩, ⟨hnl, hl3⟩, ⟨hnc, hc6⟩, hsv, hs5⟩ := id hK
  refine v_aload_n C dX3_receive_0 0 rfl ?_
  refine v_iload_n C dX3_receive_1 1 rfl ?_
  refine v_iload_n C dX3_receive_2 2 rfl ?_
  refine v_iload_n C dX3_receive_3 3 rfl ?_
  refine v_iload C dX3_receive_4 4 rfl ?_
  refine v_iload C dX3_receive_6 5 rfl ?_
  refine v_callVw C (m_cannotReceive l g a _ _ _ _ _ _ _ (nbK K) (nlK K) hnb hb8 hnl hl3 hsp _ _ _ _ _) ok_X3_cannotReceive rfl q1333 rfl (Nat.le_of_ble_eq_true rfl) 0 rfl rfl rfl dX3_receive_8 (roomL rfl rfl) ⟨rfl, rfl⟩ ?_
  refine v_istore (lv' := [(6, _), (0, _), (1, _), (2, _), (3, _), (4, _), (5, _)]) C dX3_receive_11 (by decide) rfl ?_
  refine v_iload C dX3_receive_13 0 rfl ?_
  refine v_if_eq C 21 dX3_receive_15 (by decide) (fun c15_1 => ?_) (fun c15_1 => ?_)
  · skip
    obtain ⟨q1, q2, q3, q4, q5, -, -⟩ := cR0 c15_1
    obtain ⟨el, hl⟩ := isB_c hnl (by omega) q1
    obtain ⟨eb, hb⟩ := isB_c hnb (by omega) q2
    obtain ⟨ek, hk⟩ := in_c (n := 3) rfl (by decide) q3
    have hnb1 : (svK ((p_cannotReceive K.1 leg bin kind amt moist).2, K.2)).1 2 = nI (nbK K) := (svK_lo _ (by decide)).trans (by rw [q5]; exact hnb)
    have hsp1 : ¬ (svK ((p_cannotReceive K.1 leg bin kind amt moist).2, K.2)).1 (82 + 4 * leg.toNatClampNeg + 0) = 0 := by
      rw [svK_lo _ (by omega), q5]; exact hsp _ hl
    refine v_aload_n C dX3_receive_21 1 rfl ?_
    refine v_callVv C (m_saves l g a ((p_cannotReceive K.1 leg bin kind amt moist).2, K.2) _ _ _ _ hK.2.2.2.1 hK.2.2.2.2) ok_X3_saves rfl q1221 rfl (Nat.le_of_ble_eq_true rfl) 0 rfl rfl rfl dX3_receive_22 (roomL rfl rfl) ⟨rfl, rfl⟩ ?_
    refine v_aload_n C dX3_receive_25 1 rfl ?_
    refine v_iload_n C dX3_receive_26 2 rfl ?_
    refine v_iload_n C dX3_receive_27 3 rfl ?_
    refine v_iload_n C dX3_receive_28 4 rfl ?_
    refine v_iload C dX3_receive_29 5 rfl ?_
    refine v_iload C dX3_receive_31 6 rfl ?_
    refine v_callVw C (m_receives l g a _ _ _ _ _ _ _ (nbK K) hnb1 hb8 leg.toNatClampNeg bin.toNatClampNeg _ _ _ _ _ el eb (by omega) (by omega) ek hk hsp1 (truck_ne q4)) ok_X3_receives rfl q1352 rfl (Nat.le_of_ble_eq_true rfl) 0 rfl rfl rfl dX3_receive_33 (roomL rfl rfl) ⟨rfl, rfl⟩ ?_
    exact v_iret C dX3_receive_36 (Nat.le_of_ble_eq_true rfl) (Nat.le_of_ble_eq_true rfl) (by unfold p_receive; (try dsimp only); rw [if_pos c15_1]; exact ⟨rfl, rfl⟩)
  · skip
    refine v_iload C dX3_receive_18 0 rfl ?_
    exact v_iret C dX3_receive_20 (Nat.le_of_ble_eq_true rfl) (Nat.le_of_ble_eq_true rfl) (by unfold p_receive; (try dsimp only); rw [if_neg c15_1]; exact ⟨rfl, rfl⟩)
def M_X3_whyNotMove : Md := (yX3_whyNotMove, cX3_whyNotMove, 5, (some .int), 4, 110, 0, 0)
theorem ok_X3_whyNotMove : MOKv M_X3_whyNotMove 4 := ⟨q1384, qs67, q103, q1385, ⟨by decide +kernel, by decide +kernel, by decide +kernel⟩⟩
set_option maxHeartbeats 4000000 in
theorem m_whyNotMove (l : Launch) (g : GT) (a : Nat → Nat) (row : Nat → Int32) (books : Nat → Int64) (S : Int32 × (Nat → Int32)) (B : (Nat → Int32) × Int32 × (Nat → Int32)) (T : (Nat → Int32) × Int32) (P : Int32 × Int32 × (Nat → Int32) × Int32 × Int32) (h : Int64) (lg f t : Nat) (li fi ti amt : Int32) (el : li = nI lg) (ef : fi = nI f) (et : ti = nI t) (hl : lg < 3) (hf : f < 8) (ht : t < 8) (ha1 : 1 ≤ amt) (ha : ¬ amt = 0) : CtE l g M_X3_whyNotMove [.ref (a 0), .int li, .int fi, .int ti, .int amt] (mw g a row books S B T P h) (some (.int (p_whyNotMove row lg f t amt))) (mw g a row books S B T P h) := by
  refine Ct.start2 (M := M_X3_whyNotMove) rfl [(0, .ref (a 0)), (1, .int li), (2, .int fi), (3, .int ti), (4, .int amt)] rfl (by decide +kernel) (Nat.le_of_ble_eq_true rfl) ?_
  intro p e s m args below meth c A C
  subst el; subst ef; subst et
  refine v_aload_n C dX3_whyNotMove_0 0 rfl ?_
  refine v_iload_n C dX3_whyNotMove_1 2 rfl ?_
  refine v_iconst (v := 3) C dX3_whyNotMove_2 (by decide) ?_
  refine v_callVw C (m_of l g a _ _ _ _ _ _ _ f 3 _ _ rfl rfl (by omega)) ok_X3_of rfl q1241 rfl (Nat.le_of_ble_eq_true rfl) 0 rfl rfl rfl dX3_whyNotMove_3 (roomL rfl rfl) ⟨rfl, rfl⟩ ?_
  refine v_iload C dX3_whyNotMove_6 4 rfl ?_
  refine v_icmp_ge C 14 dX3_whyNotMove_8 (by decide) (fun c8_1 => ?_) (fun c8_1 => ?_)
  · skip
    have hz : ¬ amt = row (10 + 9 * f + 3) → ¬ (row (10 + 9 * f + 3)).toInt64 = 0 := fun _ => ne0_l (pos_ne ha1 c8_1)
    refine v_aload_n C dX3_whyNotMove_14 0 rfl ?_
    refine v_iload_n C dX3_whyNotMove_15 1 rfl ?_
    refine v_iload_n C dX3_whyNotMove_16 2 rfl ?_
    refine v_iload_n C dX3_whyNotMove_17 3 rfl ?_
    refine v_aload_n C dX3_whyNotMove_18 0 rfl ?_
    refine v_iload_n C dX3_whyNotMove_19 2 rfl ?_
    refine v_iconst (v := 5) C dX3_whyNotMove_20 (by decide) ?_
    refine v_callVw C (m_of l g a _ _ _ _ _ _ _ f 5 _ _ rfl rfl (by omega)) ok_X3_of rfl q1241 rfl (Nat.le_of_ble_eq_true rfl) 0 rfl rfl rfl dX3_whyNotMove_21 (roomL rfl rfl) ⟨rfl, rfl⟩ ?_
    refine v_iload C dX3_whyNotMove_24 4 rfl ?_
    refine v_aload_n C dX3_whyNotMove_26 0 rfl ?_
    refine v_iload_n C dX3_whyNotMove_27 2 rfl ?_
    refine v_iload C dX3_whyNotMove_28 4 rfl ?_
    refine v_callVw C (m_share l g a _ _ _ _ _ _ _ f _ _ rfl (by omega) hz) ok_X3_share rfl q1386 rfl (Nat.le_of_ble_eq_true rfl) 0 rfl rfl rfl dX3_whyNotMove_30 (roomL rfl rfl) ⟨rfl, rfl⟩ ?_
    refine v_iload C dX3_whyNotMove_33 4 rfl ?_
    refine v_idiv C dX3_whyNotMove_35 ha ?_
    refine v_callVw C (m_against l g a _ _ _ _ _ _ _ lg t _ _ _ _ _ _ rfl rfl (by omega) (by omega)) ok_X3_against rfl q1340 rfl (Nat.le_of_ble_eq_true rfl) 0 rfl rfl rfl dX3_whyNotMove_36 (roomL rfl rfl) ⟨rfl, rfl⟩ ?_
    exact v_iret C dX3_whyNotMove_39 (Nat.le_of_ble_eq_true rfl) (Nat.le_of_ble_eq_true rfl) (by unfold p_whyNotMove; (try dsimp only); rw [if_pos c8_1]; exact ⟨rfl, rfl⟩)
  · skip
    refine v_bipush (v := 7) C dX3_whyNotMove_11 (by decide) ?_
    exact v_iret C dX3_whyNotMove_13 (Nat.le_of_ble_eq_true rfl) (Nat.le_of_ble_eq_true rfl) (by unfold p_whyNotMove; (try dsimp only); rw [if_neg c8_1]; exact ⟨rfl, rfl⟩)
def M_X3_isNoMove : Md := (yX3_isNoMove, cX3_isNoMove, 5, (some .int), 3, 83, 0, 0)
theorem ok_X3_isNoMove : MOKv M_X3_isNoMove 4 := ⟨q1380, qs66, q103, q1381, ⟨by decide +kernel, by decide +kernel, by decide +kernel⟩⟩
set_option maxHeartbeats 4000000 in
theorem m_isNoMove (l : Launch) (g : GT) (a : Nat → Nat) (row : Nat → Int32) (books : Nat → Int64) (S : Int32 × (Nat → Int32)) (B : (Nat → Int32) × Int32 × (Nat → Int32)) (T : (Nat → Int32) × Int32) (P : Int32 × Int32 × (Nat → Int32) × Int32 × Int32) (h : Int64) (leg fr to amt : Int32) : CtE l g M_X3_isNoMove [.ref (a 0), .int leg, .int fr, .int to, .int amt] (mw g a row books S B T P h) (some (.int (p_isNoMove row leg fr to amt))) (mw g a row books S B T P h) := by
  refine Ct.start2 (M := M_X3_isNoMove) rfl [(0, .ref (a 0)), (1, .int leg), (2, .int fr), (3, .int to), (4, .int amt)] rfl (by decide +kernel) (Nat.le_of_ble_eq_true rfl) ?_
  intro p e s m args below meth c A C
  refine v_aload_n C dX3_isNoMove_0 0 rfl ?_
  refine v_iload_n C dX3_isNoMove_1 1 rfl ?_
  refine v_callVw C (m_isLeg l g a _ _ _ _ _ _ _ _) ok_X3_isLeg rfl q1253 rfl (Nat.le_of_ble_eq_true rfl) 0 rfl rfl rfl dX3_isNoMove_2 (roomL rfl rfl) ⟨rfl, rfl⟩ ?_
  refine v_if_eqB C 24 dX3_isNoMove_5 (by decide) (fun c5_1 => ?_) (fun c5_1 => ?_)
  · skip
    refine v_bipush (v := -2) C dX3_isNoMove_24 (by decide) ?_
    exact v_iret C dX3_isNoMove_26 (Nat.le_of_ble_eq_true rfl) (Nat.le_of_ble_eq_true rfl) (by unfold p_isNoMove; (try dsimp only); rw [if_neg c5_1]; exact ⟨rfl, rfl⟩)
  · skip
    refine v_aload_n C dX3_isNoMove_8 0 rfl ?_
    refine v_iload_n C dX3_isNoMove_9 2 rfl ?_
    refine v_callVw C (m_isBin l g a _ _ _ _ _ _ _ _) ok_X3_isBin rfl q1237 rfl (Nat.le_of_ble_eq_true rfl) 0 rfl rfl rfl dX3_isNoMove_10 (roomL rfl rfl) ⟨rfl, rfl⟩ ?_
    refine v_if_eqB C 24 dX3_isNoMove_13 (by decide) (fun c13_2 => ?_) (fun c13_2 => ?_)
    · skip
      refine v_bipush (v := -2) C dX3_isNoMove_24 (by decide) ?_
      exact v_iret C dX3_isNoMove_26 (Nat.le_of_ble_eq_true rfl) (Nat.le_of_ble_eq_true rfl) (by unfold p_isNoMove; (try dsimp only); rw [if_pos c5_1, if_neg c13_2]; exact ⟨rfl, rfl⟩)
    · skip
      refine v_aload_n C dX3_isNoMove_16 0 rfl ?_
      refine v_iload_n C dX3_isNoMove_17 3 rfl ?_
      refine v_callVw C (m_isBin l g a _ _ _ _ _ _ _ _) ok_X3_isBin rfl q1237 rfl (Nat.le_of_ble_eq_true rfl) 0 rfl rfl rfl dX3_isNoMove_18 (roomL rfl rfl) ⟨rfl, rfl⟩ ?_
      refine v_if_neB C 27 dX3_isNoMove_21 (by decide) (fun c21_3 => ?_) (fun c21_3 => ?_)
      · skip
        refine v_iload_n C dX3_isNoMove_27 2 rfl ?_
        refine v_iload_n C dX3_isNoMove_28 3 rfl ?_
        refine v_icmp_eq C 44 dX3_isNoMove_29 (by decide) (fun c29_4 => ?_) (fun c29_4 => ?_)
        · skip
          refine v_bipush (v := -3) C dX3_isNoMove_44 (by decide) ?_
          refine v_goto C 50 dX3_isNoMove_46 (by decide) ?_
          exact v_iret C dX3_isNoMove_50 (Nat.le_of_ble_eq_true rfl) (Nat.le_of_ble_eq_true rfl) (by unfold p_isNoMove; (try dsimp only); rw [if_pos c5_1, if_pos c13_2, if_pos c21_3, if_pos c29_4]; exact ⟨rfl, rfl⟩)
        · skip
          refine v_iload C dX3_isNoMove_32 4 rfl ?_
          refine v_iconst (v := 1) C dX3_isNoMove_34 (by decide) ?_
          refine v_sipush (v := 20000) C dX3_isNoMove_35 (by decide) ?_
          refine v_callSp C (m_in l g _ _ _) ok_X3_in rfl q1218 rfl (Nat.le_of_ble_eq_true rfl) dX3_isNoMove_38 (roomL rfl rfl) ⟨rfl, rfl⟩ ?_
          refine v_if_neB C 49 dX3_isNoMove_41 (by decide) (fun c41_5 => ?_) (fun c41_5 => ?_)
          · skip
            refine v_iconst (v := 0) C dX3_isNoMove_49 (by decide) ?_
            exact v_iret C dX3_isNoMove_50 (Nat.le_of_ble_eq_true rfl) (Nat.le_of_ble_eq_true rfl) (by unfold p_isNoMove; (try dsimp only); rw [if_pos c5_1, if_pos c13_2, if_pos c21_3, if_neg c29_4, if_pos c41_5]; exact ⟨rfl, rfl⟩)
          · skip
            refine v_bipush (v := -3) C dX3_isNoMove_44 (by decide) ?_
            refine v_goto C 50 dX3_isNoMove_46 (by decide) ?_
            exact v_iret C dX3_isNoMove_50 (Nat.le_of_ble_eq_true rfl) (Nat.le_of_ble_eq_true rfl) (by unfold p_isNoMove; (try dsimp only); rw [if_pos c5_1, if_pos c13_2, if_pos c21_3, if_neg c29_4, if_neg c41_5]; exact ⟨rfl, rfl⟩)
      · skip
        refine v_bipush (v := -2) C dX3_isNoMove_24 (by decide) ?_
        exact v_iret C dX3_isNoMove_26 (Nat.le_of_ble_eq_true rfl) (Nat.le_of_ble_eq_true rfl) (by unfold p_isNoMove; (try dsimp only); rw [if_pos c5_1, if_pos c13_2, if_neg c21_3]; exact ⟨rfl, rfl⟩)
def M_X3_cannotMove : Md := (yX3_cannotMove, cX3_cannotMove, 7, (some .int), 5, 134, 0, 0)
theorem ok_X3_cannotMove : MOKv M_X3_cannotMove 4 := ⟨q1376, qs65, q103, q1377, ⟨by decide +kernel, by decide +kernel, by decide +kernel⟩⟩
set_option maxHeartbeats 4000000 in
theorem m_cannotMove (l : Launch) (g : GT) (a : Nat → Nat) (row : Nat → Int32) (books : Nat → Int64) (S : Int32 × (Nat → Int32)) (B : (Nat → Int32) × Int32 × (Nat → Int32)) (T : (Nat → Int32) × Int32) (P : Int32 × Int32 × (Nat → Int32) × Int32 × Int32) (h : Int64) (nb nl : Nat) (hnb : row 2 = nI nb) (hb8 : nb ≤ 8) (hnl : row 3 = nI nl) (hl3 : nl ≤ 3) (hsp : ∀ l, l < nl → ¬ row (82 + 4 * l + 0) = 0) (leg fr to amt : Int32) : CtE l g M_X3_cannotMove [.ref (a 0), .int leg, .int fr, .int to, .int amt] (mw g a row books S B T P h) (some (.int (p_cannotMove row leg fr to amt).1)) (mw g a (p_cannotMove row leg fr to amt).2 books S B T P h) := by
  refine Ct.start2 (M := M_X3_cannotMove) rfl [(0, .ref (a 0)), (1, .int leg), (2, .int fr), (3, .int to), (4, .int amt)] rfl (by decide +kernel) (Nat.le_of_ble_eq_true rfl) ?_
  intro p e s m args below meth c A C
  refine v_aload_n C dX3_cannotMove_0 0 rfl ?_
  refine v_iload_n C dX3_cannotMove_1 1 rfl ?_
  refine v_iload_n C dX3_cannotMove_2 2 rfl ?_
  refine v_iload_n C dX3_cannotMove_3 3 rfl ?_
  refine v_iload C dX3_cannotMove_4 4 rfl ?_
  refine v_callVw C (m_isNoMove l g a _ _ _ _ _ _ _ _ _ _ _) ok_X3_isNoMove rfl q1378 rfl (Nat.le_of_ble_eq_true rfl) 0 rfl rfl rfl dX3_cannotMove_6 (roomL rfl rfl) ⟨rfl, rfl⟩ ?_
  refine v_istore (lv' := [(5, _), (0, _), (1, _), (2, _), (3, _), (4, _)]) C dX3_cannotMove_9 (by decide) rfl ?_
  refine v_iload C dX3_cannotMove_11 0 rfl ?_
  refine v_if_eq C 19 dX3_cannotMove_13 (by decide) (fun c13_1 => ?_) (fun c13_1 => ?_)
  · skip
    obtain ⟨q1, q2, q3, q4, q5⟩ := nM0 c13_1
    obtain ⟨el, hl⟩ := isB_c hnl (by omega) q1
    obtain ⟨ef, hf⟩ := isB_c hnb (by omega) q2
    obtain ⟨et, ht⟩ := isB_c hnb (by omega) q3
    refine v_aload_n C dX3_cannotMove_19 1 rfl ?_
    refine v_iload_n C dX3_cannotMove_20 2 rfl ?_
    refine v_iload_n C dX3_cannotMove_21 3 rfl ?_
    refine v_iload_n C dX3_cannotMove_22 4 rfl ?_
    refine v_iload C dX3_cannotMove_23 5 rfl ?_
    refine v_callVw C (m_whyNotMove l g a _ _ _ _ _ _ _ leg.toNatClampNeg fr.toNatClampNeg to.toNatClampNeg _ _ _ _ el ef et (by omega) (by omega) (by omega) q5.1 (in1_ne q5)) ok_X3_whyNotMove rfl q1382 rfl (Nat.le_of_ble_eq_true rfl) 0 rfl rfl rfl dX3_cannotMove_25 (roomL rfl rfl) ⟨rfl, rfl⟩ ?_
    refine v_istore (lv' := [(6, _), (5, _), (0, _), (1, _), (2, _), (3, _), (4, _)]) C dX3_cannotMove_28 (by decide) rfl ?_
    refine v_iload C dX3_cannotMove_30 0 rfl ?_
    refine v_if_le C 42 dX3_cannotMove_32 (by decide) (fun c32_2 => ?_) (fun c32_2 => ?_)
    · skip
      refine v_aload_n C dX3_cannotMove_42 2 rfl ?_
      refine v_get C in_X3 rfl 0 rfl 0 (by decide) q1166 (fun _ h => h) rfl dX3_cannotMove_43 ?_
      refine v_iconst (v := 0) C dX3_cannotMove_46 (by decide) ?_
      refine v_iald C dX3_cannotMove_47 1 rfl (j := 0) (ixl rfl) ?_
      refine v_iload C dX3_cannotMove_48 6 rfl ?_
      refine v_aload_n C dX3_cannotMove_50 2 rfl ?_
      refine v_iload_n C dX3_cannotMove_51 3 rfl ?_
      refine v_eqi el ?_
      refine v_iconst (v := 0) C dX3_cannotMove_52 (by decide) ?_
      refine v_callVw C (m_ofLeg l g a _ _ _ _ _ _ _ (leg.toNatClampNeg) 0 _ _ rfl rfl (by omega)) ok_X3_ofLeg rfl q1257 rfl (Nat.le_of_ble_eq_true rfl) 0 rfl rfl rfl dX3_cannotMove_53 (roomL rfl rfl) ⟨rfl, rfl⟩ ?_
      have hsp1 := hsp _ hl
      refine v_callSp C (m_minutes l g _ _ hsp1) ok_X3_minutes rfl q1348 rfl (Nat.le_of_ble_eq_true rfl) dX3_cannotMove_56 (roomL rfl rfl) ⟨rfl, rfl⟩ ?_
      refine v_iadd C dX3_cannotMove_59 ?_
      refine v_ldc C dX3_cannotMove_60 q1351 ?_
      refine v_icmp_le C 70 dX3_cannotMove_62 (by decide) (fun c62_3 => ?_) (fun c62_3 => ?_)
      · skip
        refine v_iconst (v := 0) C dX3_cannotMove_70 (by decide) ?_
        exact v_iret C dX3_cannotMove_71 (Nat.le_of_ble_eq_true rfl) (Nat.le_of_ble_eq_true rfl) (by unfold p_cannotMove; (try dsimp only); rw [if_pos c13_1, if_pos c32_2, if_pos c62_3]; exact ⟨rfl, rfl⟩)
      · skip
        refine v_bipush (v := -5) C dX3_cannotMove_65 (by decide) ?_
        refine v_goto C 71 dX3_cannotMove_67 (by decide) ?_
        exact v_iret C dX3_cannotMove_71 (Nat.le_of_ble_eq_true rfl) (Nat.le_of_ble_eq_true rfl) (by unfold p_cannotMove; (try dsimp only); rw [if_pos c13_1, if_pos c32_2, if_neg c62_3]; exact ⟨rfl, rfl⟩)
    · skip
      refine v_aload_n C dX3_cannotMove_35 2 rfl ?_
      refine v_iload C dX3_cannotMove_36 0 rfl ?_
      refine v_callVw C (m_refuses l g a _ _ _ _ _ _ _ _) ok_X3_refuses rfl q1344 rfl (Nat.le_of_ble_eq_true rfl) 0 rfl rfl rfl dX3_cannotMove_38 (roomL rfl rfl) ⟨rfl, rfl⟩ ?_
      exact v_iret C dX3_cannotMove_41 (Nat.le_of_ble_eq_true rfl) (Nat.le_of_ble_eq_true rfl) (by unfold p_cannotMove; (try dsimp only); rw [if_pos c13_1, if_neg c32_2]; exact ⟨rfl, rfl⟩)
  · skip
    refine v_iload C dX3_cannotMove_16 0 rfl ?_
    exact v_iret C dX3_cannotMove_18 (Nat.le_of_ble_eq_true rfl) (Nat.le_of_ble_eq_true rfl) (by unfold p_cannotMove; (try dsimp only); rw [if_neg c13_1]; exact ⟨rfl, rfl⟩)
def M_X3_moves : Md := (yX3_moves, cX3_moves, 7, (some .int), 4, 107, 0, 0)
theorem ok_X3_moves : MOKv M_X3_moves 4 := ⟨q1392, qs69, q103, q1393, ⟨by decide +kernel, by decide +kernel, by decide +kernel⟩⟩
set_option maxHeartbeats 4000000 in
theorem m_moves (l : Launch) (g : GT) (a : Nat → Nat) (row : Nat → Int32) (books : Nat → Int64) (S : Int32 × (Nat → Int32)) (B : (Nat → Int32) × Int32 × (Nat → Int32)) (T : (Nat → Int32) × Int32) (P : Int32 × Int32 × (Nat → Int32) × Int32 × Int32) (h : Int64) (nb : Nat) (hnb : row 2 = nI nb) (hb8 : nb ≤ 8) (lg f t : Nat) (li fi ti amt : Int32) (el : li = nI lg) (ef : fi = nI f) (et : ti = nI t) (hl : lg < 3) (hf : f < 8) (ht : t < 8) (hsp1 : ¬ row (82 + 4 * lg + 0) = 0) (ha : ¬ amt = 0) (hz : ¬ amt = p_passes (p_min amt (row (82 + 4 * lg + 0))) row nb (10 + 9 * f + 3) → ¬ (p_passes (p_min amt (row (82 + 4 * lg + 0))) row nb (10 + 9 * f + 3)).toInt64 = 0) : CtE l g M_X3_moves [.ref (a 0), .int li, .int fi, .int ti, .int amt] (mw g a row books S B T P h) (some (.int (p_moves row nb lg f t amt).1)) (mw g a (p_moves row nb lg f t amt).2 books S B T P h) := by
  refine Ct.start2 (M := M_X3_moves) rfl [(0, .ref (a 0)), (1, .int li), (2, .int fi), (3, .int ti), (4, .int amt)] rfl (by decide +kernel) (Nat.le_of_ble_eq_true rfl) ?_
  intro p e s m args below meth c A C
  subst el; subst ef; subst et
  refine v_aload_n C dX3_moves_0 0 rfl ?_
  refine v_iload C dX3_moves_1 4 rfl ?_
  refine v_aload_n C dX3_moves_3 0 rfl ?_
  refine v_iload_n C dX3_moves_4 1 rfl ?_
  refine v_iconst (v := 0) C dX3_moves_5 (by decide) ?_
  refine v_callVw C (m_ofLeg l g a _ _ _ _ _ _ _ lg 0 _ _ rfl rfl (by omega)) ok_X3_ofLeg rfl q1257 rfl (Nat.le_of_ble_eq_true rfl) 0 rfl rfl rfl dX3_moves_6 (roomL rfl rfl) ⟨rfl, rfl⟩ ?_
  refine v_callSp C (m_minutes l g _ _ hsp1) ok_X3_minutes rfl q1348 rfl (Nat.le_of_ble_eq_true rfl) dX3_moves_9 (roomL rfl rfl) ⟨rfl, rfl⟩ ?_
  refine v_callVv C (m_passes l g a _ _ _ _ _ _ _ nb (by assumption) hb8 _) ok_X3_passes rfl q1356 rfl (Nat.le_of_ble_eq_true rfl) 0 rfl rfl rfl dX3_moves_12 (roomL rfl rfl) ⟨rfl, rfl⟩ ?_
  refine v_aload_n C dX3_moves_15 0 rfl ?_
  refine v_iload_n C dX3_moves_16 2 rfl ?_
  refine v_iconst (v := 5) C dX3_moves_17 (by decide) ?_
  refine v_callVw C (m_of l g a _ _ _ _ _ _ _ f 5 _ _ rfl rfl (by omega)) ok_X3_of rfl q1241 rfl (Nat.le_of_ble_eq_true rfl) 0 rfl rfl rfl dX3_moves_18 (roomL rfl rfl) ⟨rfl, rfl⟩ ?_
  refine v_istore (lv' := [(5, _), (0, _), (1, _), (2, _), (3, _), (4, _)]) C dX3_moves_21 (by decide) rfl ?_
  refine v_aload_n C dX3_moves_23 1 rfl ?_
  refine v_iload_n C dX3_moves_24 3 rfl ?_
  refine v_iload C dX3_moves_25 5 rfl ?_
  refine v_callVw C (m_takes l g a _ _ _ _ _ _ _ f _ _ rfl (by omega) hz) ok_X3_takes rfl q1394 rfl (Nat.le_of_ble_eq_true rfl) 0 rfl rfl rfl dX3_moves_27 (roomL rfl rfl) ⟨rfl, rfl⟩ ?_
  refine v_istore (lv' := [(6, _), (5, _), (0, _), (1, _), (2, _), (3, _), (4, _)]) C dX3_moves_30 (by decide) rfl ?_
  refine v_aload_n C dX3_moves_32 2 rfl ?_
  refine v_iload_n C dX3_moves_33 5 rfl ?_
  refine v_iload C dX3_moves_34 1 rfl ?_
  refine v_iload C dX3_moves_36 6 rfl ?_
  refine v_iload C dX3_moves_38 0 rfl ?_
  refine v_callVv C (m_brings l g a _ _ _ _ _ _ _ t _ _ _ _ rfl (by omega)) ok_X3_brings rfl q1360 rfl (Nat.le_of_ble_eq_true rfl) 0 rfl rfl rfl dX3_moves_40 (roomL rfl rfl) ⟨rfl, rfl⟩ ?_
  refine v_aload_n C dX3_moves_43 2 rfl ?_
  refine v_iload_n C dX3_moves_44 3 rfl ?_
  refine v_iload C dX3_moves_45 6 rfl ?_
  refine v_iload C dX3_moves_47 0 rfl ?_
  refine v_callVv C (m_dusts l g a _ _ _ _ _ _ _ lg _ _ _ rfl (by omega) ha) ok_X3_dusts rfl q1364 rfl (Nat.le_of_ble_eq_true rfl) 0 rfl rfl rfl dX3_moves_49 (roomL rfl rfl) ⟨rfl, rfl⟩ ?_
  refine v_iload C dX3_moves_52 0 rfl ?_
  exact v_iret C dX3_moves_54 (Nat.le_of_ble_eq_true rfl) (Nat.le_of_ble_eq_true rfl) ⟨rfl, rfl⟩
def M_X3_move : Md := (yX3_move, cX3_move, 6, (some .int), 6, 160, 0, 0)
theorem ok_X3_move : MOKv M_X3_move 4 := ⟨q1371, q1372, q103, q1373, ⟨by decide +kernel, by decide +kernel, by decide +kernel⟩⟩
theorem why_le {r : Nat → Int32} {l f t : Nat} {amt : Int32} (h : p_whyNotMove r l f t amt ≤ 0) : amt ≤ r (10 + 9 * f + 3) := by
  unfold p_whyNotMove at h
  by_cases h1 : amt ≤ r (10 + 9 * f + 3)
  · exact h1
  · rw [if_neg h1] at h
    exact absurd h (by decide)
set_option maxHeartbeats 4000000 in
theorem m_move (l : Launch) (g : GT) (a : Nat → Nat) (K : KT) (B : (Nat → Int32) × Int32 × (Nat → Int32)) (T : (Nat → Int32) × Int32) (P : Int32 × Int32 × (Nat → Int32) × Int32 × Int32) (h : Int64) (hK : KOk K) (hsp : ∀ l, l < nlK K → ¬ K.1 (82 + 4 * l + 0) = 0) (leg fr to amt : Int32) : CtE l g M_X3_move [.ref (a 0), .int leg, .int fr, .int to, .int amt] (mw g a K.1 K.2.1 K.2.2 B T P h) (some (.int (p_move K leg fr to amt).1)) (mw g a (p_move K leg fr to amt).2.1 (p_move K leg fr to amt).2.2.1 (p_move K leg fr to amt).2.2.2 B T P h) := by
  refine Ct.start2 (M := M_X3_move) rfl [(0, .ref (a 0)), (1, .int leg), (2, .int fr), (3, .int to), (4, .int amt)] rfl (by decide +kernel) (Nat.le_of_ble_eq_true rfl) ?_
  intro p e s m args below meth c A C
  obtain ⟨⟨hnb, hb8⟩, ⟨hnl, hl3⟩, ⟨hnc, hc6⟩, hsv, hs5⟩ := id hK
  refine v_aload_n C dX3_move_0 0 rfl ?_
  refine v_iload_n C dX3_move_1 1 rfl ?_
  refine v_iload_n C dX3_move_2 2 rfl ?_
  refine v_iload_n C dX3_move_3 3 rfl ?_
  refine v_iload C dX3_move_4 4 rfl ?_
  refine v_callVw C (m_cannotMove l g a _ _ _ _ _ _ _ (nbK K) (nlK K) hnb hb8 hnl hl3 hsp _ _ _ _) ok_X3_cannotMove rfl q1374 rfl (Nat.le_of_ble_eq_true rfl) 0 rfl rfl rfl dX3_move_6 (roomL rfl rfl) ⟨rfl, rfl⟩ ?_
  refine v_istore (lv' := [(5, _), (0, _), (1, _), (2, _), (3, _), (4, _)]) C dX3_move_9 (by decide) rfl ?_
  refine v_iload C dX3_move_11 0 rfl ?_
  refine v_if_eq C 19 dX3_move_13 (by decide) (fun c13_1 => ?_) (fun c13_1 => ?_)
  · skip
    obtain ⟨q0, qe, qw, -⟩ := cM0 c13_1
    obtain ⟨q1, q2, q3, q4, q5⟩ := nM0 q0
    obtain ⟨el, hl⟩ := isB_c hnl (by omega) q1
    obtain ⟨ef, hf⟩ := isB_c hnb (by omega) q2
    obtain ⟨et, ht⟩ := isB_c hnb (by omega) q3
    have hnb1 : (svK ((p_cannotMove K.1 leg fr to amt).2, K.2)).1 2 = nI (nbK K) := (svK_lo _ (by decide)).trans (by rw [qe]; exact hnb)
    have hsp1 : ¬ (svK ((p_cannotMove K.1 leg fr to amt).2, K.2)).1 (82 + 4 * leg.toNatClampNeg + 0) = 0 := by
      rw [svK_lo _ (by omega), qe]; exact hsp _ hl
    have hz : ∀ mi, ¬ amt = p_passes mi (svK ((p_cannotMove K.1 leg fr to amt).2, K.2)).1 (nbK K) (10 + 9 * fr.toNatClampNeg + 3) → ¬ (p_passes mi (svK ((p_cannotMove K.1 leg fr to amt).2, K.2)).1 (nbK K) (10 + 9 * fr.toNatClampNeg + 3)).toInt64 = 0 := by
      intro mi _
      have e3 : p_passes mi (svK ((p_cannotMove K.1 leg fr to amt).2, K.2)).1 (nbK K) (10 + 9 * fr.toNatClampNeg + 3) = K.1 (10 + 9 * fr.toNatClampNeg + 3) := by
        rw [show p_passes mi (svK ((p_cannotMove K.1 leg fr to amt).2, K.2)).1 (nbK K) (10 + 9 * fr.toNatClampNeg + 3) = _ from (pk_un (by omega)).trans (passB_ne (fun b _ => by omega)), svK_lo _ (by omega), qe]
      rw [e3]
      exact ne0_l (pos_ne q5.1 (why_le qw))
    have hz := hz (p_min amt ((svK ((p_cannotMove K.1 leg fr to amt).2, K.2)).1 (82 + 4 * leg.toNatClampNeg + 0)))
    refine v_aload_n C dX3_move_19 1 rfl ?_
    refine v_callVv C (m_saves l g a ((p_cannotMove K.1 leg fr to amt).2, K.2) _ _ _ _ hK.2.2.2.1 hK.2.2.2.2) ok_X3_saves rfl q1221 rfl (Nat.le_of_ble_eq_true rfl) 0 rfl rfl rfl dX3_move_20 (roomL rfl rfl) ⟨rfl, rfl⟩ ?_
    refine v_aload_n C dX3_move_23 1 rfl ?_
    refine v_iload_n C dX3_move_24 2 rfl ?_
    refine v_iload_n C dX3_move_25 3 rfl ?_
    refine v_iload_n C dX3_move_26 4 rfl ?_
    refine v_iload C dX3_move_27 5 rfl ?_
    refine v_callVw C (m_moves l g a _ _ _ _ _ _ _ (nbK K) hnb1 hb8 leg.toNatClampNeg fr.toNatClampNeg to.toNatClampNeg _ _ _ _ el ef et (by omega) (by omega) (by omega) hsp1 (in1_ne q5) hz) ok_X3_moves rfl q1390 rfl (Nat.le_of_ble_eq_true rfl) 0 rfl rfl rfl dX3_move_29 (roomL rfl rfl) ⟨rfl, rfl⟩ ?_
    exact v_iret C dX3_move_32 (Nat.le_of_ble_eq_true rfl) (Nat.le_of_ble_eq_true rfl) (by unfold p_move; (try dsimp only); rw [if_pos c13_1]; exact ⟨rfl, rfl⟩)
  · skip
    refine v_iload C dX3_move_16 0 rfl ?_
    exact v_iret C dX3_move_18 (Nat.le_of_ble_eq_true rfl) (Nat.le_of_ble_eq_true rfl) (by unfold p_move; (try dsimp only); rw [if_neg c13_1]; exact ⟨rfl, rfl⟩)
def M_X3_whyNot : Md := (yX3_whyNot, cX3_whyNot, 6, (some .int), 5, 134, 0, 0)
theorem ok_X3_whyNot : MOKv M_X3_whyNot 4 := ⟨q1403, q1404, q103, q1405, ⟨by decide +kernel, by decide +kernel, by decide +kernel⟩⟩
set_option maxHeartbeats 4000000 in
theorem m_whyNot (l : Launch) (g : GT) (a : Nat → Nat) (row : Nat → Int32) (books : Nat → Int64) (S : Int32 × (Nat → Int32)) (B : (Nat → Int32) × Int32 × (Nat → Int32)) (T : (Nat → Int32) × Int32) (P : Int32 × Int32 × (Nat → Int32) × Int32 × Int32) (h : Int64) (nb nl : Nat) (hnb : row 2 = nI nb) (hb8 : nb ≤ 8) (hnl : row 3 = nI nl) (hl3 : nl ≤ 3) (leg fr to amt : Int32) : CtE l g M_X3_whyNot [.ref (a 0), .int leg, .int fr, .int to, .int amt] (mw g a row books S B T P h) (some (.int (p_whyNot row leg fr to amt))) (mw g a row books S B T P h) := by
  refine Ct.start2 (M := M_X3_whyNot) rfl [(0, .ref (a 0)), (1, .int leg), (2, .int fr), (3, .int to), (4, .int amt)] rfl (by decide +kernel) (Nat.le_of_ble_eq_true rfl) ?_
  intro p e s m args below meth c A C
  refine v_aload_n C dX3_whyNot_0 0 rfl ?_
  refine v_iload_n C dX3_whyNot_1 1 rfl ?_
  refine v_iload_n C dX3_whyNot_2 2 rfl ?_
  refine v_iload_n C dX3_whyNot_3 3 rfl ?_
  refine v_iload C dX3_whyNot_4 4 rfl ?_
  refine v_callVw C (m_isNoMove l g a _ _ _ _ _ _ _ _ _ _ _) ok_X3_isNoMove rfl q1378 rfl (Nat.le_of_ble_eq_true rfl) 0 rfl rfl rfl dX3_whyNot_6 (roomL rfl rfl) ⟨rfl, rfl⟩ ?_
  refine v_istore (lv' := [(5, _), (0, _), (1, _), (2, _), (3, _), (4, _)]) C dX3_whyNot_9 (by decide) rfl ?_
  refine v_iload C dX3_whyNot_11 0 rfl ?_
  refine v_if_eq C 21 dX3_whyNot_13 (by decide) (fun c13_1 => ?_) (fun c13_1 => ?_)
  · skip
    obtain ⟨q1, q2, q3, q4, q5⟩ := nM0 c13_1
    obtain ⟨el, hl⟩ := isB_c hnl (by omega) q1
    obtain ⟨ef, hf⟩ := isB_c hnb (by omega) q2
    obtain ⟨et, ht⟩ := isB_c hnb (by omega) q3
    refine v_aload_n C dX3_whyNot_21 1 rfl ?_
    refine v_iload_n C dX3_whyNot_22 2 rfl ?_
    refine v_iload_n C dX3_whyNot_23 3 rfl ?_
    refine v_iload_n C dX3_whyNot_24 4 rfl ?_
    refine v_iload C dX3_whyNot_25 5 rfl ?_
    refine v_callVw C (m_whyNotMove l g a _ _ _ _ _ _ _ leg.toNatClampNeg fr.toNatClampNeg to.toNatClampNeg _ _ _ _ el ef et (by omega) (by omega) (by omega) q5.1 (in1_ne q5)) ok_X3_whyNotMove rfl q1382 rfl (Nat.le_of_ble_eq_true rfl) 0 rfl rfl rfl dX3_whyNot_27 (roomL rfl rfl) ⟨rfl, rfl⟩ ?_
    exact v_iret C dX3_whyNot_30 (Nat.le_of_ble_eq_true rfl) (Nat.le_of_ble_eq_true rfl) (by unfold p_whyNot; (try dsimp only); rw [if_pos c13_1]; exact ⟨rfl, rfl⟩)
  · skip
    refine v_iload C dX3_whyNot_16 0 rfl ?_
    refine v_goto C 30 dX3_whyNot_18 (by decide) ?_
    exact v_iret C dX3_whyNot_30 (Nat.le_of_ble_eq_true rfl) (Nat.le_of_ble_eq_true rfl) (by unfold p_whyNot; (try dsimp only); rw [if_neg c13_1]; exact ⟨rfl, rfl⟩)
def M_X3_cannotClean : Md := (yX3_cannotClean, cX3_cannotClean, 3, (some .int), 3, 83, 0, 0)
theorem ok_X3_cannotClean : MOKv M_X3_cannotClean 2 := ⟨q1412, qs72, q103, q1413, ⟨by decide +kernel, by decide +kernel, by decide +kernel⟩⟩
set_option maxHeartbeats 4000000 in
theorem m_cannotClean (l : Launch) (g : GT) (a : Nat → Nat) (row : Nat → Int32) (books : Nat → Int64) (S : Int32 × (Nat → Int32)) (B : (Nat → Int32) × Int32 × (Nat → Int32)) (T : (Nat → Int32) × Int32) (P : Int32 × Int32 × (Nat → Int32) × Int32 × Int32) (h : Int64) (leg mi : Int32) : CtE l g M_X3_cannotClean [.ref (a 0), .int leg, .int mi] (mw g a row books S B T P h) (some (.int (p_cannotClean row leg mi))) (mw g a row books S B T P h) := by
  refine Ct.start2 (M := M_X3_cannotClean) rfl [(0, .ref (a 0)), (1, .int leg), (2, .int mi)] rfl (by decide +kernel) (Nat.le_of_ble_eq_true rfl) ?_
  intro p e s m args below meth c A C
  refine v_aload_n C dX3_cannotClean_0 0 rfl ?_
  refine v_iload_n C dX3_cannotClean_1 1 rfl ?_
  refine v_callVw C (m_isLeg l g a _ _ _ _ _ _ _ _) ok_X3_isLeg rfl q1253 rfl (Nat.le_of_ble_eq_true rfl) 0 rfl rfl rfl dX3_cannotClean_2 (roomL rfl rfl) ⟨rfl, rfl⟩ ?_
  refine v_if_neB C 11 dX3_cannotClean_5 (by decide) (fun c5_1 => ?_) (fun c5_1 => ?_)
  · skip
    refine v_iload_n C dX3_cannotClean_11 2 rfl ?_
    refine v_iconst (v := 1) C dX3_cannotClean_12 (by decide) ?_
    refine v_sipush (v := 1000) C dX3_cannotClean_13 (by decide) ?_
    refine v_callSp C (m_in l g _ _ _) ok_X3_in rfl q1218 rfl (Nat.le_of_ble_eq_true rfl) dX3_cannotClean_16 (roomL rfl rfl) ⟨rfl, rfl⟩ ?_
    refine v_if_neB C 25 dX3_cannotClean_19 (by decide) (fun c19_2 => ?_) (fun c19_2 => ?_)
    · skip
      refine v_aload_n C dX3_cannotClean_25 0 rfl ?_
      refine v_get C in_X3 rfl 0 rfl 0 (by decide) q1166 (fun _ h => h) rfl dX3_cannotClean_26 ?_
      refine v_iconst (v := 0) C dX3_cannotClean_29 (by decide) ?_
      refine v_iald C dX3_cannotClean_30 1 rfl (j := 0) (ixl rfl) ?_
      refine v_iload_n C dX3_cannotClean_31 2 rfl ?_
      refine v_iadd C dX3_cannotClean_32 ?_
      refine v_ldc C dX3_cannotClean_33 q1351 ?_
      refine v_icmp_le C 43 dX3_cannotClean_35 (by decide) (fun c35_3 => ?_) (fun c35_3 => ?_)
      · skip
        refine v_iconst (v := 0) C dX3_cannotClean_43 (by decide) ?_
        exact v_iret C dX3_cannotClean_44 (Nat.le_of_ble_eq_true rfl) (Nat.le_of_ble_eq_true rfl) (by unfold p_cannotClean; (try dsimp only); rw [if_pos c5_1, if_pos c19_2, if_pos c35_3]; exact ⟨rfl, rfl⟩)
      · skip
        refine v_bipush (v := -5) C dX3_cannotClean_38 (by decide) ?_
        refine v_goto C 44 dX3_cannotClean_40 (by decide) ?_
        exact v_iret C dX3_cannotClean_44 (Nat.le_of_ble_eq_true rfl) (Nat.le_of_ble_eq_true rfl) (by unfold p_cannotClean; (try dsimp only); rw [if_pos c5_1, if_pos c19_2, if_neg c35_3]; exact ⟨rfl, rfl⟩)
    · skip
      refine v_bipush (v := -3) C dX3_cannotClean_22 (by decide) ?_
      exact v_iret C dX3_cannotClean_24 (Nat.le_of_ble_eq_true rfl) (Nat.le_of_ble_eq_true rfl) (by unfold p_cannotClean; (try dsimp only); rw [if_pos c5_1, if_neg c19_2]; exact ⟨rfl, rfl⟩)
  · skip
    refine v_bipush (v := -2) C dX3_cannotClean_8 (by decide) ?_
    exact v_iret C dX3_cannotClean_10 (Nat.le_of_ble_eq_true rfl) (Nat.le_of_ble_eq_true rfl) (by unfold p_cannotClean; (try dsimp only); rw [if_neg c5_1]; exact ⟨rfl, rfl⟩)
def M_X3_cleans : Md := (yX3_cleans, cX3_cleans, 4, (some .int), 4, 107, 0, 0)
theorem ok_X3_cleans : MOKv M_X3_cleans 2 := ⟨q1416, qs73, q103, q1417, ⟨by decide +kernel, by decide +kernel, by decide +kernel⟩⟩
set_option maxHeartbeats 4000000 in
theorem m_cleans (l : Launch) (g : GT) (a : Nat → Nat) (row : Nat → Int32) (books : Nat → Int64) (S : Int32 × (Nat → Int32)) (B : (Nat → Int32) × Int32 × (Nat → Int32)) (T : (Nat → Int32) × Int32) (P : Int32 × Int32 × (Nat → Int32) × Int32 × Int32) (h : Int64) (nb : Nat) (hnb : row 2 = nI nb) (hb8 : nb ≤ 8) (lg : Nat) (li mi : Int32) (el : li = nI lg) (hl : lg < 3) : CtE l g M_X3_cleans [.ref (a 0), .int li, .int mi] (mw g a row books S B T P h) (some (.int (p_cleans row nb lg mi).1)) (mw g a (p_cleans row nb lg mi).2 books S B T P h) := by
  refine Ct.start2 (M := M_X3_cleans) rfl [(0, .ref (a 0)), (1, .int li), (2, .int mi)] rfl (by decide +kernel) (Nat.le_of_ble_eq_true rfl) ?_
  intro p e s m args below meth c A C
  subst el
  refine v_aload_n C dX3_cleans_0 0 rfl ?_
  refine v_iload_n C dX3_cleans_1 2 rfl ?_
  refine v_callVv C (m_passes l g a _ _ _ _ _ _ _ nb (by assumption) hb8 _) ok_X3_passes rfl q1356 rfl (Nat.le_of_ble_eq_true rfl) 0 rfl rfl rfl dX3_cleans_2 (roomL rfl rfl) ⟨rfl, rfl⟩ ?_
  refine v_aload_n C dX3_cleans_5 0 rfl ?_
  refine v_iload_n C dX3_cleans_6 1 rfl ?_
  refine v_iconst (v := 2) C dX3_cleans_7 (by decide) ?_
  refine v_callVw C (m_ofLeg l g a _ _ _ _ _ _ _ lg 2 _ _ rfl rfl (by omega)) ok_X3_ofLeg rfl q1257 rfl (Nat.le_of_ble_eq_true rfl) 0 rfl rfl rfl dX3_cleans_8 (roomL rfl rfl) ⟨rfl, rfl⟩ ?_
  refine v_bipush (v := 50) C dX3_cleans_11 (by decide) ?_
  refine v_iload_n C dX3_cleans_13 2 rfl ?_
  refine v_imul C dX3_cleans_14 ?_
  refine v_isub C dX3_cleans_15 ?_
  refine v_istore_n (lv' := [(3, _), (0, _), (1, _), (2, _)]) C dX3_cleans_16 rfl (by decide) rfl ?_
  refine v_aload_n C dX3_cleans_17 1 rfl ?_
  refine v_get C in_X3 rfl 0 rfl 0 (by decide) q1166 (fun _ h => h) rfl dX3_cleans_18 ?_
  refine v_bipush (v := 82) C dX3_cleans_21 (by decide) ?_
  refine v_iconst (v := 4) C dX3_cleans_23 (by decide) ?_
  refine v_iload_n C dX3_cleans_24 2 rfl ?_
  refine v_imul C dX3_cleans_25 ?_
  refine v_eqi (pk_mul 4 lg) ?_
  refine v_iadd C dX3_cleans_26 ?_
  refine v_eqi (nI_add 82 (4 * lg)) ?_
  refine v_iconst (v := 2) C dX3_cleans_27 (by decide) ?_
  refine v_iadd C dX3_cleans_28 ?_
  refine v_eqi (nI_add (82 + (4 * lg)) 2) ?_
  refine v_iload_n C dX3_cleans_29 0 rfl ?_
  refine v_if_ge C 37 dX3_cleans_30 (by decide) (fun c30_1 => ?_) (fun c30_1 => ?_)
  · skip
    refine v_iload_n C dX3_cleans_37 0 rfl ?_
    refine v_iast (ws' := mw g a _ _ _ _ _ _ _) C dX3_cleans_38 1 rfl (ixn (by omega) (by decide)) rfl ?_
    refine v_aload_n C dX3_cleans_39 1 rfl ?_
    refine v_iload_n C dX3_cleans_40 2 rfl ?_
    refine v_iconst (v := 2) C dX3_cleans_41 (by decide) ?_
    refine v_callVw C (m_ofLeg l g a _ _ _ _ _ _ _ lg 2 _ _ rfl rfl (by omega)) ok_X3_ofLeg rfl q1257 rfl (Nat.le_of_ble_eq_true rfl) 0 rfl rfl rfl dX3_cleans_42 (roomL rfl rfl) ⟨rfl, rfl⟩ ?_
    exact v_iret C dX3_cleans_45 (Nat.le_of_ble_eq_true rfl) (Nat.le_of_ble_eq_true rfl) (by unfold p_cleans; (try dsimp only); rw [if_pos c30_1]; exact ⟨rfl, rfl⟩)
  · skip
    refine v_iconst (v := 0) C dX3_cleans_33 (by decide) ?_
    refine v_goto C 38 dX3_cleans_34 (by decide) ?_
    refine v_iast (ws' := mw g a _ _ _ _ _ _ _) C dX3_cleans_38 1 rfl (ixn (by omega) (by decide)) rfl ?_
    refine v_aload_n C dX3_cleans_39 1 rfl ?_
    refine v_iload_n C dX3_cleans_40 2 rfl ?_
    refine v_iconst (v := 2) C dX3_cleans_41 (by decide) ?_
    refine v_callVw C (m_ofLeg l g a _ _ _ _ _ _ _ lg 2 _ _ rfl rfl (by omega)) ok_X3_ofLeg rfl q1257 rfl (Nat.le_of_ble_eq_true rfl) 0 rfl rfl rfl dX3_cleans_42 (roomL rfl rfl) ⟨rfl, rfl⟩ ?_
    exact v_iret C dX3_cleans_45 (Nat.le_of_ble_eq_true rfl) (Nat.le_of_ble_eq_true rfl) (by unfold p_cleans; (try dsimp only); rw [if_neg c30_1]; exact ⟨rfl, rfl⟩)
def M_X3_clean : Md := (yX3_clean, cX3_clean, 4, (some .int), 5, 130, 0, 0)
theorem ok_X3_clean : MOKv M_X3_clean 2 := ⟨q1407, q1408, q103, q1409, ⟨by decide +kernel, by decide +kernel, by decide +kernel⟩⟩
set_option maxHeartbeats 4000000 in
theorem m_clean (l : Launch) (g : GT) (a : Nat → Nat) (K : KT) (B : (Nat → Int32) × Int32 × (Nat → Int32)) (T : (Nat → Int32) × Int32) (P : Int32 × Int32 × (Nat → Int32) × Int32 × Int32) (h : Int64) (hK : KOk K) (leg mi : Int32) : CtE l g M_X3_clean [.ref (a 0), .int leg, .int mi] (mw g a K.1 K.2.1 K.2.2 B T P h) (some (.int (p_clean K leg mi).1)) (mw g a (p_clean K leg mi).2.1 (p_clean K leg mi).2.2.1 (p_clean K leg mi).2.2.2 B T P h) := by
  refine Ct.start2 (M := M_X3_clean) rfl [(0, .ref (a 0)), (1, .int leg), (2, .int mi)] rfl (by decide +kernel) (Nat.le_of_ble_eq_true rfl) ?_
  intro p e s m args below meth c A C
  obtain ⟨⟨hnb, hb8⟩, ⟨hnl, hl3⟩, ⟨hnc, hc6⟩, hsv, hs5⟩ := id hK
  refine v_aload_n C dX3_clean_0 0 rfl ?_
  refine v_iload_n C dX3_clean_1 1 rfl ?_
  refine v_iload_n C dX3_clean_2 2 rfl ?_
  refine v_callVw C (m_cannotClean l g a _ _ _ _ _ _ _ _ _) ok_X3_cannotClean rfl q1410 rfl (Nat.le_of_ble_eq_true rfl) 0 rfl rfl rfl dX3_clean_3 (roomL rfl rfl) ⟨rfl, rfl⟩ ?_
  refine v_istore_n (lv' := [(3, _), (0, _), (1, _), (2, _)]) C dX3_clean_6 rfl (by decide) rfl ?_
  refine v_iload_n C dX3_clean_7 0 rfl ?_
  refine v_if_eq C 13 dX3_clean_8 (by decide) (fun c8_1 => ?_) (fun c8_1 => ?_)
  · skip
    obtain ⟨q1, q2, -⟩ := cC0 c8_1
    obtain ⟨el, hl⟩ := isB_c hnl (by omega) q1
    refine v_aload_n C dX3_clean_13 1 rfl ?_
    refine v_callVv C (m_saves l g a _ _ _ _ _ hK.2.2.2.1 hK.2.2.2.2) ok_X3_saves rfl q1221 rfl (Nat.le_of_ble_eq_true rfl) 0 rfl rfl rfl dX3_clean_14 (roomL rfl rfl) ⟨rfl, rfl⟩ ?_
    refine v_aload_n C dX3_clean_17 1 rfl ?_
    refine v_iload_n C dX3_clean_18 2 rfl ?_
    refine v_iload_n C dX3_clean_19 3 rfl ?_
    refine v_callVw C (m_cleans l g a _ _ _ _ _ _ _ (nbK K) (svK_2 hK) hb8 leg.toNatClampNeg _ _ el (by omega)) ok_X3_cleans rfl q1414 rfl (Nat.le_of_ble_eq_true rfl) 0 rfl rfl rfl dX3_clean_20 (roomL rfl rfl) ⟨rfl, rfl⟩ ?_
    exact v_iret C dX3_clean_23 (Nat.le_of_ble_eq_true rfl) (Nat.le_of_ble_eq_true rfl) (by unfold p_clean; (try dsimp only); rw [if_pos c8_1]; exact ⟨rfl, rfl⟩)
  · skip
    refine v_iload_n C dX3_clean_11 0 rfl ?_
    exact v_iret C dX3_clean_12 (Nat.le_of_ble_eq_true rfl) (Nat.le_of_ble_eq_true rfl) (by unfold p_clean; (try dsimp only); rw [if_neg c8_1]; exact ⟨rfl, rfl⟩)
def M_X3_pass : Md := (yX3_pass, cX3_pass, 2, (some .int), 4, 107, 0, 0)
theorem ok_X3_pass : MOKv M_X3_pass 1 := ⟨q1419, q1420, q103, q1421, ⟨by decide +kernel, by decide +kernel, by decide +kernel⟩⟩
set_option maxHeartbeats 4000000 in
theorem m_pass (l : Launch) (g : GT) (a : Nat → Nat) (K : KT) (B : (Nat → Int32) × Int32 × (Nat → Int32)) (T : (Nat → Int32) × Int32) (P : Int32 × Int32 × (Nat → Int32) × Int32 × Int32) (h : Int64) (hK : KOk K) (mi : Int32) : CtE l g M_X3_pass [.ref (a 0), .int mi] (mw g a K.1 K.2.1 K.2.2 B T P h) (some (.int (p_pass K mi).1)) (mw g a (p_pass K mi).2.1 (p_pass K mi).2.2.1 (p_pass K mi).2.2.2 B T P h) := by
  refine Ct.start2 (M := M_X3_pass) rfl [(0, .ref (a 0)), (1, .int mi)] rfl (by decide +kernel) (Nat.le_of_ble_eq_true rfl) ?_
  intro p e s m args below meth c A C
  obtain ⟨⟨hnb, hb8⟩, ⟨hnl, hl3⟩, ⟨hnc, hc6⟩, hsv, hs5⟩ := id hK
  refine v_iload_n C dX3_pass_0 1 rfl ?_
  refine v_iconst (v := 1) C dX3_pass_1 (by decide) ?_
  refine v_sipush (v := 10000) C dX3_pass_2 (by decide) ?_
  refine v_callSp C (m_in l g _ _ _) ok_X3_in rfl q1218 rfl (Nat.le_of_ble_eq_true rfl) dX3_pass_5 (roomL rfl rfl) ⟨rfl, rfl⟩ ?_
  refine v_if_neB C 14 dX3_pass_8 (by decide) (fun c8_1 => ?_) (fun c8_1 => ?_)
  · skip
    refine v_aload_n C dX3_pass_14 0 rfl ?_
    refine v_get C in_X3 rfl 0 rfl 0 (by decide) q1166 (fun _ h => h) rfl dX3_pass_15 ?_
    refine v_iconst (v := 0) C dX3_pass_18 (by decide) ?_
    refine v_iald C dX3_pass_19 1 rfl (j := 0) (ixl rfl) ?_
    refine v_iload_n C dX3_pass_20 1 rfl ?_
    refine v_iadd C dX3_pass_21 ?_
    refine v_ldc C dX3_pass_22 q1351 ?_
    refine v_icmp_le C 30 dX3_pass_24 (by decide) (fun c24_2 => ?_) (fun c24_2 => ?_)
    · skip
      refine v_aload_n C dX3_pass_30 0 rfl ?_
      refine v_callVv C (m_saves l g a _ _ _ _ _ hK.2.2.2.1 hK.2.2.2.2) ok_X3_saves rfl q1221 rfl (Nat.le_of_ble_eq_true rfl) 0 rfl rfl rfl dX3_pass_31 (roomL rfl rfl) ⟨rfl, rfl⟩ ?_
      refine v_aload_n C dX3_pass_34 0 rfl ?_
      refine v_iload_n C dX3_pass_35 1 rfl ?_
      refine v_callVv C (m_passes l g a _ _ _ _ _ _ _ (nbK K) (svK_2 hK) hb8 _) ok_X3_passes rfl q1356 rfl (Nat.le_of_ble_eq_true rfl) 0 rfl rfl rfl dX3_pass_36 (roomL rfl rfl) ⟨rfl, rfl⟩ ?_
      refine v_aload_n C dX3_pass_39 0 rfl ?_
      refine v_get C in_X3 rfl 0 rfl 0 (by decide) q1166 (fun _ h => h) rfl dX3_pass_40 ?_
      refine v_iconst (v := 0) C dX3_pass_43 (by decide) ?_
      refine v_iald C dX3_pass_44 1 rfl (j := 0) (ixl rfl) ?_
      exact v_iret C dX3_pass_45 (Nat.le_of_ble_eq_true rfl) (Nat.le_of_ble_eq_true rfl) (by unfold p_pass; (try dsimp only); rw [if_pos c8_1, if_pos c24_2]; exact ⟨rfl, rfl⟩)
    · skip
      refine v_bipush (v := -5) C dX3_pass_27 (by decide) ?_
      exact v_iret C dX3_pass_29 (Nat.le_of_ble_eq_true rfl) (Nat.le_of_ble_eq_true rfl) (by unfold p_pass; (try dsimp only); rw [if_pos c8_1, if_neg c24_2]; exact ⟨rfl, rfl⟩)
  · skip
    refine v_bipush (v := -3) C dX3_pass_11 (by decide) ?_
    exact v_iret C dX3_pass_13 (Nat.le_of_ble_eq_true rfl) (Nat.le_of_ble_eq_true rfl) (by unfold p_pass; (try dsimp only); rw [if_neg c8_1]; exact ⟨rfl, rfl⟩)
def M_X3_cannotDry : Md := (yX3_cannotDry, cX3_cannotDry, 3, (some .int), 3, 83, 0, 0)
theorem ok_X3_cannotDry : MOKv M_X3_cannotDry 2 := ⟨q1428, qs74, q103, q1429, ⟨by decide +kernel, by decide +kernel, by decide +kernel⟩⟩
set_option maxHeartbeats 4000000 in
theorem m_cannotDry (l : Launch) (g : GT) (a : Nat → Nat) (row : Nat → Int32) (books : Nat → Int64) (S : Int32 × (Nat → Int32)) (B : (Nat → Int32) × Int32 × (Nat → Int32)) (T : (Nat → Int32) × Int32) (P : Int32 × Int32 × (Nat → Int32) × Int32 × Int32) (h : Int64) (nb : Nat) (hnb : row 2 = nI nb) (hb8 : nb ≤ 8) (bin st : Int32) : CtE l g M_X3_cannotDry [.ref (a 0), .int bin, .int st] (mw g a row books S B T P h) (some (.int (p_cannotDry row bin st))) (mw g a row books S B T P h) := by
  refine Ct.start2 (M := M_X3_cannotDry) rfl [(0, .ref (a 0)), (1, .int bin), (2, .int st)] rfl (by decide +kernel) (Nat.le_of_ble_eq_true rfl) ?_
  intro p e s m args below meth c A C
  refine v_aload_n C dX3_cannotDry_0 0 rfl ?_
  refine v_iload_n C dX3_cannotDry_1 1 rfl ?_
  refine v_callVw C (m_isBin l g a _ _ _ _ _ _ _ _) ok_X3_isBin rfl q1237 rfl (Nat.le_of_ble_eq_true rfl) 0 rfl rfl rfl dX3_cannotDry_2 (roomL rfl rfl) ⟨rfl, rfl⟩ ?_
  refine v_if_neB C 11 dX3_cannotDry_5 (by decide) (fun c5_1 => ?_) (fun c5_1 => ?_)
  · skip
    obtain ⟨eb, hb⟩ := isB_c hnb (by omega) c5_1
    refine v_iload_n C dX3_cannotDry_11 2 rfl ?_
    refine v_iconst (v := 1) C dX3_cannotDry_12 (by decide) ?_
    refine v_sipush (v := 200) C dX3_cannotDry_13 (by decide) ?_
    refine v_callSp C (m_in l g _ _ _) ok_X3_in rfl q1218 rfl (Nat.le_of_ble_eq_true rfl) dX3_cannotDry_16 (roomL rfl rfl) ⟨rfl, rfl⟩ ?_
    refine v_if_neB C 25 dX3_cannotDry_19 (by decide) (fun c19_2 => ?_) (fun c19_2 => ?_)
    · skip
      refine v_aload_n C dX3_cannotDry_25 0 rfl ?_
      refine v_iload_n C dX3_cannotDry_26 1 rfl ?_
      refine v_eqi eb ?_
      refine v_iconst (v := 3) C dX3_cannotDry_27 (by decide) ?_
      refine v_callVw C (m_of l g a _ _ _ _ _ _ _ (bin.toNatClampNeg) 3 _ _ rfl rfl (by omega)) ok_X3_of rfl q1241 rfl (Nat.le_of_ble_eq_true rfl) 0 rfl rfl rfl dX3_cannotDry_28 (roomL rfl rfl) ⟨rfl, rfl⟩ ?_
      refine v_if_ne C 37 dX3_cannotDry_31 (by decide) (fun c31_3 => ?_) (fun c31_3 => ?_)
      · skip
        refine v_aload_n C dX3_cannotDry_37 0 rfl ?_
        refine v_get C in_X3 rfl 0 rfl 0 (by decide) q1166 (fun _ h => h) rfl dX3_cannotDry_38 ?_
        refine v_iconst (v := 0) C dX3_cannotDry_41 (by decide) ?_
        refine v_iald C dX3_cannotDry_42 1 rfl (j := 0) (ixl rfl) ?_
        refine v_bipush (v := 10) C dX3_cannotDry_43 (by decide) ?_
        refine v_iload_n C dX3_cannotDry_45 2 rfl ?_
        refine v_imul C dX3_cannotDry_46 ?_
        refine v_iadd C dX3_cannotDry_47 ?_
        refine v_ldc C dX3_cannotDry_48 q1351 ?_
        refine v_icmp_le C 58 dX3_cannotDry_50 (by decide) (fun c50_4 => ?_) (fun c50_4 => ?_)
        · skip
          refine v_iconst (v := 0) C dX3_cannotDry_58 (by decide) ?_
          exact v_iret C dX3_cannotDry_59 (Nat.le_of_ble_eq_true rfl) (Nat.le_of_ble_eq_true rfl) (by unfold p_cannotDry; (try dsimp only); rw [if_pos c5_1, if_pos c19_2, if_neg c31_3, if_pos c50_4]; exact ⟨rfl, rfl⟩)
        · skip
          refine v_bipush (v := -5) C dX3_cannotDry_53 (by decide) ?_
          refine v_goto C 59 dX3_cannotDry_55 (by decide) ?_
          exact v_iret C dX3_cannotDry_59 (Nat.le_of_ble_eq_true rfl) (Nat.le_of_ble_eq_true rfl) (by unfold p_cannotDry; (try dsimp only); rw [if_pos c5_1, if_pos c19_2, if_neg c31_3, if_neg c50_4]; exact ⟨rfl, rfl⟩)
      · skip
        refine v_bipush (v := -4) C dX3_cannotDry_34 (by decide) ?_
        exact v_iret C dX3_cannotDry_36 (Nat.le_of_ble_eq_true rfl) (Nat.le_of_ble_eq_true rfl) (by unfold p_cannotDry; (try dsimp only); rw [if_pos c5_1, if_pos c19_2, if_pos c31_3]; exact ⟨rfl, rfl⟩)
    · skip
      refine v_bipush (v := -3) C dX3_cannotDry_22 (by decide) ?_
      exact v_iret C dX3_cannotDry_24 (Nat.le_of_ble_eq_true rfl) (Nat.le_of_ble_eq_true rfl) (by unfold p_cannotDry; (try dsimp only); rw [if_pos c5_1, if_neg c19_2]; exact ⟨rfl, rfl⟩)
  · skip
    refine v_bipush (v := -2) C dX3_cannotDry_8 (by decide) ?_
    exact v_iret C dX3_cannotDry_10 (Nat.le_of_ble_eq_true rfl) (Nat.le_of_ble_eq_true rfl) (by unfold p_cannotDry; (try dsimp only); rw [if_neg c5_1]; exact ⟨rfl, rfl⟩)
def M_X3_dries : Md := (yX3_dries, cX3_dries, 6, (some .int), 4, 107, 0, 0)
theorem ok_X3_dries : MOKv M_X3_dries 2 := ⟨q1432, qs75, q103, q1433, ⟨by decide +kernel, by decide +kernel, by decide +kernel⟩⟩
set_option maxHeartbeats 4000000 in
theorem m_dries (l : Launch) (g : GT) (a : Nat → Nat) (row : Nat → Int32) (books : Nat → Int64) (S : Int32 × (Nat → Int32)) (B : (Nat → Int32) × Int32 × (Nat → Int32)) (T : (Nat → Int32) × Int32) (P : Int32 × Int32 × (Nat → Int32) × Int32 × Int32) (h : Int64) (nb : Nat) (hnb : row 2 = nI nb) (hb8 : nb ≤ 8) (b st : Nat) (bi sti : Int32) (eb : bi = nI b) (es : sti = nI st) (hb : b < 8) (hst : st ≤ 200) : CtE l g M_X3_dries [.ref (a 0), .int bi, .int sti] (mw g a row books S B T P h) (some (.int (p_dries b nb st 0 (row, books)).1)) (mw g a (p_dries b nb st 0 (row, books)).2.1 (p_dries b nb st 0 (row, books)).2.2 S B T P h) := by
  refine Ct.start2 (M := M_X3_dries) rfl [(0, .ref (a 0)), (1, .int bi), (2, .int sti)] rfl (by decide +kernel) (Nat.le_of_ble_eq_true rfl) ?_
  intro p e s m args below meth c A C
  subst eb; subst es
  refine v_iconst (v := 0) C dX3_dries_0 (by decide) ?_
  refine v_istore_n (lv' := [(3, _), (0, _), (1, _), (2, _)]) C dX3_dries_1 rfl (by decide) rfl ?_
  refine v_while (α := Nat × Nat × (Nat → Int32) × (Nat → Int64)) (fun x => x.1) (fun x => x.1 + x.2.1 = st ∧ x.2.2.1 2 = nI nb ∧ p_dries b nb st 0 (row, books) = p_dries b nb x.1 x.2.1 x.2.2) (fun x => [(3, .int (nI x.2.1)), (0, .ref (a 0)), (1, .int (nI b)), (2, .int (nI st))]) (fun x => mw g a x.2.2.1 x.2.2.2 S B T P h) (st, 0, row, books) rfl rfl ⟨by dsimp only; omega, hnb, rfl⟩ ?_
  rintro ⟨f, n, r, bk⟩ ⟨h1, h2, h3⟩ ih
  dsimp only at h1 h2 h3 ih ⊢
  refine v_iload_n C dX3_dries_2 0 rfl ?_
  refine v_iload_n C dX3_dries_3 3 rfl ?_
  refine v_icmp_ge C 147 dX3_dries_4 (by decide) (fun c4_1 => ?_) (fun c4_1 => ?_)
  · skip
    refine v_iload_n C dX3_dries_147 0 rfl ?_
    exact v_iret C dX3_dries_148 (Nat.le_of_ble_eq_true rfl) (Nat.le_of_ble_eq_true rfl) (by
      have hf : f = 0 := by
        have := (nI_leI (by omega) (by omega)).mp c4_1
        omega
      subst hf; rw [h3]; exact ⟨rfl, rfl⟩)
  · skip
    have hlt : n < st := by
      rcases Nat.lt_or_ge n st with q | q
      · exact q
      · exact absurd ((nI_leI (by omega) (by omega)).mpr q) c4_1
    obtain ⟨f, rfl⟩ : ∃ f', f = f' + 1 := ⟨f - 1, by omega⟩
    refine v_aload_n C dX3_dries_7 1 rfl ?_
    refine v_iload_n C dX3_dries_8 2 rfl ?_
    refine v_callVw C (m_moisture l g a _ _ _ _ _ _ _ b _ rfl (by omega)) ok_X3_moisture rfl q1300 rfl (Nat.le_of_ble_eq_true rfl) 0 rfl rfl rfl dX3_dries_9 (roomL rfl rfl) ⟨rfl, rfl⟩ ?_
    refine v_bipush (v := 50) C dX3_dries_12 (by decide) ?_
    refine v_icmp_le C 147 dX3_dries_14 (by decide) (fun c14_2 => ?_) (fun c14_2 => ?_)
    · skip
      refine v_iload_n C dX3_dries_147 0 rfl ?_
      exact v_iret C dX3_dries_148 (Nat.le_of_ble_eq_true rfl) (Nat.le_of_ble_eq_true rfl) (by rw [h3, p_dries, if_pos c14_2]; exact ⟨rfl, rfl⟩)
    · skip
      refine v_aload_n C dX3_dries_17 1 rfl ?_
      refine v_bipush (v := 10) C dX3_dries_18 (by decide) ?_
      refine v_callVv C (m_passes l g a _ _ _ _ _ _ _ nb h2 hb8 _) ok_X3_passes rfl q1356 rfl (Nat.le_of_ble_eq_true rfl) 0 rfl rfl rfl dX3_dries_20 (roomL rfl rfl) ⟨rfl, rfl⟩ ?_
      refine v_aload_n C dX3_dries_23 1 rfl ?_
      refine v_iload_n C dX3_dries_24 2 rfl ?_
      refine v_iconst (v := 4) C dX3_dries_25 (by decide) ?_
      refine v_callVw C (m_of l g a _ _ _ _ _ _ _ b 4 _ _ rfl rfl (by omega)) ok_X3_of rfl q1241 rfl (Nat.le_of_ble_eq_true rfl) 0 rfl rfl rfl dX3_dries_26 (roomL rfl rfl) ⟨rfl, rfl⟩ ?_
      refine v_bipush (v := 20) C dX3_dries_29 (by decide) ?_
      refine v_idiv C dX3_dries_31 (by decide) ?_
      refine v_istore (lv' := [(4, _), (3, _), (0, _), (1, _), (2, _)]) C dX3_dries_32 (by decide) rfl ?_
      refine v_iload C dX3_dries_34 0 rfl ?_
      refine v_sipush (v := 1000) C dX3_dries_36 (by decide) ?_
      refine v_idiv C dX3_dries_39 (by decide) ?_
      refine v_aload_n C dX3_dries_40 2 rfl ?_
      refine v_iload_n C dX3_dries_41 3 rfl ?_
      refine v_iconst (v := 3) C dX3_dries_42 (by decide) ?_
      refine v_callVw C (m_of l g a _ _ _ _ _ _ _ b 3 _ _ rfl rfl (by omega)) ok_X3_of rfl q1241 rfl (Nat.le_of_ble_eq_true rfl) 0 rfl rfl rfl dX3_dries_43 (roomL rfl rfl) ⟨rfl, rfl⟩ ?_
      refine v_iconst (v := 1) C dX3_dries_46 (by decide) ?_
      refine v_isub C dX3_dries_47 ?_
      refine v_icmp_ge C 60 dX3_dries_48 (by decide) (fun c48_3 => ?_) (fun c48_3 => ?_)
      · skip
        refine v_aload_n C dX3_dries_60 2 rfl ?_
        refine v_iload_n C dX3_dries_61 3 rfl ?_
        refine v_iconst (v := 3) C dX3_dries_62 (by decide) ?_
        refine v_callVw C (m_of l g a _ _ _ _ _ _ _ b 3 _ _ rfl rfl (by omega)) ok_X3_of rfl q1241 rfl (Nat.le_of_ble_eq_true rfl) 0 rfl rfl rfl dX3_dries_63 (roomL rfl rfl) ⟨rfl, rfl⟩ ?_
        refine v_iconst (v := 1) C dX3_dries_66 (by decide) ?_
        refine v_isub C dX3_dries_67 ?_
        refine v_istore (lv' := [(5, _), (4, _), (3, _), (0, _), (1, _), (2, _)]) C dX3_dries_68 (by decide) rfl ?_
        refine v_aload_n C dX3_dries_70 3 rfl ?_
        refine v_iload_n C dX3_dries_71 4 rfl ?_
        refine v_iconst (v := 4) C dX3_dries_72 (by decide) ?_
        refine v_aload_n C dX3_dries_73 3 rfl ?_
        refine v_iload_n C dX3_dries_74 4 rfl ?_
        refine v_iconst (v := 4) C dX3_dries_75 (by decide) ?_
        refine v_callVw C (m_of l g a _ _ _ _ _ _ _ b 4 _ _ rfl rfl (by omega)) ok_X3_of rfl q1241 rfl (Nat.le_of_ble_eq_true rfl) 0 rfl rfl rfl dX3_dries_76 (roomL rfl rfl) ⟨rfl, rfl⟩ ?_
        refine v_iload C dX3_dries_79 1 rfl ?_
        refine v_isub C dX3_dries_81 ?_
        refine v_callVv C (m_sets l g a _ _ _ _ _ _ _ b 4 _ _ _ rfl rfl (by omega)) ok_X3_sets rfl q1229 rfl (Nat.le_of_ble_eq_true rfl) 0 rfl rfl rfl dX3_dries_82 (roomL rfl rfl) ⟨rfl, rfl⟩ ?_
        refine v_aload_n C dX3_dries_85 3 rfl ?_
        refine v_iload_n C dX3_dries_86 4 rfl ?_
        refine v_iconst (v := 3) C dX3_dries_87 (by decide) ?_
        refine v_aload_n C dX3_dries_88 3 rfl ?_
        refine v_iload_n C dX3_dries_89 4 rfl ?_
        refine v_iconst (v := 3) C dX3_dries_90 (by decide) ?_
        refine v_callVw C (m_of l g a _ _ _ _ _ _ _ b 3 _ _ rfl rfl (by omega)) ok_X3_of rfl q1241 rfl (Nat.le_of_ble_eq_true rfl) 0 rfl rfl rfl dX3_dries_91 (roomL rfl rfl) ⟨rfl, rfl⟩ ?_
        refine v_iload C dX3_dries_94 0 rfl ?_
        refine v_isub C dX3_dries_96 ?_
        refine v_callVv C (m_sets l g a _ _ _ _ _ _ _ b 3 _ _ _ rfl rfl (by omega)) ok_X3_sets rfl q1229 rfl (Nat.le_of_ble_eq_true rfl) 0 rfl rfl rfl dX3_dries_97 (roomL rfl rfl) ⟨rfl, rfl⟩ ?_
        refine v_aload_n C dX3_dries_100 3 rfl ?_
        refine v_iload_n C dX3_dries_101 4 rfl ?_
        refine v_bipush (v := 8) C dX3_dries_102 (by decide) ?_
        refine v_aload_n C dX3_dries_104 3 rfl ?_
        refine v_iload_n C dX3_dries_105 4 rfl ?_
        refine v_bipush (v := 8) C dX3_dries_106 (by decide) ?_
        refine v_callVw C (m_of l g a _ _ _ _ _ _ _ b 8 _ _ rfl rfl (by omega)) ok_X3_of rfl q1241 rfl (Nat.le_of_ble_eq_true rfl) 0 rfl rfl rfl dX3_dries_108 (roomL rfl rfl) ⟨rfl, rfl⟩ ?_
        refine v_iload C dX3_dries_111 0 rfl ?_
        refine v_iadd C dX3_dries_113 ?_
        refine v_callVv C (m_sets l g a _ _ _ _ _ _ _ b 8 _ _ _ rfl rfl (by omega)) ok_X3_sets rfl q1229 rfl (Nat.le_of_ble_eq_true rfl) 0 rfl rfl rfl dX3_dries_114 (roomL rfl rfl) ⟨rfl, rfl⟩ ?_
        refine v_aload_n C dX3_dries_117 3 rfl ?_
        refine v_get C in_X3 rfl 0 rfl 1 (by decide) q1167 (fun _ h => h) rfl dX3_dries_118 ?_
        refine v_iconst (v := 2) C dX3_dries_121 (by decide) ?_
        refine v_dup2_11 C dX3_dries_122 rfl rfl ?_
        refine v_lald C dX3_dries_123 2 rfl (j := 2) (ixl rfl) ?_
        refine v_iload C dX3_dries_124 0 rfl ?_
        refine v_i2l C dX3_dries_126 ?_
        refine v_ladd C dX3_dries_127 ?_
        refine v_last (ws' := mw g a _ _ _ _ _ _ _) C dX3_dries_128 2 rfl (j := 2) (ixl rfl) rfl ?_
        refine v_aload_n C dX3_dries_129 3 rfl ?_
        refine v_get C in_X3 rfl 0 rfl 1 (by decide) q1167 (fun _ h => h) rfl dX3_dries_130 ?_
        refine v_iconst (v := 5) C dX3_dries_133 (by decide) ?_
        refine v_dup2_11 C dX3_dries_134 rfl rfl ?_
        refine v_lald C dX3_dries_135 2 rfl (j := 5) (ixl rfl) ?_
        refine v_ldc2 C dX3_dries_136 q1434 ?_
        refine v_ladd C dX3_dries_139 ?_
        refine v_last (ws' := mw g a _ _ _ _ _ _ _) C dX3_dries_140 2 rfl (j := 5) (ixl rfl) rfl ?_
        refine v_iinc (lv' := [(3, _), (5, _), (4, _), (0, _), (1, _), (2, _)]) C dX3_dries_141 2 rfl (nI_1 n) (by decide) rfl ?_
        refine v_goto C 2 dX3_dries_144 (by decide) ?_
        refine v_lvp (lv' := [(3, _), (0, _), (1, _), (2, _)]) [0, 3, 4, 5] rfl ?_
        have e1 := ih (f, n + 1, p_dry1 b nb (r, bk)) ⟨by dsimp only; omega, (dry1_2 (by decide) (by decide)).trans h2, by rw [h3, p_dries, if_neg c14_2]⟩ (by dsimp only; omega)
        unfold p_dry1 at e1
        dsimp only at e1
        rw [if_pos c48_3] at e1
        exact e1
      · skip
        refine v_iload C dX3_dries_51 0 rfl ?_
        refine v_sipush (v := 1000) C dX3_dries_53 (by decide) ?_
        refine v_idiv C dX3_dries_56 (by decide) ?_
        refine v_goto C 68 dX3_dries_57 (by decide) ?_
        refine v_istore (lv' := [(5, _), (4, _), (3, _), (0, _), (1, _), (2, _)]) C dX3_dries_68 (by decide) rfl ?_
        refine v_aload_n C dX3_dries_70 3 rfl ?_
        refine v_iload_n C dX3_dries_71 4 rfl ?_
        refine v_iconst (v := 4) C dX3_dries_72 (by decide) ?_
        refine v_aload_n C dX3_dries_73 3 rfl ?_
        refine v_iload_n C dX3_dries_74 4 rfl ?_
        refine v_iconst (v := 4) C dX3_dries_75 (by decide) ?_
        refine v_callVw C (m_of l g a _ _ _ _ _ _ _ b 4 _ _ rfl rfl (by omega)) ok_X3_of rfl q1241 rfl (Nat.le_of_ble_eq_true rfl) 0 rfl rfl rfl dX3_dries_76 (roomL rfl rfl) ⟨rfl, rfl⟩ ?_
        refine v_iload C dX3_dries_79 1 rfl ?_
        refine v_isub C dX3_dries_81 ?_
        refine v_callVv C (m_sets l g a _ _ _ _ _ _ _ b 4 _ _ _ rfl rfl (by omega)) ok_X3_sets rfl q1229 rfl (Nat.le_of_ble_eq_true rfl) 0 rfl rfl rfl dX3_dries_82 (roomL rfl rfl) ⟨rfl, rfl⟩ ?_
        refine v_aload_n C dX3_dries_85 3 rfl ?_
        refine v_iload_n C dX3_dries_86 4 rfl ?_
        refine v_iconst (v := 3) C dX3_dries_87 (by decide) ?_
        refine v_aload_n C dX3_dries_88 3 rfl ?_
        refine v_iload_n C dX3_dries_89 4 rfl ?_
        refine v_iconst (v := 3) C dX3_dries_90 (by decide) ?_
        refine v_callVw C (m_of l g a _ _ _ _ _ _ _ b 3 _ _ rfl rfl (by omega)) ok_X3_of rfl q1241 rfl (Nat.le_of_ble_eq_true rfl) 0 rfl rfl rfl dX3_dries_91 (roomL rfl rfl) ⟨rfl, rfl⟩ ?_
        refine v_iload C dX3_dries_94 0 rfl ?_
        refine v_isub C dX3_dries_96 ?_
        refine v_callVv C (m_sets l g a _ _ _ _ _ _ _ b 3 _ _ _ rfl rfl (by omega)) ok_X3_sets rfl q1229 rfl (Nat.le_of_ble_eq_true rfl) 0 rfl rfl rfl dX3_dries_97 (roomL rfl rfl) ⟨rfl, rfl⟩ ?_
        refine v_aload_n C dX3_dries_100 3 rfl ?_
        refine v_iload_n C dX3_dries_101 4 rfl ?_
        refine v_bipush (v := 8) C dX3_dries_102 (by decide) ?_
        refine v_aload_n C dX3_dries_104 3 rfl ?_
        refine v_iload_n C dX3_dries_105 4 rfl ?_
        refine v_bipush (v := 8) C dX3_dries_106 (by decide) ?_
        refine v_callVw C (m_of l g a _ _ _ _ _ _ _ b 8 _ _ rfl rfl (by omega)) ok_X3_of rfl q1241 rfl (Nat.le_of_ble_eq_true rfl) 0 rfl rfl rfl dX3_dries_108 (roomL rfl rfl) ⟨rfl, rfl⟩ ?_
        refine v_iload C dX3_dries_111 0 rfl ?_
        refine v_iadd C dX3_dries_113 ?_
        refine v_callVv C (m_sets l g a _ _ _ _ _ _ _ b 8 _ _ _ rfl rfl (by omega)) ok_X3_sets rfl q1229 rfl (Nat.le_of_ble_eq_true rfl) 0 rfl rfl rfl dX3_dries_114 (roomL rfl rfl) ⟨rfl, rfl⟩ ?_
        refine v_aload_n C dX3_dries_117 3 rfl ?_
        refine v_get C in_X3 rfl 0 rfl 1 (by decide) q1167 (fun _ h => h) rfl dX3_dries_118 ?_
        refine v_iconst (v := 2) C dX3_dries_121 (by decide) ?_
        refine v_dup2_11 C dX3_dries_122 rfl rfl ?_
        refine v_lald C dX3_dries_123 2 rfl (j := 2) (ixl rfl) ?_
        refine v_iload C dX3_dries_124 0 rfl ?_
        refine v_i2l C dX3_dries_126 ?_
        refine v_ladd C dX3_dries_127 ?_
        refine v_last (ws' := mw g a _ _ _ _ _ _ _) C dX3_dries_128 2 rfl (j := 2) (ixl rfl) rfl ?_
        refine v_aload_n C dX3_dries_129 3 rfl ?_
        refine v_get C in_X3 rfl 0 rfl 1 (by decide) q1167 (fun _ h => h) rfl dX3_dries_130 ?_
        refine v_iconst (v := 5) C dX3_dries_133 (by decide) ?_
        refine v_dup2_11 C dX3_dries_134 rfl rfl ?_
        refine v_lald C dX3_dries_135 2 rfl (j := 5) (ixl rfl) ?_
        refine v_ldc2 C dX3_dries_136 q1434 ?_
        refine v_ladd C dX3_dries_139 ?_
        refine v_last (ws' := mw g a _ _ _ _ _ _ _) C dX3_dries_140 2 rfl (j := 5) (ixl rfl) rfl ?_
        refine v_iinc (lv' := [(3, _), (5, _), (4, _), (0, _), (1, _), (2, _)]) C dX3_dries_141 2 rfl (nI_1 n) (by decide) rfl ?_
        refine v_goto C 2 dX3_dries_144 (by decide) ?_
        refine v_lvp (lv' := [(3, _), (0, _), (1, _), (2, _)]) [0, 3, 4, 5] rfl ?_
        have e1 := ih (f, n + 1, p_dry1 b nb (r, bk)) ⟨by dsimp only; omega, (dry1_2 (by decide) (by decide)).trans h2, by rw [h3, p_dries, if_neg c14_2]⟩ (by dsimp only; omega)
        unfold p_dry1 at e1
        dsimp only at e1
        rw [if_neg c48_3] at e1
        exact e1
def M_X3_dry : Md := (yX3_dry, cX3_dry, 4, (some .int), 5, 132, 0, 0)
theorem ok_X3_dry : MOKv M_X3_dry 2 := ⟨q1423, q1424, q103, q1425, ⟨by decide +kernel, by decide +kernel, by decide +kernel⟩⟩
set_option maxHeartbeats 4000000 in
theorem m_dry (l : Launch) (g : GT) (a : Nat → Nat) (K : KT) (B : (Nat → Int32) × Int32 × (Nat → Int32)) (T : (Nat → Int32) × Int32) (P : Int32 × Int32 × (Nat → Int32) × Int32 × Int32) (h : Int64) (hK : KOk K) (bin st : Int32) : CtE l g M_X3_dry [.ref (a 0), .int bin, .int st] (mw g a K.1 K.2.1 K.2.2 B T P h) (some (.int (p_dry K bin st).1)) (mw g a (p_dry K bin st).2.1 (p_dry K bin st).2.2.1 (p_dry K bin st).2.2.2 B T P h) := by
  refine Ct.start2 (M := M_X3_dry) rfl [(0, .ref (a 0)), (1, .int bin), (2, .int st)] rfl (by decide +kernel) (Nat.le_of_ble_eq_true rfl) ?_
  intro p e s m args below meth c A C
  obtain ⟨⟨hnb, hb8⟩, ⟨hnl, hl3⟩, ⟨hnc, hc6⟩, hsv, hs5⟩ := id hK
  refine v_aload_n C dX3_dry_0 0 rfl ?_
  refine v_iload_n C dX3_dry_1 1 rfl ?_
  refine v_iload_n C dX3_dry_2 2 rfl ?_
  refine v_callVw C (m_cannotDry l g a _ _ _ _ _ _ _ (nbK K) hnb hb8 _ _) ok_X3_cannotDry rfl q1426 rfl (Nat.le_of_ble_eq_true rfl) 0 rfl rfl rfl dX3_dry_3 (roomL rfl rfl) ⟨rfl, rfl⟩ ?_
  refine v_istore_n (lv' := [(3, _), (0, _), (1, _), (2, _)]) C dX3_dry_6 rfl (by decide) rfl ?_
  refine v_iload_n C dX3_dry_7 0 rfl ?_
  refine v_if_eq C 13 dX3_dry_8 (by decide) (fun c8_1 => ?_) (fun c8_1 => ?_)
  · skip
    obtain ⟨q1, q2, -, -⟩ := cD0 c8_1
    obtain ⟨eb, hb⟩ := isB_c hnb (by omega) q1
    obtain ⟨es, hs200, -⟩ := in1_c (n := 200) rfl (by decide) q2
    refine v_aload_n C dX3_dry_13 1 rfl ?_
    refine v_callVv C (m_saves l g a _ _ _ _ _ hK.2.2.2.1 hK.2.2.2.2) ok_X3_saves rfl q1221 rfl (Nat.le_of_ble_eq_true rfl) 0 rfl rfl rfl dX3_dry_14 (roomL rfl rfl) ⟨rfl, rfl⟩ ?_
    refine v_aload_n C dX3_dry_17 1 rfl ?_
    refine v_iload_n C dX3_dry_18 2 rfl ?_
    refine v_iload_n C dX3_dry_19 3 rfl ?_
    refine v_callVw C (m_dries l g a _ _ _ _ _ _ _ (nbK K) (svK_2 hK) hb8 bin.toNatClampNeg st.toNatClampNeg _ _ eb es (by omega) (by omega)) ok_X3_dries rfl q1430 rfl (Nat.le_of_ble_eq_true rfl) 0 rfl rfl rfl dX3_dry_20 (roomL rfl rfl) ⟨rfl, rfl⟩ ?_
    exact v_iret C dX3_dry_23 (Nat.le_of_ble_eq_true rfl) (Nat.le_of_ble_eq_true rfl) (by unfold p_dry; (try dsimp only); rw [if_pos c8_1]; exact ⟨rfl, rfl⟩)
  · skip
    refine v_iload_n C dX3_dry_11 0 rfl ?_
    exact v_iret C dX3_dry_12 (Nat.le_of_ble_eq_true rfl) (Nat.le_of_ble_eq_true rfl) (by unfold p_dry; (try dsimp only); rw [if_neg c8_1]; exact ⟨rfl, rfl⟩)
def M_X3_dump : Md := (yX3_dump, cX3_dump, 3, (some .int), 3, 84, 0, 0)
theorem ok_X3_dump : MOKv M_X3_dump 1 := ⟨q1436, q1437, q103, q1438, ⟨by decide +kernel, by decide +kernel, by decide +kernel⟩⟩
set_option maxHeartbeats 4000000 in
theorem m_dump (l : Launch) (g : GT) (a : Nat → Nat) (K : KT) (B : (Nat → Int32) × Int32 × (Nat → Int32)) (T : (Nat → Int32) × Int32) (P : Int32 × Int32 × (Nat → Int32) × Int32 × Int32) (h : Int64) (hK : KOk K) (bin : Int32) : CtE l g M_X3_dump [.ref (a 0), .int bin] (mw g a K.1 K.2.1 K.2.2 B T P h) (some (.int (p_dump K bin).1)) (mw g a (p_dump K bin).2.1 (p_dump K bin).2.2.1 (p_dump K bin).2.2.2 B T P h) := by
  refine Ct.start2 (M := M_X3_dump) rfl [(0, .ref (a 0)), (1, .int bin)] rfl (by decide +kernel) (Nat.le_of_ble_eq_true rfl) ?_
  intro p e s m args below meth c A C
  obtain ⟨⟨hnb, hb8⟩, ⟨hnl, hl3⟩, ⟨hnc, hc6⟩, hsv, hs5⟩ := id hK
  refine v_aload_n C dX3_dump_0 0 rfl ?_
  refine v_iload_n C dX3_dump_1 1 rfl ?_
  refine v_callVw C (m_isBin l g a _ _ _ _ _ _ _ _) ok_X3_isBin rfl q1237 rfl (Nat.le_of_ble_eq_true rfl) 0 rfl rfl rfl dX3_dump_2 (roomL rfl rfl) ⟨rfl, rfl⟩ ?_
  refine v_if_neB C 11 dX3_dump_5 (by decide) (fun c5_1 => ?_) (fun c5_1 => ?_)
  · skip
    obtain ⟨eb, hb⟩ := isB_c hnb (by omega) c5_1
    refine v_aload_n C dX3_dump_11 0 rfl ?_
    refine v_callVv C (m_saves l g a _ _ _ _ _ hK.2.2.2.1 hK.2.2.2.2) ok_X3_saves rfl q1221 rfl (Nat.le_of_ble_eq_true rfl) 0 rfl rfl rfl dX3_dump_12 (roomL rfl rfl) ⟨rfl, rfl⟩ ?_
    refine v_aload_n C dX3_dump_15 0 rfl ?_
    refine v_iload_n C dX3_dump_16 1 rfl ?_
    refine v_eqi eb ?_
    refine v_iconst (v := 3) C dX3_dump_17 (by decide) ?_
    refine v_callVw C (m_of l g a _ _ _ _ _ _ _ (bin.toNatClampNeg) 3 _ _ rfl rfl (by omega)) ok_X3_of rfl q1241 rfl (Nat.le_of_ble_eq_true rfl) 0 rfl rfl rfl dX3_dump_18 (roomL rfl rfl) ⟨rfl, rfl⟩ ?_
    refine v_istore_n (lv' := [(2, _), (0, _), (1, _)]) C dX3_dump_21 rfl (by decide) rfl ?_
    refine v_aload_n C dX3_dump_22 1 rfl ?_
    refine v_iload_n C dX3_dump_23 2 rfl ?_
    refine v_eqi eb ?_
    refine v_bipush (v := 8) C dX3_dump_24 (by decide) ?_
    refine v_aload_n C dX3_dump_26 1 rfl ?_
    refine v_iload_n C dX3_dump_27 2 rfl ?_
    refine v_eqi eb ?_
    refine v_bipush (v := 8) C dX3_dump_28 (by decide) ?_
    refine v_callVw C (m_of l g a _ _ _ _ _ _ _ (bin.toNatClampNeg) 8 _ _ rfl rfl (by omega)) ok_X3_of rfl q1241 rfl (Nat.le_of_ble_eq_true rfl) 0 rfl rfl rfl dX3_dump_30 (roomL rfl rfl) ⟨rfl, rfl⟩ ?_
    refine v_iload_n C dX3_dump_33 0 rfl ?_
    refine v_iadd C dX3_dump_34 ?_
    refine v_callVv C (m_sets l g a _ _ _ _ _ _ _ (bin.toNatClampNeg) 8 _ _ _ rfl rfl (by omega)) ok_X3_sets rfl q1229 rfl (Nat.le_of_ble_eq_true rfl) 0 rfl rfl rfl dX3_dump_35 (roomL rfl rfl) ⟨rfl, rfl⟩ ?_
    refine v_aload_n C dX3_dump_38 1 rfl ?_
    refine v_iload_n C dX3_dump_39 2 rfl ?_
    refine v_eqi eb ?_
    refine v_iconst (v := 3) C dX3_dump_40 (by decide) ?_
    refine v_iconst (v := 0) C dX3_dump_41 (by decide) ?_
    refine v_callVv C (m_sets l g a _ _ _ _ _ _ _ (bin.toNatClampNeg) 3 _ _ _ rfl rfl (by omega)) ok_X3_sets rfl q1229 rfl (Nat.le_of_ble_eq_true rfl) 0 rfl rfl rfl dX3_dump_42 (roomL rfl rfl) ⟨rfl, rfl⟩ ?_
    refine v_aload_n C dX3_dump_45 1 rfl ?_
    refine v_iload_n C dX3_dump_46 2 rfl ?_
    refine v_eqi eb ?_
    refine v_callVv C (m_empties l g a _ _ _ _ _ _ _ (bin.toNatClampNeg) _ rfl (by omega)) ok_X3_empties rfl q1398 rfl (Nat.le_of_ble_eq_true rfl) 0 rfl rfl rfl dX3_dump_47 (roomL rfl rfl) ⟨rfl, rfl⟩ ?_
    refine v_aload_n C dX3_dump_50 1 rfl ?_
    refine v_get C in_X3 rfl 0 rfl 1 (by decide) q1167 (fun _ h => h) rfl dX3_dump_51 ?_
    refine v_iconst (v := 2) C dX3_dump_54 (by decide) ?_
    refine v_dup2_11 C dX3_dump_55 rfl rfl ?_
    refine v_lald C dX3_dump_56 2 rfl (j := 2) (ixl rfl) ?_
    refine v_iload_n C dX3_dump_57 0 rfl ?_
    refine v_i2l C dX3_dump_58 ?_
    refine v_ladd C dX3_dump_59 ?_
    refine v_last (ws' := mw g a _ _ _ _ _ _ _) C dX3_dump_60 2 rfl (j := 2) (ixl rfl) rfl ?_
    refine v_iload_n C dX3_dump_61 0 rfl ?_
    exact v_iret C dX3_dump_62 (Nat.le_of_ble_eq_true rfl) (Nat.le_of_ble_eq_true rfl) (by unfold p_dump; (try dsimp only); rw [if_pos c5_1]; exact ⟨rfl, rfl⟩)
  · skip
    refine v_bipush (v := -2) C dX3_dump_8 (by decide) ?_
    exact v_iret C dX3_dump_10 (Nat.le_of_ble_eq_true rfl) (Nat.le_of_ble_eq_true rfl) (by unfold p_dump; (try dsimp only); rw [if_neg c5_1]; exact ⟨rfl, rfl⟩)
