/-! the reference: what is asked -/
set_option maxRecDepth 100000
def M_X3_count : Md := (yX3_count, cX3_count, 7, (some .int), 3, 83, 0, 0)
theorem ok_X3_count : MOKv M_X3_count 1 := ⟨q1281, q1282, q103, q1283, ⟨by decide +kernel, by decide +kernel, by decide +kernel⟩⟩
set_option maxHeartbeats 4000000 in
theorem m_count (l : Launch) (g : GT) (a : Nat → Nat) (row : Nat → Int32) (books : Nat → Int64) (S : Int32 × (Nat → Int32)) (B : (Nat → Int32) × Int32 × (Nat → Int32)) (T : (Nat → Int32) × Int32) (P : Int32 × Int32 × (Nat → Int32) × Int32 × Int32) (h : Int64) (nb nc : Nat) (hnb : row 2 = nI nb) (hb8 : nb ≤ 8) (hnc : row 4 = nI nc) (hc6 : nc ≤ 6) (what : Int32) : CtE l g M_X3_count [.ref (a 0), .int what] (mw g a row books S B T P h) (some (.int (p_count row nb nc what))) (mw g a row books S B T P h) := by
  refine Ct.start2 (M := M_X3_count) rfl [(0, .ref (a 0)), (1, .int what)] rfl (by decide +kernel) (Nat.le_of_ble_eq_true rfl) ?_
  intro p e s m args below meth c A C
  refine v_iload_n C dX3_count_0 1 rfl ?_
  refine v_iconst (v := 0) C dX3_count_1 (by decide) ?_
  refine v_bipush (v := 9) C dX3_count_2 (by decide) ?_
  refine v_callSp C (m_in l g _ _ _) ok_X3_in rfl q1218 rfl (Nat.le_of_ble_eq_true rfl) dX3_count_4 (roomL rfl rfl) ⟨rfl, rfl⟩ ?_
  refine v_if_neB C 13 dX3_count_7 (by decide) (fun c7_1 => ?_) (fun c7_1 => ?_)
  · skip
    refine v_iconst (v := 0) C dX3_count_13 (by decide) ?_
    refine v_istore_n (lv' := [(2, _), (0, _), (1, _)]) C dX3_count_14 rfl (by decide) rfl ?_
    refine v_iconst (v := 0) C dX3_count_15 (by decide) ?_
    refine v_istore_n (lv' := [(3, _), (2, _), (0, _), (1, _)]) C dX3_count_16 rfl (by decide) rfl ?_
    refine v_iconst (v := 0) C dX3_count_17 (by decide) ?_
    refine v_istore (lv' := [(4, _), (3, _), (2, _), (0, _), (1, _)]) C dX3_count_18 (by decide) rfl ?_
    refine v_iconst (v := 0) C dX3_count_20 (by decide) ?_
    refine v_istore (lv' := [(5, _), (4, _), (3, _), (2, _), (0, _), (1, _)]) C dX3_count_21 (by decide) rfl ?_
    refine v_iconst (v := 0) C dX3_count_23 (by decide) ?_
    refine v_istore (lv' := [(6, _), (5, _), (4, _), (3, _), (2, _), (0, _), (1, _)]) C dX3_count_24 (by decide) rfl ?_
    refine v_loop 0 nb (fun k => [(6, .int (nI k)), (5, .int 0), (4, .int (sumS row k)), (3, .int (sumF row 4 k)), (2, .int (sumF row 3 k)), (0, .ref (a 0)), (1, .int what)]) (fun k => mw g a row books S B T P h) rfl rfl (by omega) ?_ ?_
    · skip
      refine v_iload C dX3_count_26 0 rfl ?_
      refine v_aload_n C dX3_count_28 5 rfl ?_
      refine v_get C in_X3 rfl 0 rfl 0 (by decide) q1166 (fun _ h => h) rfl dX3_count_29 ?_
      refine v_iconst (v := 2) C dX3_count_32 (by decide) ?_
      refine v_iald C dX3_count_33 1 rfl (j := 2) (ixl rfl) ?_
      refine v_eqi hnb ?_
      refine v_icmp_ge C 82 dX3_count_34 (by decide) (fun c34_2 => ?_) (fun c34_2 => ?_)
      · skip
        refine v_iconst (v := 0) C dX3_count_82 (by decide) ?_
        refine v_istore (lv' := [(6, _), (5, _), (4, _), (3, _), (2, _), (0, _), (1, _)]) C dX3_count_83 (by decide) rfl ?_
        refine v_loop 0 nc (fun k => [(6, .int (nI k)), (5, .int (sumC row k)), (4, .int (sumS row nb)), (3, .int (sumF row 4 nb)), (2, .int (sumF row 3 nb)), (0, .ref (a 0)), (1, .int what)]) (fun k => mw g a row books S B T P h) rfl rfl (by omega) ?_ ?_
        · skip
          refine v_iload C dX3_count_85 0 rfl ?_
          refine v_aload_n C dX3_count_87 5 rfl ?_
          refine v_get C in_X3 rfl 0 rfl 0 (by decide) q1166 (fun _ h => h) rfl dX3_count_88 ?_
          refine v_iconst (v := 4) C dX3_count_91 (by decide) ?_
          refine v_iald C dX3_count_92 1 rfl (j := 4) (ixl rfl) ?_
          refine v_eqi hnc ?_
          refine v_icmp_ge C 114 dX3_count_93 (by decide) (fun c93_3 => ?_) (fun c93_3 => ?_)
          · skip
            refine v_iload_n C dX3_count_114 6 rfl ?_
            by_cases w0 : what = 0
            · refine v_tableIn C 164 dX3_count_115 (by rw [w0]; decide) (by rw [w0]; decide) (by rw [w0]; rfl) (by decide) ?_
              refine v_aload_n C dX3_count_164 5 rfl ?_
              refine v_get C in_X3 rfl 0 rfl 0 (by decide) q1166 (fun _ h => h) rfl dX3_count_165 ?_
              refine v_iconst (v := 2) C dX3_count_168 (by decide) ?_
              refine v_iald C dX3_count_169 1 rfl (j := 2) (ixl rfl) ?_
              exact v_iret C dX3_count_170 (Nat.le_of_ble_eq_true rfl) (Nat.le_of_ble_eq_true rfl) (by unfold p_count; (try dsimp only); rw [if_pos c7_1, if_pos w0]; exact ⟨rfl, rfl⟩)
            by_cases w1 : what = 1
            · refine v_tableIn C 171 dX3_count_115 (by rw [w1]; decide) (by rw [w1]; decide) (by rw [w1]; rfl) (by decide) ?_
              refine v_aload_n C dX3_count_171 5 rfl ?_
              refine v_get C in_X3 rfl 0 rfl 0 (by decide) q1166 (fun _ h => h) rfl dX3_count_172 ?_
              refine v_iconst (v := 3) C dX3_count_175 (by decide) ?_
              refine v_iald C dX3_count_176 1 rfl (j := 3) (ixl rfl) ?_
              exact v_iret C dX3_count_177 (Nat.le_of_ble_eq_true rfl) (Nat.le_of_ble_eq_true rfl) (by unfold p_count; (try dsimp only); rw [if_pos c7_1, if_neg w0, if_pos w1]; exact ⟨rfl, rfl⟩)
            by_cases w2 : what = 2
            · refine v_tableIn C 178 dX3_count_115 (by rw [w2]; decide) (by rw [w2]; decide) (by rw [w2]; rfl) (by decide) ?_
              refine v_aload_n C dX3_count_178 5 rfl ?_
              refine v_get C in_X3 rfl 0 rfl 0 (by decide) q1166 (fun _ h => h) rfl dX3_count_179 ?_
              refine v_iconst (v := 4) C dX3_count_182 (by decide) ?_
              refine v_iald C dX3_count_183 1 rfl (j := 4) (ixl rfl) ?_
              exact v_iret C dX3_count_184 (Nat.le_of_ble_eq_true rfl) (Nat.le_of_ble_eq_true rfl) (by unfold p_count; (try dsimp only); rw [if_pos c7_1, if_neg w0, if_neg w1, if_pos w2]; exact ⟨rfl, rfl⟩)
            by_cases w3 : what = 3
            · refine v_tableIn C 185 dX3_count_115 (by rw [w3]; decide) (by rw [w3]; decide) (by rw [w3]; rfl) (by decide) ?_
              refine v_iload C dX3_count_185 1 rfl ?_
              exact v_iret C dX3_count_187 (Nat.le_of_ble_eq_true rfl) (Nat.le_of_ble_eq_true rfl) (by unfold p_count; (try dsimp only); rw [if_pos c7_1, if_neg w0, if_neg w1, if_neg w2, if_pos w3]; exact ⟨rfl, rfl⟩)
            by_cases w4 : what = 4
            · refine v_tableIn C 188 dX3_count_115 (by rw [w4]; decide) (by rw [w4]; decide) (by rw [w4]; rfl) (by decide) ?_
              refine v_aload_n C dX3_count_188 5 rfl ?_
              refine v_get C in_X3 rfl 0 rfl 0 (by decide) q1166 (fun _ h => h) rfl dX3_count_189 ?_
              refine v_iconst (v := 0) C dX3_count_192 (by decide) ?_
              refine v_iald C dX3_count_193 1 rfl (j := 0) (ixl rfl) ?_
              exact v_iret C dX3_count_194 (Nat.le_of_ble_eq_true rfl) (Nat.le_of_ble_eq_true rfl) (by unfold p_count; (try dsimp only); rw [if_pos c7_1, if_neg w0, if_neg w1, if_neg w2, if_neg w3, if_pos w4]; exact ⟨rfl, rfl⟩)
            by_cases w5 : what = 5
            · refine v_tableIn C 195 dX3_count_115 (by rw [w5]; decide) (by rw [w5]; decide) (by rw [w5]; rfl) (by decide) ?_
              refine v_aload_n C dX3_count_195 5 rfl ?_
              refine v_get C in_X3 rfl 0 rfl 0 (by decide) q1166 (fun _ h => h) rfl dX3_count_196 ?_
              refine v_iconst (v := 1) C dX3_count_199 (by decide) ?_
              refine v_iald C dX3_count_200 1 rfl (j := 1) (ixl rfl) ?_
              exact v_iret C dX3_count_201 (Nat.le_of_ble_eq_true rfl) (Nat.le_of_ble_eq_true rfl) (by unfold p_count; (try dsimp only); rw [if_pos c7_1, if_neg w0, if_neg w1, if_neg w2, if_neg w3, if_neg w4, if_pos w5]; exact ⟨rfl, rfl⟩)
            by_cases w6 : what = 6
            · refine v_tableIn C 202 dX3_count_115 (by rw [w6]; decide) (by rw [w6]; decide) (by rw [w6]; rfl) (by decide) ?_
              refine v_iload_n C dX3_count_202 4 rfl ?_
              exact v_iret C dX3_count_203 (Nat.le_of_ble_eq_true rfl) (Nat.le_of_ble_eq_true rfl) (by unfold p_count; (try dsimp only); rw [if_pos c7_1, if_neg w0, if_neg w1, if_neg w2, if_neg w3, if_neg w4, if_neg w5, if_pos w6]; exact ⟨rfl, rfl⟩)
            by_cases w7 : what = 7
            · refine v_tableIn C 204 dX3_count_115 (by rw [w7]; decide) (by rw [w7]; decide) (by rw [w7]; rfl) (by decide) ?_
              refine v_iload_n C dX3_count_204 3 rfl ?_
              exact v_iret C dX3_count_205 (Nat.le_of_ble_eq_true rfl) (Nat.le_of_ble_eq_true rfl) (by unfold p_count; (try dsimp only); rw [if_pos c7_1, if_neg w0, if_neg w1, if_neg w2, if_neg w3, if_neg w4, if_neg w5, if_neg w6, if_pos w7]; exact ⟨rfl, rfl⟩)
            by_cases w8 : what = 8
            · refine v_tableIn C 206 dX3_count_115 (by rw [w8]; decide) (by rw [w8]; decide) (by rw [w8]; rfl) (by decide) ?_
              refine v_aload_n C dX3_count_206 5 rfl ?_
              refine v_get C in_X3 rfl 0 rfl 0 (by decide) q1166 (fun _ h => h) rfl dX3_count_207 ?_
              refine v_iconst (v := 5) C dX3_count_210 (by decide) ?_
              refine v_iald C dX3_count_211 1 rfl (j := 5) (ixl rfl) ?_
              exact v_iret C dX3_count_212 (Nat.le_of_ble_eq_true rfl) (Nat.le_of_ble_eq_true rfl) (by unfold p_count; (try dsimp only); rw [if_pos c7_1, if_neg w0, if_neg w1, if_neg w2, if_neg w3, if_neg w4, if_neg w5, if_neg w6, if_neg w7, if_pos w8]; exact ⟨rfl, rfl⟩)
            refine v_tableOut C 213 dX3_count_115 (sw_out (x := what) (n := 9) (by decide) (by decide) (by intro i hi; rcases (show i = 0 ∨ i = 1 ∨ i = 2 ∨ i = 3 ∨ i = 4 ∨ i = 5 ∨ i = 6 ∨ i = 7 ∨ i = 8 by omega) with rfl | rfl | rfl | rfl | rfl | rfl | rfl | rfl | rfl <;> first | exact w0 | exact w1 | exact w2 | exact w3 | exact w4 | exact w5 | exact w6 | exact w7 | exact w8)) (by decide) ?_
            refine v_iload C dX3_count_213 2 rfl ?_
            exact v_iret C dX3_count_215 (Nat.le_of_ble_eq_true rfl) (Nat.le_of_ble_eq_true rfl) (by unfold p_count; (try dsimp only); rw [if_pos c7_1, if_neg w0, if_neg w1, if_neg w2, if_neg w3, if_neg w4, if_neg w5, if_neg w6, if_neg w7, if_neg w8]; exact ⟨rfl, rfl⟩)
          · exact absurd (Int32.le_refl _) c93_3
        · intro k hk hk0 hback
          refine v_iload C dX3_count_85 0 rfl ?_
          refine v_aload_n C dX3_count_87 5 rfl ?_
          refine v_get C in_X3 rfl 0 rfl 0 (by decide) q1166 (fun _ h => h) rfl dX3_count_88 ?_
          refine v_iconst (v := 4) C dX3_count_91 (by decide) ?_
          refine v_iald C dX3_count_92 1 rfl (j := 4) (ixl rfl) ?_
          refine v_eqi hnc ?_
          refine v_icmp_ge C 114 dX3_count_93 (by decide) (fun c93_4 => ?_) (fun c93_4 => ?_)
          · exact absurd c93_4 (nI_ge hk (by first | decide | omega))
          · skip
            refine v_iload C dX3_count_96 1 rfl ?_
            refine v_aload_n C dX3_count_98 5 rfl ?_
            refine v_iload C dX3_count_99 0 rfl ?_
            refine v_iconst (v := 4) C dX3_count_101 (by decide) ?_
            refine v_callVw C (m_ofContract l g a _ _ _ _ _ _ _ k 4 _ _ rfl rfl (by omega)) ok_X3_ofContract rfl q1288 rfl (Nat.le_of_ble_eq_true rfl) 0 rfl rfl rfl dX3_count_102 (roomL rfl rfl) ⟨rfl, rfl⟩ ?_
            refine v_iadd C dX3_count_105 ?_
            refine v_istore (lv' := [(5, _), (6, _), (4, _), (3, _), (2, _), (0, _), (1, _)]) C dX3_count_106 (by decide) rfl ?_
            refine v_iinc (lv' := [(6, _), (5, _), (4, _), (3, _), (2, _), (0, _), (1, _)]) C dX3_count_108 1 rfl (nI_1 k) (by decide) rfl ?_
            refine v_goto C 85 dX3_count_111 (by decide) ?_
            exact hback
      · exact absurd (Int32.le_refl _) c34_2
    · intro k hk hk0 hback
      refine v_iload C dX3_count_26 0 rfl ?_
      refine v_aload_n C dX3_count_28 5 rfl ?_
      refine v_get C in_X3 rfl 0 rfl 0 (by decide) q1166 (fun _ h => h) rfl dX3_count_29 ?_
      refine v_iconst (v := 2) C dX3_count_32 (by decide) ?_
      refine v_iald C dX3_count_33 1 rfl (j := 2) (ixl rfl) ?_
      refine v_eqi hnb ?_
      refine v_icmp_ge C 82 dX3_count_34 (by decide) (fun c34_5 => ?_) (fun c34_5 => ?_)
      · exact absurd c34_5 (nI_ge hk (by first | decide | omega))
      · skip
        refine v_iload_n C dX3_count_37 4 rfl ?_
        refine v_aload_n C dX3_count_38 5 rfl ?_
        refine v_iload C dX3_count_39 0 rfl ?_
        refine v_iconst (v := 3) C dX3_count_41 (by decide) ?_
        refine v_callVw C (m_of l g a _ _ _ _ _ _ _ k 3 _ _ rfl rfl (by omega)) ok_X3_of rfl q1241 rfl (Nat.le_of_ble_eq_true rfl) 0 rfl rfl rfl dX3_count_42 (roomL rfl rfl) ⟨rfl, rfl⟩ ?_
        refine v_iadd C dX3_count_45 ?_
        refine v_istore_n (lv' := [(2, _), (6, _), (5, _), (4, _), (3, _), (0, _), (1, _)]) C dX3_count_46 rfl (by decide) rfl ?_
        refine v_iload_n C dX3_count_47 4 rfl ?_
        refine v_aload_n C dX3_count_48 5 rfl ?_
        refine v_iload C dX3_count_49 1 rfl ?_
        refine v_iconst (v := 4) C dX3_count_51 (by decide) ?_
        refine v_callVw C (m_of l g a _ _ _ _ _ _ _ k 4 _ _ rfl rfl (by omega)) ok_X3_of rfl q1241 rfl (Nat.le_of_ble_eq_true rfl) 0 rfl rfl rfl dX3_count_52 (roomL rfl rfl) ⟨rfl, rfl⟩ ?_
        refine v_iadd C dX3_count_55 ?_
        refine v_istore_n (lv' := [(3, _), (2, _), (6, _), (5, _), (4, _), (0, _), (1, _)]) C dX3_count_56 rfl (by decide) rfl ?_
        refine v_iload C dX3_count_57 4 rfl ?_
        refine v_aload_n C dX3_count_59 5 rfl ?_
        refine v_iload C dX3_count_60 2 rfl ?_
        refine v_callVw C (m_isSpoilt l g a _ _ _ _ _ _ _ k _ rfl (by omega)) ok_X3_isSpoilt rfl q1284 rfl (Nat.le_of_ble_eq_true rfl) 0 rfl rfl rfl dX3_count_62 (roomL rfl rfl) ⟨rfl, rfl⟩ ?_
        refine v_ternB C 72 73 dX3_count_65 dX3_count_68 dX3_count_69 dX3_count_72 (by decide) (by decide) rfl ?_
        refine v_iadd C dX3_count_73 ?_
        refine v_istore (lv' := [(4, _), (3, _), (2, _), (6, _), (5, _), (0, _), (1, _)]) C dX3_count_74 (by decide) rfl ?_
        refine v_iinc (lv' := [(6, _), (4, _), (3, _), (2, _), (5, _), (0, _), (1, _)]) C dX3_count_76 3 rfl (nI_1 k) (by decide) rfl ?_
        refine v_goto C 26 dX3_count_79 (by decide) ?_
        refine v_lvp (lv' := [(6, _), (5, _), (4, _), (3, _), (2, _), (0, _), (1, _)]) [0, 4, 1, 2, 3, 5, 6] rfl ?_
        exact hback
  · skip
    refine v_bipush (v := -3) C dX3_count_10 (by decide) ?_
    exact v_iret C dX3_count_12 (Nat.le_of_ble_eq_true rfl) (Nat.le_of_ble_eq_true rfl) (by unfold p_count; (try dsimp only); rw [if_neg c7_1]; exact ⟨rfl, rfl⟩)
def M_X3_property : Md := (yX3_property, cX3_property, 3, (some .int), 3, 83, 0, 0)
theorem ok_X3_property : MOKv M_X3_property 2 := ⟨q1298, qs54, q103, q1299, ⟨by decide +kernel, by decide +kernel, by decide +kernel⟩⟩
set_option maxHeartbeats 4000000 in
theorem m_property (l : Launch) (g : GT) (a : Nat → Nat) (row : Nat → Int32) (books : Nat → Int64) (S : Int32 × (Nat → Int32)) (B : (Nat → Int32) × Int32 × (Nat → Int32)) (T : (Nat → Int32) × Int32) (P : Int32 × Int32 × (Nat → Int32) × Int32 × Int32) (h : Int64) (b : Nat) (bi what : Int32) (eb : bi = nI b) (hb : b < 100) (ew : what = nI what.toNatClampNeg) (hw : what.toNatClampNeg ≤ 9) : CtE l g M_X3_property [.ref (a 0), .int bi, .int what] (mw g a row books S B T P h) (some (.int (p_prop row b what))) (mw g a row books S B T P h) := by
  refine Ct.start2 (M := M_X3_property) rfl [(0, .ref (a 0)), (1, .int bi), (2, .int what)] rfl (by decide +kernel) (Nat.le_of_ble_eq_true rfl) ?_
  intro p e s m args below meth c A C
  subst eb
  refine v_iload_n C dX3_property_0 2 rfl ?_
  refine v_bipush (v := 6) C dX3_property_1 (by decide) ?_
  refine v_icmp_ge C 15 dX3_property_3 (by decide) (fun c3_1 => ?_) (fun c3_1 => ?_)
  · skip
    have h6 := ge6 ew hw c3_1
    refine v_iload_n C dX3_property_15 2 rfl ?_
    refine v_bipush (v := 6) C dX3_property_16 (by decide) ?_
    refine v_icmp_ne C 29 dX3_property_18 (by decide) (fun c18_2 => ?_) (fun c18_2 => ?_)
    · skip
      refine v_aload_n C dX3_property_29 0 rfl ?_
      refine v_iload_n C dX3_property_30 1 rfl ?_
      refine v_iload_n C dX3_property_31 2 rfl ?_
      refine v_eqi ew ?_
      refine v_iconst (v := 1) C dX3_property_32 (by decide) ?_
      refine v_isub C dX3_property_33 ?_
      have h6 := ge6 ew hw c3_1
      refine v_eqi (show _ = nI (what.toNatClampNeg - 1) from pk_sub (b := 1) (by omega)) ?_
      refine v_callVw C (m_of l g a _ _ _ _ _ _ _ b (what.toNatClampNeg - 1) _ _ rfl rfl (by omega)) ok_X3_of rfl q1241 rfl (Nat.le_of_ble_eq_true rfl) 0 rfl rfl rfl dX3_property_34 (roomL rfl rfl) ⟨rfl, rfl⟩ ?_
      exact v_iret C dX3_property_37 (Nat.le_of_ble_eq_true rfl) (Nat.le_of_ble_eq_true rfl) (by unfold p_prop; (try dsimp only); rw [if_pos c3_1, if_neg c18_2]; exact ⟨rfl, rfl⟩)
    · skip
      refine v_aload_n C dX3_property_21 0 rfl ?_
      refine v_iload_n C dX3_property_22 1 rfl ?_
      refine v_callVw C (m_moisture l g a _ _ _ _ _ _ _ b _ rfl (by omega)) ok_X3_moisture rfl q1300 rfl (Nat.le_of_ble_eq_true rfl) 0 rfl rfl rfl dX3_property_23 (roomL rfl rfl) ⟨rfl, rfl⟩ ?_
      refine v_goto C 37 dX3_property_26 (by decide) ?_
      exact v_iret C dX3_property_37 (Nat.le_of_ble_eq_true rfl) (Nat.le_of_ble_eq_true rfl) (by unfold p_prop; (try dsimp only); rw [if_pos c3_1, if_pos c18_2]; exact ⟨rfl, rfl⟩)
  · skip
    refine v_aload_n C dX3_property_6 0 rfl ?_
    refine v_iload_n C dX3_property_7 1 rfl ?_
    refine v_iload_n C dX3_property_8 2 rfl ?_
    refine v_eqi ew ?_
    refine v_callVw C (m_of l g a _ _ _ _ _ _ _ b (what.toNatClampNeg) _ _ rfl rfl (by omega)) ok_X3_of rfl q1241 rfl (Nat.le_of_ble_eq_true rfl) 0 rfl rfl rfl dX3_property_9 (roomL rfl rfl) ⟨rfl, rfl⟩ ?_
    refine v_goto C 37 dX3_property_12 (by decide) ?_
    exact v_iret C dX3_property_37 (Nat.le_of_ble_eq_true rfl) (Nat.le_of_ble_eq_true rfl) (by unfold p_prop; (try dsimp only); rw [if_neg c3_1]; exact ⟨rfl, rfl⟩)
def M_X3_bin : Md := (yX3_bin, cX3_bin, 3, (some .int), 4, 105, 0, 0)
theorem ok_X3_bin : MOKv M_X3_bin 2 := ⟨q1293, q1294, q103, q1295, ⟨by decide +kernel, by decide +kernel, by decide +kernel⟩⟩
set_option maxHeartbeats 4000000 in
theorem m_bin (l : Launch) (g : GT) (a : Nat → Nat) (row : Nat → Int32) (books : Nat → Int64) (S : Int32 × (Nat → Int32)) (B : (Nat → Int32) × Int32 × (Nat → Int32)) (T : (Nat → Int32) × Int32) (P : Int32 × Int32 × (Nat → Int32) × Int32 × Int32) (h : Int64) (nb : Nat) (hnb : row 2 = nI nb) (hb8 : nb ≤ 8) (bin what : Int32) : CtE l g M_X3_bin [.ref (a 0), .int bin, .int what] (mw g a row books S B T P h) (some (.int (p_bin row bin what))) (mw g a row books S B T P h) := by
  refine Ct.start2 (M := M_X3_bin) rfl [(0, .ref (a 0)), (1, .int bin), (2, .int what)] rfl (by decide +kernel) (Nat.le_of_ble_eq_true rfl) ?_
  intro p e s m args below meth c A C
  refine v_aload_n C dX3_bin_0 0 rfl ?_
  refine v_iload_n C dX3_bin_1 1 rfl ?_
  refine v_callVw C (m_isBin l g a _ _ _ _ _ _ _ _) ok_X3_isBin rfl q1237 rfl (Nat.le_of_ble_eq_true rfl) 0 rfl rfl rfl dX3_bin_2 (roomL rfl rfl) ⟨rfl, rfl⟩ ?_
  refine v_if_neB C 11 dX3_bin_5 (by decide) (fun c5_1 => ?_) (fun c5_1 => ?_)
  · skip
    obtain ⟨eb, hb⟩ := isB_c hnb (by omega) c5_1
    refine v_iload_n C dX3_bin_11 2 rfl ?_
    refine v_iconst (v := 0) C dX3_bin_12 (by decide) ?_
    refine v_bipush (v := 9) C dX3_bin_13 (by decide) ?_
    refine v_callSp C (m_in l g _ _ _) ok_X3_in rfl q1218 rfl (Nat.le_of_ble_eq_true rfl) dX3_bin_15 (roomL rfl rfl) ⟨rfl, rfl⟩ ?_
    refine v_if_eqB C 30 dX3_bin_18 (by decide) (fun c18_2 => ?_) (fun c18_2 => ?_)
    · skip
      refine v_bipush (v := -3) C dX3_bin_30 (by decide) ?_
      exact v_iret C dX3_bin_32 (Nat.le_of_ble_eq_true rfl) (Nat.le_of_ble_eq_true rfl) (by unfold p_bin; (try dsimp only); rw [if_pos c5_1, if_neg c18_2]; exact ⟨rfl, rfl⟩)
    · skip
      obtain ⟨ew, hw⟩ := in_c (n := 9) rfl (by decide) c18_2
      refine v_aload_n C dX3_bin_21 0 rfl ?_
      refine v_iload_n C dX3_bin_22 1 rfl ?_
      refine v_eqi eb ?_
      refine v_iload_n C dX3_bin_23 2 rfl ?_
      refine v_callVw C (m_property l g a _ _ _ _ _ _ _ (bin.toNatClampNeg) _ _ rfl (by omega) ew hw) ok_X3_property rfl q1296 rfl (Nat.le_of_ble_eq_true rfl) 0 rfl rfl rfl dX3_bin_24 (roomL rfl rfl) ⟨rfl, rfl⟩ ?_
      refine v_goto C 32 dX3_bin_27 (by decide) ?_
      exact v_iret C dX3_bin_32 (Nat.le_of_ble_eq_true rfl) (Nat.le_of_ble_eq_true rfl) (by unfold p_bin; (try dsimp only); rw [if_pos c5_1, if_pos c18_2]; exact ⟨rfl, rfl⟩)
  · skip
    refine v_bipush (v := -2) C dX3_bin_8 (by decide) ?_
    exact v_iret C dX3_bin_10 (Nat.le_of_ble_eq_true rfl) (Nat.le_of_ble_eq_true rfl) (by unfold p_bin; (try dsimp only); rw [if_neg c5_1]; exact ⟨rfl, rfl⟩)
def M_X3_legProperty : Md := (yX3_legProperty, cX3_legProperty, 3, (some .int), 3, 83, 0, 0)
theorem ok_X3_legProperty : MOKv M_X3_legProperty 2 := ⟨q1310, qs56, q103, q1311, ⟨by decide +kernel, by decide +kernel, by decide +kernel⟩⟩
set_option maxHeartbeats 4000000 in
theorem m_legProperty (l : Launch) (g : GT) (a : Nat → Nat) (row : Nat → Int32) (books : Nat → Int64) (S : Int32 × (Nat → Int32)) (B : (Nat → Int32) × Int32 × (Nat → Int32)) (T : (Nat → Int32) × Int32) (P : Int32 × Int32 × (Nat → Int32) × Int32 × Int32) (h : Int64) (b : Nat) (bi what : Int32) (eb : bi = nI b) (hb : b < 100) (ew : what = nI what.toNatClampNeg) (hw : what.toNatClampNeg ≤ 4) : CtE l g M_X3_legProperty [.ref (a 0), .int bi, .int what] (mw g a row books S B T P h) (some (.int (p_legProp row b what))) (mw g a row books S B T P h) := by
  refine Ct.start2 (M := M_X3_legProperty) rfl [(0, .ref (a 0)), (1, .int bi), (2, .int what)] rfl (by decide +kernel) (Nat.le_of_ble_eq_true rfl) ?_
  intro p e s m args below meth c A C
  subst eb
  refine v_iload_n C dX3_legProperty_0 2 rfl ?_
  refine v_iconst (v := 3) C dX3_legProperty_1 (by decide) ?_
  refine v_icmp_ge C 14 dX3_legProperty_2 (by decide) (fun c2_1 => ?_) (fun c2_1 => ?_)
  · skip
    refine v_iload_n C dX3_legProperty_14 2 rfl ?_
    refine v_iconst (v := 3) C dX3_legProperty_15 (by decide) ?_
    refine v_icmp_ne C 35 dX3_legProperty_16 (by decide) (fun c16_2 => ?_) (fun c16_2 => ?_)
    · skip
      refine v_aload_n C dX3_legProperty_35 0 rfl ?_
      refine v_iload_n C dX3_legProperty_36 1 rfl ?_
      refine v_iconst (v := 3) C dX3_legProperty_37 (by decide) ?_
      refine v_callVw C (m_ofLeg l g a _ _ _ _ _ _ _ b 3 _ _ rfl rfl (by omega)) ok_X3_ofLeg rfl q1257 rfl (Nat.le_of_ble_eq_true rfl) 0 rfl rfl rfl dX3_legProperty_38 (roomL rfl rfl) ⟨rfl, rfl⟩ ?_
      exact v_iret C dX3_legProperty_41 (Nat.le_of_ble_eq_true rfl) (Nat.le_of_ble_eq_true rfl) (by unfold p_legProp; (try dsimp only); rw [if_pos c2_1, if_neg c16_2]; exact ⟨rfl, rfl⟩)
    · skip
      refine v_aload_n C dX3_legProperty_19 0 rfl ?_
      refine v_iload_n C dX3_legProperty_20 1 rfl ?_
      refine v_callVw C (m_stands l g a _ _ _ _ _ _ _ b _ rfl (by omega)) ok_X3_stands rfl q1312 rfl (Nat.le_of_ble_eq_true rfl) 0 rfl rfl rfl dX3_legProperty_21 (roomL rfl rfl) ⟨rfl, rfl⟩ ?_
      refine v_if_eqB C 31 dX3_legProperty_24 (by decide) (fun c24_3 => ?_) (fun c24_3 => ?_)
      · skip
        refine v_iconst (v := 0) C dX3_legProperty_31 (by decide) ?_
        refine v_goto C 41 dX3_legProperty_32 (by decide) ?_
        exact v_iret C dX3_legProperty_41 (Nat.le_of_ble_eq_true rfl) (Nat.le_of_ble_eq_true rfl) (by unfold p_legProp; rw [if_pos c2_1, if_pos c16_2]; exact ⟨si (bI_f c24_3).symm, rfl⟩)
      · skip
        refine v_iconst (v := 1) C dX3_legProperty_27 (by decide) ?_
        refine v_goto C 41 dX3_legProperty_28 (by decide) ?_
        exact v_iret C dX3_legProperty_41 (Nat.le_of_ble_eq_true rfl) (Nat.le_of_ble_eq_true rfl) (by unfold p_legProp; rw [if_pos c2_1, if_pos c16_2]; exact ⟨si (bI_t c24_3).symm, rfl⟩)
  · skip
    have h3 := nge (n := 3) ew (by omega) rfl (by decide) c2_1
    refine v_aload_n C dX3_legProperty_5 0 rfl ?_
    refine v_iload_n C dX3_legProperty_6 1 rfl ?_
    refine v_iload_n C dX3_legProperty_7 2 rfl ?_
    refine v_eqi ew ?_
    refine v_callVw C (m_ofLeg l g a _ _ _ _ _ _ _ b (what.toNatClampNeg) _ _ rfl rfl (by omega)) ok_X3_ofLeg rfl q1257 rfl (Nat.le_of_ble_eq_true rfl) 0 rfl rfl rfl dX3_legProperty_8 (roomL rfl rfl) ⟨rfl, rfl⟩ ?_
    refine v_goto C 41 dX3_legProperty_11 (by decide) ?_
    exact v_iret C dX3_legProperty_41 (Nat.le_of_ble_eq_true rfl) (Nat.le_of_ble_eq_true rfl) (by unfold p_legProp; (try dsimp only); rw [if_neg c2_1]; exact ⟨rfl, rfl⟩)
def M_X3_leg : Md := (yX3_leg, cX3_leg, 3, (some .int), 4, 105, 0, 0)
theorem ok_X3_leg : MOKv M_X3_leg 2 := ⟨q1305, q1306, q103, q1307, ⟨by decide +kernel, by decide +kernel, by decide +kernel⟩⟩
set_option maxHeartbeats 4000000 in
theorem m_leg (l : Launch) (g : GT) (a : Nat → Nat) (row : Nat → Int32) (books : Nat → Int64) (S : Int32 × (Nat → Int32)) (B : (Nat → Int32) × Int32 × (Nat → Int32)) (T : (Nat → Int32) × Int32) (P : Int32 × Int32 × (Nat → Int32) × Int32 × Int32) (h : Int64) (nl : Nat) (hnl : row 3 = nI nl) (hl3 : nl ≤ 3) (leg what : Int32) : CtE l g M_X3_leg [.ref (a 0), .int leg, .int what] (mw g a row books S B T P h) (some (.int (p_leg row leg what))) (mw g a row books S B T P h) := by
  refine Ct.start2 (M := M_X3_leg) rfl [(0, .ref (a 0)), (1, .int leg), (2, .int what)] rfl (by decide +kernel) (Nat.le_of_ble_eq_true rfl) ?_
  intro p e s m args below meth c A C
  refine v_aload_n C dX3_leg_0 0 rfl ?_
  refine v_iload_n C dX3_leg_1 1 rfl ?_
  refine v_callVw C (m_isLeg l g a _ _ _ _ _ _ _ _) ok_X3_isLeg rfl q1253 rfl (Nat.le_of_ble_eq_true rfl) 0 rfl rfl rfl dX3_leg_2 (roomL rfl rfl) ⟨rfl, rfl⟩ ?_
  refine v_if_neB C 11 dX3_leg_5 (by decide) (fun c5_1 => ?_) (fun c5_1 => ?_)
  · skip
    obtain ⟨eb, hb⟩ := isB_c hnl (by omega) c5_1
    refine v_iload_n C dX3_leg_11 2 rfl ?_
    refine v_iconst (v := 0) C dX3_leg_12 (by decide) ?_
    refine v_iconst (v := 4) C dX3_leg_13 (by decide) ?_
    refine v_callSp C (m_in l g _ _ _) ok_X3_in rfl q1218 rfl (Nat.le_of_ble_eq_true rfl) dX3_leg_14 (roomL rfl rfl) ⟨rfl, rfl⟩ ?_
    refine v_if_eqB C 29 dX3_leg_17 (by decide) (fun c17_2 => ?_) (fun c17_2 => ?_)
    · skip
      refine v_bipush (v := -3) C dX3_leg_29 (by decide) ?_
      exact v_iret C dX3_leg_31 (Nat.le_of_ble_eq_true rfl) (Nat.le_of_ble_eq_true rfl) (by unfold p_leg; (try dsimp only); rw [if_pos c5_1, if_neg c17_2]; exact ⟨rfl, rfl⟩)
    · skip
      obtain ⟨ew, hw⟩ := in_c (n := 4) rfl (by decide) c17_2
      refine v_aload_n C dX3_leg_20 0 rfl ?_
      refine v_iload_n C dX3_leg_21 1 rfl ?_
      refine v_eqi eb ?_
      refine v_iload_n C dX3_leg_22 2 rfl ?_
      refine v_callVw C (m_legProperty l g a _ _ _ _ _ _ _ (leg.toNatClampNeg) _ _ rfl (by omega) ew hw) ok_X3_legProperty rfl q1308 rfl (Nat.le_of_ble_eq_true rfl) 0 rfl rfl rfl dX3_leg_23 (roomL rfl rfl) ⟨rfl, rfl⟩ ?_
      refine v_goto C 31 dX3_leg_26 (by decide) ?_
      exact v_iret C dX3_leg_31 (Nat.le_of_ble_eq_true rfl) (Nat.le_of_ble_eq_true rfl) (by unfold p_leg; (try dsimp only); rw [if_pos c5_1, if_pos c17_2]; exact ⟨rfl, rfl⟩)
  · skip
    refine v_bipush (v := -2) C dX3_leg_8 (by decide) ?_
    exact v_iret C dX3_leg_10 (Nat.le_of_ble_eq_true rfl) (Nat.le_of_ble_eq_true rfl) (by unfold p_leg; (try dsimp only); rw [if_neg c5_1]; exact ⟨rfl, rfl⟩)
def M_X3_price : Md := (yX3_price, cX3_price, 2, (some .int), 3, 82, 0, 0)
theorem ok_X3_price : MOKv M_X3_price 1 := ⟨q1317, q1318, q103, q1319, ⟨by decide +kernel, by decide +kernel, by decide +kernel⟩⟩
set_option maxHeartbeats 4000000 in
theorem m_price (l : Launch) (g : GT) (a : Nat → Nat) (row : Nat → Int32) (books : Nat → Int64) (S : Int32 × (Nat → Int32)) (B : (Nat → Int32) × Int32 × (Nat → Int32)) (T : (Nat → Int32) × Int32) (P : Int32 × Int32 × (Nat → Int32) × Int32 × Int32) (h : Int64) (kind : Int32) : CtE l g M_X3_price [.ref (a 0), .int kind] (mw g a row books S B T P h) (some (.int (p_price row kind))) (mw g a row books S B T P h) := by
  refine Ct.start2 (M := M_X3_price) rfl [(0, .ref (a 0)), (1, .int kind)] rfl (by decide +kernel) (Nat.le_of_ble_eq_true rfl) ?_
  intro p e s m args below meth c A C
  refine v_iload_n C dX3_price_0 1 rfl ?_
  refine v_callSp C (m_isClass l g _) ok_X3_isClass rfl q1273 rfl (Nat.le_of_ble_eq_true rfl) dX3_price_1 (roomL rfl rfl) ⟨rfl, rfl⟩ ?_
  refine v_if_eqB C 19 dX3_price_4 (by decide) (fun c4_1 => ?_) (fun c4_1 => ?_)
  · skip
    refine v_bipush (v := -2) C dX3_price_19 (by decide) ?_
    exact v_iret C dX3_price_21 (Nat.le_of_ble_eq_true rfl) (Nat.le_of_ble_eq_true rfl) (by unfold p_price; (try dsimp only); rw [if_neg c4_1]; exact ⟨rfl, rfl⟩)
  · skip
    obtain ⟨eb, hb⟩ := in_c (n := 3) rfl (by decide) c4_1
    refine v_aload_n C dX3_price_7 0 rfl ?_
    refine v_get C in_X3 rfl 0 rfl 0 (by decide) q1166 (fun _ h => h) rfl dX3_price_8 ?_
    refine v_bipush (v := 6) C dX3_price_11 (by decide) ?_
    refine v_iload_n C dX3_price_13 1 rfl ?_
    refine v_eqi eb ?_
    refine v_iadd C dX3_price_14 ?_
    refine v_eqi (nI_add 6 (kind.toNatClampNeg)) ?_
    refine v_iald C dX3_price_15 1 rfl (ixn (by omega) (by decide)) ?_
    refine v_goto C 21 dX3_price_16 (by decide) ?_
    exact v_iret C dX3_price_21 (Nat.le_of_ble_eq_true rfl) (Nat.le_of_ble_eq_true rfl) (by unfold p_price; (try dsimp only); rw [if_pos c4_1]; exact ⟨rfl, rfl⟩)
def M_X3_book : Md := (yX3_book, cX3_book, 2, (some .long), 2, 62, 0, 0)
theorem ok_X3_book : MOKv M_X3_book 1 := ⟨q1321, q1322, q103, q1323, ⟨by decide +kernel, by decide +kernel, by decide +kernel⟩⟩
set_option maxHeartbeats 4000000 in
theorem m_book (l : Launch) (g : GT) (a : Nat → Nat) (row : Nat → Int32) (books : Nat → Int64) (S : Int32 × (Nat → Int32)) (B : (Nat → Int32) × Int32 × (Nat → Int32)) (T : (Nat → Int32) × Int32) (P : Int32 × Int32 × (Nat → Int32) × Int32 × Int32) (h : Int64) (what : Int32) : CtE l g M_X3_book [.ref (a 0), .int what] (mw g a row books S B T P h) (some (.long (p_book books what))) (mw g a row books S B T P h) := by
  refine Ct.start2 (M := M_X3_book) rfl [(0, .ref (a 0)), (1, .int what)] rfl (by decide +kernel) (Nat.le_of_ble_eq_true rfl) ?_
  intro p e s m args below meth c A C
  refine v_iload_n C dX3_book_0 1 rfl ?_
  refine v_iconst (v := 0) C dX3_book_1 (by decide) ?_
  refine v_bipush (v := 6) C dX3_book_2 (by decide) ?_
  refine v_callSp C (m_in l g _ _ _) ok_X3_in rfl q1218 rfl (Nat.le_of_ble_eq_true rfl) dX3_book_4 (roomL rfl rfl) ⟨rfl, rfl⟩ ?_
  refine v_if_neB C 14 dX3_book_7 (by decide) (fun c7_1 => ?_) (fun c7_1 => ?_)
  · skip
    obtain ⟨ew, hw⟩ := in_c (n := 6) rfl (by decide) c7_1
    refine v_iload_n C dX3_book_14 1 rfl ?_
    refine v_bipush (v := 6) C dX3_book_15 (by decide) ?_
    refine v_icmp_ge C 29 dX3_book_17 (by decide) (fun c17_2 => ?_) (fun c17_2 => ?_)
    · skip
      refine v_aload_n C dX3_book_29 0 rfl ?_
      refine v_get C in_X3 rfl 0 rfl 1 (by decide) q1167 (fun _ h => h) rfl dX3_book_30 ?_
      refine v_iconst (v := 4) C dX3_book_33 (by decide) ?_
      refine v_lald C dX3_book_34 2 rfl (j := 4) (ixl rfl) ?_
      refine v_aload_n C dX3_book_35 0 rfl ?_
      refine v_get C in_X3 rfl 0 rfl 1 (by decide) q1167 (fun _ h => h) rfl dX3_book_36 ?_
      refine v_iconst (v := 3) C dX3_book_39 (by decide) ?_
      refine v_lald C dX3_book_40 2 rfl (j := 3) (ixl rfl) ?_
      refine v_lsub C dX3_book_41 ?_
      refine v_aload_n C dX3_book_42 0 rfl ?_
      refine v_get C in_X3 rfl 0 rfl 1 (by decide) q1167 (fun _ h => h) rfl dX3_book_43 ?_
      refine v_iconst (v := 5) C dX3_book_46 (by decide) ?_
      refine v_lald C dX3_book_47 2 rfl (j := 5) (ixl rfl) ?_
      refine v_lsub C dX3_book_48 ?_
      exact v_lret C dX3_book_49 (Nat.le_of_ble_eq_true rfl) (Nat.le_of_ble_eq_true rfl) (by unfold p_book; (try dsimp only); rw [if_pos c7_1, if_pos c17_2]; exact ⟨rfl, rfl⟩)
    · skip
      refine v_aload_n C dX3_book_20 0 rfl ?_
      refine v_get C in_X3 rfl 0 rfl 1 (by decide) q1167 (fun _ h => h) rfl dX3_book_21 ?_
      refine v_iload_n C dX3_book_24 1 rfl ?_
      refine v_eqi ew ?_
      refine v_lald C dX3_book_25 2 rfl (ixn (by omega) (by decide)) ?_
      refine v_goto C 49 dX3_book_26 (by decide) ?_
      exact v_lret C dX3_book_49 (Nat.le_of_ble_eq_true rfl) (Nat.le_of_ble_eq_true rfl) (by unfold p_book; (try dsimp only); rw [if_pos c7_1, if_neg c17_2]; exact ⟨rfl, rfl⟩)
  · skip
    refine v_ldc2 C dX3_book_10 q1324 ?_
    exact v_lret C dX3_book_13 (Nat.le_of_ble_eq_true rfl) (Nat.le_of_ble_eq_true rfl) (by unfold p_book; (try dsimp only); rw [if_neg c7_1]; exact ⟨rfl, rfl⟩)
def M_X3_audit : Md := (yX3_audit, cX3_audit, 4, (some .int), 2, 62, 0, 0)
theorem ok_X3_audit : MOKv M_X3_audit 0 := ⟨q1326, q1327, q103, q1328, ⟨by decide +kernel, by decide +kernel, by decide +kernel⟩⟩
set_option maxHeartbeats 4000000 in
theorem m_audit (l : Launch) (g : GT) (a : Nat → Nat) (row : Nat → Int32) (books : Nat → Int64) (S : Int32 × (Nat → Int32)) (B : (Nat → Int32) × Int32 × (Nat → Int32)) (T : (Nat → Int32) × Int32) (P : Int32 × Int32 × (Nat → Int32) × Int32 × Int32) (h : Int64) (nb : Nat) (hnb : row 2 = nI nb) (hb8 : nb ≤ 8) : CtE l g M_X3_audit [.ref (a 0)] (mw g a row books S B T P h) (some (.int (p_audit row books nb))) (mw g a row books S B T P h) := by
  refine Ct.start2 (M := M_X3_audit) rfl [(0, .ref (a 0))] rfl (by decide +kernel) (Nat.le_of_ble_eq_true rfl) ?_
  intro p e s m args below meth c A C
  refine v_iconst (v := 1) C dX3_audit_0 (by decide) ?_
  refine v_istore_n (lv' := [(1, _), (0, _)]) C dX3_audit_1 rfl (by decide) rfl ?_
  refine v_iconst (v := 0) C dX3_audit_2 (by decide) ?_
  refine v_istore_n (lv' := [(2, _), (1, _), (0, _)]) C dX3_audit_3 rfl (by decide) rfl ?_
  refine v_iconst (v := 0) C dX3_audit_4 (by decide) ?_
  refine v_istore_n (lv' := [(3, _), (2, _), (1, _), (0, _)]) C dX3_audit_5 rfl (by decide) rfl ?_
  refine v_loop 0 nb (fun k => [(3, .int (nI k)), (2, .int (sumF row 3 k)), (1, .int (auB row k)), (0, .ref (a 0))]) (fun k => mw g a row books S B T P h) rfl rfl (by omega) ?_ ?_
  · skip
    refine v_iload_n C dX3_audit_6 0 rfl ?_
    refine v_aload_n C dX3_audit_7 3 rfl ?_
    refine v_get C in_X3 rfl 0 rfl 0 (by decide) q1166 (fun _ h => h) rfl dX3_audit_8 ?_
    refine v_iconst (v := 2) C dX3_audit_11 (by decide) ?_
    refine v_iald C dX3_audit_12 1 rfl (j := 2) (ixl rfl) ?_
    refine v_eqi hnb ?_
    refine v_icmp_ge C 65 dX3_audit_13 (by decide) (fun c13_1 => ?_) (fun c13_1 => ?_)
    · skip
      refine v_iload_n C dX3_audit_65 2 rfl ?_
      refine v_if_eq C 99 dX3_audit_66 (by decide) (fun c66_2 => ?_) (fun c66_2 => ?_)
      · skip
        refine v_iconst (v := 0) C dX3_audit_99 (by decide) ?_
        exact v_iret C dX3_audit_100 (Nat.le_of_ble_eq_true rfl) (Nat.le_of_ble_eq_true rfl) (by unfold p_audit; (try dsimp only); rw [if_pos c66_2]; exact ⟨rfl, rfl⟩)
      · skip
        refine v_aload_n C dX3_audit_69 3 rfl ?_
        refine v_get C in_X3 rfl 0 rfl 1 (by decide) q1167 (fun _ h => h) rfl dX3_audit_70 ?_
        refine v_iconst (v := 0) C dX3_audit_73 (by decide) ?_
        refine v_lald C dX3_audit_74 2 rfl (j := 0) (ixl rfl) ?_
        refine v_aload_n C dX3_audit_75 3 rfl ?_
        refine v_get C in_X3 rfl 0 rfl 1 (by decide) q1167 (fun _ h => h) rfl dX3_audit_76 ?_
        refine v_iconst (v := 1) C dX3_audit_79 (by decide) ?_
        refine v_lald C dX3_audit_80 2 rfl (j := 1) (ixl rfl) ?_
        refine v_lsub C dX3_audit_81 ?_
        refine v_aload_n C dX3_audit_82 3 rfl ?_
        refine v_get C in_X3 rfl 0 rfl 1 (by decide) q1167 (fun _ h => h) rfl dX3_audit_83 ?_
        refine v_iconst (v := 2) C dX3_audit_86 (by decide) ?_
        refine v_lald C dX3_audit_87 2 rfl (j := 2) (ixl rfl) ?_
        refine v_lsub C dX3_audit_88 ?_
        refine v_iload_n C dX3_audit_89 1 rfl ?_
        refine v_i2l C dX3_audit_90 ?_
        refine v_lcmp C dX3_audit_91 ?_
        refine v_if_ne C 99 dX3_audit_92 (by decide) (fun c92_3 => ?_) (fun c92_3 => ?_)
        · skip
          refine v_iconst (v := 0) C dX3_audit_99 (by decide) ?_
          exact v_iret C dX3_audit_100 (Nat.le_of_ble_eq_true rfl) (Nat.le_of_ble_eq_true rfl) (by unfold p_audit; (try dsimp only); rw [if_neg c66_2, if_neg c92_3]; exact ⟨rfl, rfl⟩)
        · skip
          refine v_iconst (v := 1) C dX3_audit_95 (by decide) ?_
          refine v_goto C 100 dX3_audit_96 (by decide) ?_
          exact v_iret C dX3_audit_100 (Nat.le_of_ble_eq_true rfl) (Nat.le_of_ble_eq_true rfl) (by unfold p_audit; (try dsimp only); rw [if_neg c66_2, if_pos c92_3]; exact ⟨rfl, rfl⟩)
    · exact absurd (Int32.le_refl _) c13_1
  · intro k hk hk0 hback
    refine v_iload_n C dX3_audit_6 0 rfl ?_
    refine v_aload_n C dX3_audit_7 3 rfl ?_
    refine v_get C in_X3 rfl 0 rfl 0 (by decide) q1166 (fun _ h => h) rfl dX3_audit_8 ?_
    refine v_iconst (v := 2) C dX3_audit_11 (by decide) ?_
    refine v_iald C dX3_audit_12 1 rfl (j := 2) (ixl rfl) ?_
    refine v_eqi hnb ?_
    refine v_icmp_ge C 65 dX3_audit_13 (by decide) (fun c13_4 => ?_) (fun c13_4 => ?_)
    · exact absurd c13_4 (nI_ge hk (by first | decide | omega))
    · skip
      refine v_iload_n C dX3_audit_16 2 rfl ?_
      refine v_if_eq C 48 dX3_audit_17 (by decide) (fun c17_5 => ?_) (fun c17_5 => ?_)
      · skip
        refine v_iconst (v := 0) C dX3_audit_48 (by decide) ?_
        refine v_istore_n (lv' := [(1, _), (3, _), (2, _), (0, _)]) C dX3_audit_49 rfl (by decide) rfl ?_
        refine v_iload_n C dX3_audit_50 2 rfl ?_
        refine v_aload_n C dX3_audit_51 3 rfl ?_
        refine v_iload_n C dX3_audit_52 1 rfl ?_
        refine v_iconst (v := 3) C dX3_audit_53 (by decide) ?_
        refine v_callVw C (m_of l g a _ _ _ _ _ _ _ k 3 _ _ rfl rfl (by omega)) ok_X3_of rfl q1241 rfl (Nat.le_of_ble_eq_true rfl) 0 rfl rfl rfl dX3_audit_54 (roomL rfl rfl) ⟨rfl, rfl⟩ ?_
        refine v_iadd C dX3_audit_57 ?_
        refine v_istore_n (lv' := [(2, _), (1, _), (3, _), (0, _)]) C dX3_audit_58 rfl (by decide) rfl ?_
        refine v_iinc (lv' := [(3, _), (2, _), (1, _), (0, _)]) C dX3_audit_59 2 rfl (nI_1 k) (by decide) rfl ?_
        refine v_goto C 6 dX3_audit_62 (by decide) ?_
        have e1 := hback
        rw [auB, if_pos c17_5] at e1
        exact e1
      · skip
        refine v_aload_n C dX3_audit_20 3 rfl ?_
        refine v_iload_n C dX3_audit_21 0 rfl ?_
        refine v_bipush (v := 7) C dX3_audit_22 (by decide) ?_
        refine v_callVw C (m_of l g a _ _ _ _ _ _ _ k 7 _ _ rfl rfl (by omega)) ok_X3_of rfl q1241 rfl (Nat.le_of_ble_eq_true rfl) 0 rfl rfl rfl dX3_audit_24 (roomL rfl rfl) ⟨rfl, rfl⟩ ?_
        refine v_aload_n C dX3_audit_27 3 rfl ?_
        refine v_iload_n C dX3_audit_28 0 rfl ?_
        refine v_bipush (v := 8) C dX3_audit_29 (by decide) ?_
        refine v_callVw C (m_of l g a _ _ _ _ _ _ _ k 8 _ _ rfl rfl (by omega)) ok_X3_of rfl q1241 rfl (Nat.le_of_ble_eq_true rfl) 0 rfl rfl rfl dX3_audit_31 (roomL rfl rfl) ⟨rfl, rfl⟩ ?_
        refine v_isub C dX3_audit_34 ?_
        refine v_aload_n C dX3_audit_35 3 rfl ?_
        refine v_iload_n C dX3_audit_36 0 rfl ?_
        refine v_iconst (v := 3) C dX3_audit_37 (by decide) ?_
        refine v_callVw C (m_of l g a _ _ _ _ _ _ _ k 3 _ _ rfl rfl (by omega)) ok_X3_of rfl q1241 rfl (Nat.le_of_ble_eq_true rfl) 0 rfl rfl rfl dX3_audit_38 (roomL rfl rfl) ⟨rfl, rfl⟩ ?_
        refine v_icmp_ne C 48 dX3_audit_41 (by decide) (fun c41_6 => ?_) (fun c41_6 => ?_)
        · skip
          refine v_iconst (v := 0) C dX3_audit_48 (by decide) ?_
          refine v_istore_n (lv' := [(1, _), (3, _), (2, _), (0, _)]) C dX3_audit_49 rfl (by decide) rfl ?_
          refine v_iload_n C dX3_audit_50 2 rfl ?_
          refine v_aload_n C dX3_audit_51 3 rfl ?_
          refine v_iload_n C dX3_audit_52 1 rfl ?_
          refine v_iconst (v := 3) C dX3_audit_53 (by decide) ?_
          refine v_callVw C (m_of l g a _ _ _ _ _ _ _ k 3 _ _ rfl rfl (by omega)) ok_X3_of rfl q1241 rfl (Nat.le_of_ble_eq_true rfl) 0 rfl rfl rfl dX3_audit_54 (roomL rfl rfl) ⟨rfl, rfl⟩ ?_
          refine v_iadd C dX3_audit_57 ?_
          refine v_istore_n (lv' := [(2, _), (1, _), (3, _), (0, _)]) C dX3_audit_58 rfl (by decide) rfl ?_
          refine v_iinc (lv' := [(3, _), (2, _), (1, _), (0, _)]) C dX3_audit_59 2 rfl (nI_1 k) (by decide) rfl ?_
          refine v_goto C 6 dX3_audit_62 (by decide) ?_
          have e1 := hback
          rw [auB, if_neg c17_5, if_neg c41_6] at e1
          exact e1
        · skip
          refine v_iconst (v := 1) C dX3_audit_44 (by decide) ?_
          refine v_goto C 49 dX3_audit_45 (by decide) ?_
          refine v_istore_n (lv' := [(1, _), (3, _), (2, _), (0, _)]) C dX3_audit_49 rfl (by decide) rfl ?_
          refine v_iload_n C dX3_audit_50 2 rfl ?_
          refine v_aload_n C dX3_audit_51 3 rfl ?_
          refine v_iload_n C dX3_audit_52 1 rfl ?_
          refine v_iconst (v := 3) C dX3_audit_53 (by decide) ?_
          refine v_callVw C (m_of l g a _ _ _ _ _ _ _ k 3 _ _ rfl rfl (by omega)) ok_X3_of rfl q1241 rfl (Nat.le_of_ble_eq_true rfl) 0 rfl rfl rfl dX3_audit_54 (roomL rfl rfl) ⟨rfl, rfl⟩ ?_
          refine v_iadd C dX3_audit_57 ?_
          refine v_istore_n (lv' := [(2, _), (1, _), (3, _), (0, _)]) C dX3_audit_58 rfl (by decide) rfl ?_
          refine v_iinc (lv' := [(3, _), (2, _), (1, _), (0, _)]) C dX3_audit_59 2 rfl (nI_1 k) (by decide) rfl ?_
          refine v_goto C 6 dX3_audit_62 (by decide) ?_
          have e1 := hback
          rw [auB, if_neg c17_5, if_pos c41_6] at e1
          exact e1
