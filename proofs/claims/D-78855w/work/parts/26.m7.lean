/-! the reference: foretelling -/
set_option maxRecDepth 100000
def p_spoilsIn (r : Nat → Int32) (bin : Int32) : Int32 :=
  if q_bin r bin then if q_spoilt r bin.toNatClampNeg then 0 else
    if p_moist r bin.toNatClampNeg - 150 ≤ 0 then -1 else (10000 - r (10 + 9 * bin.toNatClampNeg + 6) + (p_moist r bin.toNatClampNeg - 150) - 1) / (p_moist r bin.toNatClampNeg - 150)
  else -2
def stp (limit : Int32) : Nat → Int32 → Int32 → Nat → Int32 × Nat
  | 0, a, _, n => (a, n)
  | f + 1, a, q, n => if a ≤ 0 then (a, n) else if (200 : Int32) < nI n then (a, n) else if q / a ≤ limit then (a, n) else
    if a - 1 ≤ q / 20 / 1000 then stp limit f (a - (a - 1)) (q - q / 20) (n + 1) else stp limit f (a - q / 20 / 1000) (q - q / 20) (n + 1)
def p_stepsTo (r : Nat → Int32) (bin limit : Int32) : Int32 :=
  if q_bin r bin then if 50 ≤ limit ∧ limit ≤ 400 then
    let x := stp limit 202 (r (10 + 9 * bin.toNatClampNeg + 3)) (r (10 + 9 * bin.toNatClampNeg + 4)) 0
    if x.1 ≤ 0 then -1 else if (200 : Int32) < nI x.2 then -1 else nI x.2
  else -3 else -2
def bl1 (r : Nat → Int32) (b : Nat) (kind amt moist : Int32) (lg : Nat) (best : Int32) : Int32 :=
  if p_against r lg (-1) b kind amt moist = 0 then if best = -1 then nI lg else
    if p_min amt (r (82 + 4 * best.toNatClampNeg + 0)) < p_min amt (r (82 + 4 * lg + 0)) then best else nI lg
  else best
def blN (r : Nat → Int32) (nl b : Nat) (kind amt moist : Int32) : Nat → Int32
  | 0 => -1
  | j + 1 => bl1 r b kind amt moist (nl - 1 - j) (blN r nl b kind amt moist j)
def p_bestLeg (r : Nat → Int32) (nl : Nat) (bin kind amt moist : Int32) : Int32 :=
  if q_bin r bin then if 0 ≤ kind ∧ kind ≤ 3 then if q_truck amt moist then blN r nl bin.toNatClampNeg kind amt moist nl else -3 else -2 else -2
theorem blN_ok (r : Nat → Int32) (nl b : Nat) (kind amt moist : Int32) (hl : nl ≤ 3) (j : Nat) (hj : j ≤ nl) : blN r nl b kind amt moist j = -1 ∨ (blN r nl b kind amt moist j = nI (blN r nl b kind amt moist j).toNatClampNeg ∧ (blN r nl b kind amt moist j).toNatClampNeg < nl) := by
  induction j with
  | zero => exact Or.inl rfl
  | succ j ih =>
    have h1 : nI (nl - 1 - j) = nI (nI (nl - 1 - j)).toNatClampNeg ∧ (nI (nl - 1 - j)).toNatClampNeg < nl := by
      rw [nI_clamp (by omega)]; exact ⟨rfl, by omega⟩
    have ih := ih (by omega)
    unfold blN bl1
    repeat' split
    all_goals first | exact ih | exact Or.inr h1
def bb1 (r : Nat → Int32) (lg : Nat) (kind amt moist : Int32) (k : Nat) (x : Int32 × Int32) : Int32 × Int32 :=
  if p_against r lg (-1) k kind amt moist = 0 then if x.1 = -1 then (nI k, r (10 + 9 * k + 0) - r (10 + 9 * k + 3)) else
    if x.2 ≤ r (10 + 9 * k + 0) - r (10 + 9 * k + 3) then x else (nI k, r (10 + 9 * k + 0) - r (10 + 9 * k + 3))
  else x
def p_bestBin (r : Nat → Int32) (nb : Nat) (leg kind amt moist : Int32) : Int32 :=
  if q_leg r leg then if 0 ≤ kind ∧ kind ≤ 3 then if q_truck amt moist then (iter (bb1 r leg.toNatClampNeg kind amt moist) nb (-1, 0)).1 else -3 else -2 else -2
theorem le_ne {x : Int32} (h : ¬ x ≤ 0) : ¬ x = 0 := fun e => h (by rw [e]; exact Int32.le_refl _)
def M_X3_spoilsIn : Md := (yX3_spoilsIn, cX3_spoilsIn, 3, (some .int), 3, 83, 0, 0)
theorem ok_X3_spoilsIn : MOKv M_X3_spoilsIn 1 := ⟨q1492, q1493, q103, q1494, ⟨by decide +kernel, by decide +kernel, by decide +kernel⟩⟩
set_option maxHeartbeats 4000000 in
theorem m_spoilsIn (l : Launch) (g : GT) (a : Nat → Nat) (row : Nat → Int32) (books : Nat → Int64) (S : Int32 × (Nat → Int32)) (B : (Nat → Int32) × Int32 × (Nat → Int32)) (T : (Nat → Int32) × Int32) (P : Int32 × Int32 × (Nat → Int32) × Int32 × Int32) (h : Int64) (nb : Nat) (hnb : row 2 = nI nb) (hb8 : nb ≤ 8) (bin : Int32) : CtE l g M_X3_spoilsIn [.ref (a 0), .int bin] (mw g a row books S B T P h) (some (.int (p_spoilsIn row bin))) (mw g a row books S B T P h) := by
  refine Ct.start2 (M := M_X3_spoilsIn) rfl [(0, .ref (a 0)), (1, .int bin)] rfl (by decide +kernel) (Nat.le_of_ble_eq_true rfl) ?_
  intro p e s m args below meth c A C
  refine v_aload_n C dX3_spoilsIn_0 0 rfl ?_
  refine v_iload_n C dX3_spoilsIn_1 1 rfl ?_
  refine v_callVw C (m_isBin l g a _ _ _ _ _ _ _ _) ok_X3_isBin rfl q1237 rfl (Nat.le_of_ble_eq_true rfl) 0 rfl rfl rfl dX3_spoilsIn_2 (roomL rfl rfl) ⟨rfl, rfl⟩ ?_
  refine v_if_neB C 11 dX3_spoilsIn_5 (by decide) (fun c5_1 => ?_) (fun c5_1 => ?_)
  · skip
    obtain ⟨eb, hb⟩ := isB_c hnb (by omega) c5_1
    refine v_aload_n C dX3_spoilsIn_11 0 rfl ?_
    refine v_iload_n C dX3_spoilsIn_12 1 rfl ?_
    refine v_eqi eb ?_
    refine v_callVw C (m_isSpoilt l g a _ _ _ _ _ _ _ (bin.toNatClampNeg) _ rfl (by omega)) ok_X3_isSpoilt rfl q1284 rfl (Nat.le_of_ble_eq_true rfl) 0 rfl rfl rfl dX3_spoilsIn_13 (roomL rfl rfl) ⟨rfl, rfl⟩ ?_
    refine v_if_eqB C 21 dX3_spoilsIn_16 (by decide) (fun c16_2 => ?_) (fun c16_2 => ?_)
    · skip
      refine v_aload_n C dX3_spoilsIn_21 0 rfl ?_
      refine v_iload_n C dX3_spoilsIn_22 1 rfl ?_
      refine v_eqi eb ?_
      refine v_callVw C (m_moisture l g a _ _ _ _ _ _ _ (bin.toNatClampNeg) _ rfl (by omega)) ok_X3_moisture rfl q1300 rfl (Nat.le_of_ble_eq_true rfl) 0 rfl rfl rfl dX3_spoilsIn_23 (roomL rfl rfl) ⟨rfl, rfl⟩ ?_
      refine v_sipush (v := 150) C dX3_spoilsIn_26 (by decide) ?_
      refine v_isub C dX3_spoilsIn_29 ?_
      refine v_istore_n (lv' := [(2, _), (0, _), (1, _)]) C dX3_spoilsIn_30 rfl (by decide) rfl ?_
      refine v_iload_n C dX3_spoilsIn_31 0 rfl ?_
      refine v_if_le C 55 dX3_spoilsIn_32 (by decide) (fun c32_3 => ?_) (fun c32_3 => ?_)
      · skip
        refine v_iconst (v := -1) C dX3_spoilsIn_55 (by decide) ?_
        exact v_iret C dX3_spoilsIn_56 (Nat.le_of_ble_eq_true rfl) (Nat.le_of_ble_eq_true rfl) (by unfold p_spoilsIn; (try dsimp only); rw [if_pos c5_1, if_neg c16_2, if_pos c32_3]; exact ⟨rfl, rfl⟩)
      · skip
        refine v_sipush (v := 10000) C dX3_spoilsIn_35 (by decide) ?_
        refine v_aload_n C dX3_spoilsIn_38 1 rfl ?_
        refine v_iload_n C dX3_spoilsIn_39 2 rfl ?_
        refine v_eqi eb ?_
        refine v_bipush (v := 6) C dX3_spoilsIn_40 (by decide) ?_
        refine v_callVw C (m_of l g a _ _ _ _ _ _ _ (bin.toNatClampNeg) 6 _ _ rfl rfl (by omega)) ok_X3_of rfl q1241 rfl (Nat.le_of_ble_eq_true rfl) 0 rfl rfl rfl dX3_spoilsIn_42 (roomL rfl rfl) ⟨rfl, rfl⟩ ?_
        refine v_isub C dX3_spoilsIn_45 ?_
        refine v_iload_n C dX3_spoilsIn_46 0 rfl ?_
        refine v_iadd C dX3_spoilsIn_47 ?_
        refine v_iconst (v := 1) C dX3_spoilsIn_48 (by decide) ?_
        refine v_isub C dX3_spoilsIn_49 ?_
        refine v_iload_n C dX3_spoilsIn_50 0 rfl ?_
        refine v_idiv C dX3_spoilsIn_51 (le_ne c32_3) ?_
        refine v_goto C 56 dX3_spoilsIn_52 (by decide) ?_
        exact v_iret C dX3_spoilsIn_56 (Nat.le_of_ble_eq_true rfl) (Nat.le_of_ble_eq_true rfl) (by unfold p_spoilsIn; (try dsimp only); rw [if_pos c5_1, if_neg c16_2, if_neg c32_3]; exact ⟨rfl, rfl⟩)
    · skip
      refine v_iconst (v := 0) C dX3_spoilsIn_19 (by decide) ?_
      exact v_iret C dX3_spoilsIn_20 (Nat.le_of_ble_eq_true rfl) (Nat.le_of_ble_eq_true rfl) (by unfold p_spoilsIn; (try dsimp only); rw [if_pos c5_1, if_pos c16_2]; exact ⟨rfl, rfl⟩)
  · skip
    refine v_bipush (v := -2) C dX3_spoilsIn_8 (by decide) ?_
    exact v_iret C dX3_spoilsIn_10 (Nat.le_of_ble_eq_true rfl) (Nat.le_of_ble_eq_true rfl) (by unfold p_spoilsIn; (try dsimp only); rw [if_neg c5_1]; exact ⟨rfl, rfl⟩)
def M_X3_stepsTo : Md := (yX3_stepsTo, cX3_stepsTo, 7, (some .int), 3, 83, 0, 0)
theorem ok_X3_stepsTo : MOKv M_X3_stepsTo 2 := ⟨q1496, q1497, q103, q1498, ⟨by decide +kernel, by decide +kernel, by decide +kernel⟩⟩
set_option maxHeartbeats 4000000 in
theorem m_stepsTo (l : Launch) (g : GT) (a : Nat → Nat) (row : Nat → Int32) (books : Nat → Int64) (S : Int32 × (Nat → Int32)) (B : (Nat → Int32) × Int32 × (Nat → Int32)) (T : (Nat → Int32) × Int32) (P : Int32 × Int32 × (Nat → Int32) × Int32 × Int32) (h : Int64) (nb : Nat) (hnb : row 2 = nI nb) (hb8 : nb ≤ 8) (bin limit : Int32) : CtE l g M_X3_stepsTo [.ref (a 0), .int bin, .int limit] (mw g a row books S B T P h) (some (.int (p_stepsTo row bin limit))) (mw g a row books S B T P h) := by
  refine Ct.start2 (M := M_X3_stepsTo) rfl [(0, .ref (a 0)), (1, .int bin), (2, .int limit)] rfl (by decide +kernel) (Nat.le_of_ble_eq_true rfl) ?_
  intro p e s m args below meth c A C
  refine v_aload_n C dX3_stepsTo_0 0 rfl ?_
  refine v_iload_n C dX3_stepsTo_1 1 rfl ?_
  refine v_callVw C (m_isBin l g a _ _ _ _ _ _ _ _) ok_X3_isBin rfl q1237 rfl (Nat.le_of_ble_eq_true rfl) 0 rfl rfl rfl dX3_stepsTo_2 (roomL rfl rfl) ⟨rfl, rfl⟩ ?_
  refine v_if_neB C 11 dX3_stepsTo_5 (by decide) (fun c5_1 => ?_) (fun c5_1 => ?_)
  · skip
    obtain ⟨eb, hb⟩ := isB_c hnb (by omega) c5_1
    refine v_iload_n C dX3_stepsTo_11 2 rfl ?_
    refine v_bipush (v := 50) C dX3_stepsTo_12 (by decide) ?_
    refine v_sipush (v := 400) C dX3_stepsTo_14 (by decide) ?_
    refine v_callSp C (m_in l g _ _ _) ok_X3_in rfl q1218 rfl (Nat.le_of_ble_eq_true rfl) dX3_stepsTo_17 (roomL rfl rfl) ⟨rfl, rfl⟩ ?_
    refine v_if_neB C 26 dX3_stepsTo_20 (by decide) (fun c20_2 => ?_) (fun c20_2 => ?_)
    · skip
      refine v_aload_n C dX3_stepsTo_26 0 rfl ?_
      refine v_iload_n C dX3_stepsTo_27 1 rfl ?_
      refine v_eqi eb ?_
      refine v_iconst (v := 3) C dX3_stepsTo_28 (by decide) ?_
      refine v_callVw C (m_of l g a _ _ _ _ _ _ _ (bin.toNatClampNeg) 3 _ _ rfl rfl (by omega)) ok_X3_of rfl q1241 rfl (Nat.le_of_ble_eq_true rfl) 0 rfl rfl rfl dX3_stepsTo_29 (roomL rfl rfl) ⟨rfl, rfl⟩ ?_
      refine v_istore_n (lv' := [(3, _), (0, _), (1, _), (2, _)]) C dX3_stepsTo_32 rfl (by decide) rfl ?_
      refine v_aload_n C dX3_stepsTo_33 1 rfl ?_
      refine v_iload_n C dX3_stepsTo_34 2 rfl ?_
      refine v_eqi eb ?_
      refine v_iconst (v := 4) C dX3_stepsTo_35 (by decide) ?_
      refine v_callVw C (m_of l g a _ _ _ _ _ _ _ (bin.toNatClampNeg) 4 _ _ rfl rfl (by omega)) ok_X3_of rfl q1241 rfl (Nat.le_of_ble_eq_true rfl) 0 rfl rfl rfl dX3_stepsTo_36 (roomL rfl rfl) ⟨rfl, rfl⟩ ?_
      refine v_istore (lv' := [(4, _), (3, _), (0, _), (1, _), (2, _)]) C dX3_stepsTo_39 (by decide) rfl ?_
      refine v_iconst (v := 0) C dX3_stepsTo_41 (by decide) ?_
      refine v_istore (lv' := [(5, _), (4, _), (3, _), (0, _), (1, _), (2, _)]) C dX3_stepsTo_42 (by decide) rfl ?_
      refine v_while (α := Nat × Int32 × Int32 × Nat) (fun x => x.1) (fun x => x.1 + x.2.2.2 = 202 ∧ x.2.2.2 ≤ 201 ∧ stp limit 202 (row (10 + 9 * bin.toNatClampNeg + 3)) (row (10 + 9 * bin.toNatClampNeg + 4)) 0 = stp limit x.1 x.2.1 x.2.2.1 x.2.2.2) (fun x => [(5, .int (nI x.2.2.2)), (4, .int x.2.2.1), (3, .int x.2.1), (0, .ref (a 0)), (1, .int bin), (2, .int limit)]) (fun x => mw g a row books S B T P h) (202, row (10 + 9 * bin.toNatClampNeg + 3), row (10 + 9 * bin.toNatClampNeg + 4), 0) rfl rfl ⟨rfl, Nat.zero_le _, rfl⟩ ?_
      rintro ⟨f, am, pt, n⟩ ⟨h1, h2, hfin⟩ ih
      dsimp only at h1 h2 hfin ih ⊢
      obtain ⟨f, rfl⟩ : ∃ z, f = z + 1 := ⟨f - 1, by omega⟩
      refine v_iload_n C dX3_stepsTo_44 2 rfl ?_
      refine v_if_le C 111 dX3_stepsTo_45 (by decide) (fun c45_3 => ?_) (fun c45_3 => ?_)
      · skip
        refine v_iload_n C dX3_stepsTo_111 2 rfl ?_
        refine v_if_le C 128 dX3_stepsTo_112 (by decide) (fun c112_4 => ?_) (fun c112_4 => ?_)
        · skip
          refine v_iconst (v := -1) C dX3_stepsTo_128 (by decide) ?_
          exact v_iret C dX3_stepsTo_129 (Nat.le_of_ble_eq_true rfl) (Nat.le_of_ble_eq_true rfl) (by unfold p_stepsTo; dsimp only; rw [if_pos c5_1, if_pos c20_2, hfin, stp, if_pos c45_3]; dsimp only; rw [if_pos c112_4]; exact ⟨rfl, rfl⟩)
        · skip
          refine v_iload C dX3_stepsTo_115 0 rfl ?_
          refine v_sipush (v := 200) C dX3_stepsTo_117 (by decide) ?_
          refine v_icmp_gt C 128 dX3_stepsTo_120 (by decide) (fun c120_5 => ?_) (fun c120_5 => ?_)
          · skip
            refine v_iconst (v := -1) C dX3_stepsTo_128 (by decide) ?_
            exact v_iret C dX3_stepsTo_129 (Nat.le_of_ble_eq_true rfl) (Nat.le_of_ble_eq_true rfl) (by unfold p_stepsTo; dsimp only; rw [if_pos c5_1, if_pos c20_2, hfin, stp, if_pos c45_3]; dsimp only; rw [if_neg c112_4, if_pos c120_5]; exact ⟨rfl, rfl⟩)
          · skip
            refine v_iload C dX3_stepsTo_123 0 rfl ?_
            refine v_goto C 129 dX3_stepsTo_125 (by decide) ?_
            exact v_iret C dX3_stepsTo_129 (Nat.le_of_ble_eq_true rfl) (Nat.le_of_ble_eq_true rfl) (by unfold p_stepsTo; dsimp only; rw [if_pos c5_1, if_pos c20_2, hfin, stp, if_pos c45_3]; dsimp only; rw [if_neg c112_4, if_neg c120_5]; exact ⟨rfl, rfl⟩)
      · skip
        have hane := le_ne c45_3
        refine v_iload C dX3_stepsTo_48 0 rfl ?_
        refine v_sipush (v := 200) C dX3_stepsTo_50 (by decide) ?_
        refine v_icmp_gt C 111 dX3_stepsTo_53 (by decide) (fun c53_6 => ?_) (fun c53_6 => ?_)
        · skip
          refine v_iload_n C dX3_stepsTo_111 2 rfl ?_
          refine v_if_le C 128 dX3_stepsTo_112 (by decide) (fun c112_7 => ?_) (fun c112_7 => ?_)
          · skip
            refine v_iconst (v := -1) C dX3_stepsTo_128 (by decide) ?_
            exact v_iret C dX3_stepsTo_129 (Nat.le_of_ble_eq_true rfl) (Nat.le_of_ble_eq_true rfl) (by unfold p_stepsTo; dsimp only; rw [if_pos c5_1, if_pos c20_2, hfin, stp, if_neg c45_3, if_pos c53_6]; dsimp only; rw [if_pos c112_7]; exact ⟨rfl, rfl⟩)
          · skip
            refine v_iload C dX3_stepsTo_115 0 rfl ?_
            refine v_sipush (v := 200) C dX3_stepsTo_117 (by decide) ?_
            refine v_icmp_gt C 128 dX3_stepsTo_120 (by decide) (fun c120_8 => ?_) (fun c120_8 => ?_)
            · skip
              refine v_iconst (v := -1) C dX3_stepsTo_128 (by decide) ?_
              exact v_iret C dX3_stepsTo_129 (Nat.le_of_ble_eq_true rfl) (Nat.le_of_ble_eq_true rfl) (by unfold p_stepsTo; dsimp only; rw [if_pos c5_1, if_pos c20_2, hfin, stp, if_neg c45_3, if_pos c53_6]; dsimp only; rw [if_neg c112_7, if_pos c120_8]; exact ⟨rfl, rfl⟩)
            · skip
              refine v_iload C dX3_stepsTo_123 0 rfl ?_
              refine v_goto C 129 dX3_stepsTo_125 (by decide) ?_
              exact v_iret C dX3_stepsTo_129 (Nat.le_of_ble_eq_true rfl) (Nat.le_of_ble_eq_true rfl) (by unfold p_stepsTo; dsimp only; rw [if_pos c5_1, if_pos c20_2, hfin, stp, if_neg c45_3, if_pos c53_6]; dsimp only; rw [if_neg c112_7, if_neg c120_8]; exact ⟨rfl, rfl⟩)
        · skip
          refine v_iload C dX3_stepsTo_56 1 rfl ?_
          refine v_iload_n C dX3_stepsTo_58 2 rfl ?_
          refine v_idiv C dX3_stepsTo_59 hane ?_
          refine v_iload_n C dX3_stepsTo_60 5 rfl ?_
          refine v_icmp_le C 111 dX3_stepsTo_61 (by decide) (fun c61_9 => ?_) (fun c61_9 => ?_)
          · skip
            refine v_iload_n C dX3_stepsTo_111 2 rfl ?_
            refine v_if_le C 128 dX3_stepsTo_112 (by decide) (fun c112_10 => ?_) (fun c112_10 => ?_)
            · skip
              refine v_iconst (v := -1) C dX3_stepsTo_128 (by decide) ?_
              exact v_iret C dX3_stepsTo_129 (Nat.le_of_ble_eq_true rfl) (Nat.le_of_ble_eq_true rfl) (by unfold p_stepsTo; dsimp only; rw [if_pos c5_1, if_pos c20_2, hfin, stp, if_neg c45_3, if_neg c53_6, if_pos c61_9]; dsimp only; rw [if_pos c112_10]; exact ⟨rfl, rfl⟩)
            · skip
              refine v_iload C dX3_stepsTo_115 0 rfl ?_
              refine v_sipush (v := 200) C dX3_stepsTo_117 (by decide) ?_
              refine v_icmp_gt C 128 dX3_stepsTo_120 (by decide) (fun c120_11 => ?_) (fun c120_11 => ?_)
              · skip
                refine v_iconst (v := -1) C dX3_stepsTo_128 (by decide) ?_
                exact v_iret C dX3_stepsTo_129 (Nat.le_of_ble_eq_true rfl) (Nat.le_of_ble_eq_true rfl) (by unfold p_stepsTo; dsimp only; rw [if_pos c5_1, if_pos c20_2, hfin, stp, if_neg c45_3, if_neg c53_6, if_pos c61_9]; dsimp only; rw [if_neg c112_10, if_pos c120_11]; exact ⟨rfl, rfl⟩)
              · skip
                refine v_iload C dX3_stepsTo_123 0 rfl ?_
                refine v_goto C 129 dX3_stepsTo_125 (by decide) ?_
                exact v_iret C dX3_stepsTo_129 (Nat.le_of_ble_eq_true rfl) (Nat.le_of_ble_eq_true rfl) (by unfold p_stepsTo; dsimp only; rw [if_pos c5_1, if_pos c20_2, hfin, stp, if_neg c45_3, if_neg c53_6, if_pos c61_9]; dsimp only; rw [if_neg c112_10, if_neg c120_11]; exact ⟨rfl, rfl⟩)
          · skip
            refine v_iload C dX3_stepsTo_64 1 rfl ?_
            refine v_bipush (v := 20) C dX3_stepsTo_66 (by decide) ?_
            refine v_idiv C dX3_stepsTo_68 (by decide) ?_
            refine v_istore (lv' := [(6, _), (5, _), (4, _), (3, _), (0, _), (1, _), (2, _)]) C dX3_stepsTo_69 (by decide) rfl ?_
            refine v_iload C dX3_stepsTo_71 2 rfl ?_
            refine v_iload C dX3_stepsTo_73 0 rfl ?_
            refine v_isub C dX3_stepsTo_75 ?_
            refine v_istore (lv' := [(4, _), (6, _), (5, _), (3, _), (0, _), (1, _), (2, _)]) C dX3_stepsTo_76 (by decide) rfl ?_
            refine v_iload_n C dX3_stepsTo_78 3 rfl ?_
            refine v_iload C dX3_stepsTo_79 1 rfl ?_
            refine v_sipush (v := 1000) C dX3_stepsTo_81 (by decide) ?_
            refine v_idiv C dX3_stepsTo_84 (by decide) ?_
            refine v_iload_n C dX3_stepsTo_85 3 rfl ?_
            refine v_iconst (v := 1) C dX3_stepsTo_86 (by decide) ?_
            refine v_isub C dX3_stepsTo_87 ?_
            refine v_icmp_ge C 100 dX3_stepsTo_88 (by decide) (fun c88_12 => ?_) (fun c88_12 => ?_)
            · skip
              refine v_iload_n C dX3_stepsTo_100 3 rfl ?_
              refine v_iconst (v := 1) C dX3_stepsTo_101 (by decide) ?_
              refine v_isub C dX3_stepsTo_102 ?_
              refine v_isub C dX3_stepsTo_103 ?_
              refine v_istore_n (lv' := [(3, _), (4, _), (6, _), (5, _), (0, _), (1, _), (2, _)]) C dX3_stepsTo_104 rfl (by decide) rfl ?_
              refine v_iinc (lv' := [(5, _), (3, _), (4, _), (6, _), (0, _), (1, _), (2, _)]) C dX3_stepsTo_105 3 rfl (nI_1 n) (by decide) rfl ?_
              refine v_goto C 44 dX3_stepsTo_108 (by decide) ?_
              refine v_lvp (lv' := [(5, _), (4, _), (3, _), (0, _), (1, _), (2, _)]) [0, 2, 1, 4, 5, 6] rfl ?_
              have hn : n ≤ 200 := by
                rcases Nat.lt_or_ge 200 n with q | q
                · exact absurd ((nI_ltI (by decide) (by omega)).mpr q) c53_6
                · exact q
              exact ih (f, am - (am - 1), pt - pt / 20, n + 1) ⟨by dsimp only; omega, by dsimp only; omega, by dsimp only; rw [hfin, stp, if_neg c45_3, if_neg c53_6, if_neg c61_9, if_pos c88_12]⟩ (by dsimp only; omega)
            · skip
              refine v_iload C dX3_stepsTo_91 1 rfl ?_
              refine v_sipush (v := 1000) C dX3_stepsTo_93 (by decide) ?_
              refine v_idiv C dX3_stepsTo_96 (by decide) ?_
              refine v_goto C 103 dX3_stepsTo_97 (by decide) ?_
              refine v_isub C dX3_stepsTo_103 ?_
              refine v_istore_n (lv' := [(3, _), (4, _), (6, _), (5, _), (0, _), (1, _), (2, _)]) C dX3_stepsTo_104 rfl (by decide) rfl ?_
              refine v_iinc (lv' := [(5, _), (3, _), (4, _), (6, _), (0, _), (1, _), (2, _)]) C dX3_stepsTo_105 3 rfl (nI_1 n) (by decide) rfl ?_
              refine v_goto C 44 dX3_stepsTo_108 (by decide) ?_
              refine v_lvp (lv' := [(5, _), (4, _), (3, _), (0, _), (1, _), (2, _)]) [0, 2, 1, 4, 5, 6] rfl ?_
              have hn : n ≤ 200 := by
                rcases Nat.lt_or_ge 200 n with q | q
                · exact absurd ((nI_ltI (by decide) (by omega)).mpr q) c53_6
                · exact q
              exact ih (f, am - pt / 20 / 1000, pt - pt / 20, n + 1) ⟨by dsimp only; omega, by dsimp only; omega, by dsimp only; rw [hfin, stp, if_neg c45_3, if_neg c53_6, if_neg c61_9, if_neg c88_12]⟩ (by dsimp only; omega)
    · skip
      refine v_bipush (v := -3) C dX3_stepsTo_23 (by decide) ?_
      exact v_iret C dX3_stepsTo_25 (Nat.le_of_ble_eq_true rfl) (Nat.le_of_ble_eq_true rfl) (by unfold p_stepsTo; (try dsimp only); rw [if_pos c5_1, if_neg c20_2]; exact ⟨rfl, rfl⟩)
  · skip
    refine v_bipush (v := -2) C dX3_stepsTo_8 (by decide) ?_
    exact v_iret C dX3_stepsTo_10 (Nat.le_of_ble_eq_true rfl) (Nat.le_of_ble_eq_true rfl) (by unfold p_stepsTo; (try dsimp only); rw [if_neg c5_1]; exact ⟨rfl, rfl⟩)
def M_X3_bestLeg : Md := (yX3_bestLeg, cX3_bestLeg, 8, (some .int), 4, 110, 0, 0)
theorem ok_X3_bestLeg : MOKv M_X3_bestLeg 4 := ⟨q1500, q1501, q103, q1502, ⟨by decide +kernel, by decide +kernel, by decide +kernel⟩⟩
set_option maxHeartbeats 4000000 in
theorem m_bestLeg (l : Launch) (g : GT) (a : Nat → Nat) (row : Nat → Int32) (books : Nat → Int64) (S : Int32 × (Nat → Int32)) (B : (Nat → Int32) × Int32 × (Nat → Int32)) (T : (Nat → Int32) × Int32) (P : Int32 × Int32 × (Nat → Int32) × Int32 × Int32) (h : Int64) (nb nl : Nat) (hnb : row 2 = nI nb) (hb8 : nb ≤ 8) (hnl : row 3 = nI nl) (hl3 : nl ≤ 3) (hsp : ∀ l, l < nl → ¬ row (82 + 4 * l + 0) = 0) (bin kind amt moist : Int32) : CtE l g M_X3_bestLeg [.ref (a 0), .int bin, .int kind, .int amt, .int moist] (mw g a row books S B T P h) (some (.int (p_bestLeg row nl bin kind amt moist))) (mw g a row books S B T P h) := by
  refine Ct.start2 (M := M_X3_bestLeg) rfl [(0, .ref (a 0)), (1, .int bin), (2, .int kind), (3, .int amt), (4, .int moist)] rfl (by decide +kernel) (Nat.le_of_ble_eq_true rfl) ?_
  intro p e s m args below meth c A C
  refine v_aload_n C dX3_bestLeg_0 0 rfl ?_
  refine v_iload_n C dX3_bestLeg_1 1 rfl ?_
  refine v_callVw C (m_isBin l g a _ _ _ _ _ _ _ _) ok_X3_isBin rfl q1237 rfl (Nat.le_of_ble_eq_true rfl) 0 rfl rfl rfl dX3_bestLeg_2 (roomL rfl rfl) ⟨rfl, rfl⟩ ?_
  refine v_if_eqB C 15 dX3_bestLeg_5 (by decide) (fun c5_1 => ?_) (fun c5_1 => ?_)
  · skip
    refine v_bipush (v := -2) C dX3_bestLeg_15 (by decide) ?_
    exact v_iret C dX3_bestLeg_17 (Nat.le_of_ble_eq_true rfl) (Nat.le_of_ble_eq_true rfl) (by unfold p_bestLeg; (try dsimp only); rw [if_neg c5_1]; exact ⟨rfl, rfl⟩)
  · skip
    obtain ⟨eb, hb⟩ := isB_c hnb (by omega) c5_1
    refine v_iload_n C dX3_bestLeg_8 2 rfl ?_
    refine v_callSp C (m_isClass l g _) ok_X3_isClass rfl q1273 rfl (Nat.le_of_ble_eq_true rfl) dX3_bestLeg_9 (roomL rfl rfl) ⟨rfl, rfl⟩ ?_
    refine v_if_neB C 18 dX3_bestLeg_12 (by decide) (fun c12_2 => ?_) (fun c12_2 => ?_)
    · skip
      refine v_iload_n C dX3_bestLeg_18 3 rfl ?_
      refine v_iload C dX3_bestLeg_19 4 rfl ?_
      refine v_callSp C (m_isTruck l g _ _) ok_X3_isTruck rfl q1337 rfl (Nat.le_of_ble_eq_true rfl) dX3_bestLeg_21 (roomL rfl rfl) ⟨rfl, rfl⟩ ?_
      refine v_if_neB C 30 dX3_bestLeg_24 (by decide) (fun c24_3 => ?_) (fun c24_3 => ?_)
      · skip
        refine v_iconst (v := -1) C dX3_bestLeg_30 (by decide) ?_
        refine v_istore (lv' := [(5, _), (0, _), (1, _), (2, _), (3, _), (4, _)]) C dX3_bestLeg_31 (by decide) rfl ?_
        refine v_aload_n C dX3_bestLeg_33 1 rfl ?_
        refine v_get C in_X3 rfl 0 rfl 0 (by decide) q1166 (fun _ h => h) rfl dX3_bestLeg_34 ?_
        refine v_iconst (v := 3) C dX3_bestLeg_37 (by decide) ?_
        refine v_iald C dX3_bestLeg_38 1 rfl (j := 3) (ixl rfl) ?_
        refine v_eqi hnl ?_
        refine v_iconst (v := 1) C dX3_bestLeg_39 (by decide) ?_
        refine v_isub C dX3_bestLeg_40 ?_
        refine v_istore (lv' := [(6, _), (5, _), (0, _), (1, _), (2, _), (3, _), (4, _)]) C dX3_bestLeg_41 (by decide) rfl ?_
        refine v_loop 0 nl (fun j => [(6, .int (nI (nl - j) - 1)), (5, .int (blN row nl bin.toNatClampNeg kind amt moist j)), (0, .ref (a 0)), (1, .int bin), (2, .int kind), (3, .int amt), (4, .int moist)]) (fun j => mw g a row books S B T P h) rfl rfl (by omega) ?_ ?_
        · skip
          refine v_iload C dX3_bestLeg_43 0 rfl ?_
          refine v_if_lt C 121 dX3_bestLeg_45 (by decide) (fun c45_4 => ?_) (fun c45_4 => ?_)
          · skip
            refine v_iload C dX3_bestLeg_121 1 rfl ?_
            exact v_iret C dX3_bestLeg_123 (Nat.le_of_ble_eq_true rfl) (Nat.le_of_ble_eq_true rfl) (by unfold p_bestLeg; (try dsimp only); rw [if_pos c5_1, if_pos c12_2, if_pos c24_3]; exact ⟨rfl, rfl⟩)
          · exact absurd (show nI (nl - nl) - 1 < 0 by rw [Nat.sub_self]; decide) c45_4
        · intro j hj hj0 hback
          have hkj : nI (nl - j) - 1 = nI (nl - 1 - j) := by rw [show nl - j = (nl - 1 - j) + 1 by omega]; exact nI_pred _
          refine v_iload C dX3_bestLeg_43 0 rfl ?_
          refine v_if_lt C 121 dX3_bestLeg_45 (by decide) (fun c45_5 => ?_) (fun c45_5 => ?_)
          · rw [hkj] at c45_5; exact absurd c45_5 (nI_pos (by omega))
          · skip
            refine v_aload_n C dX3_bestLeg_48 2 rfl ?_
            refine v_iload C dX3_bestLeg_49 0 rfl ?_
            refine v_eqi hkj ?_
            refine v_iconst (v := -1) C dX3_bestLeg_51 (by decide) ?_
            refine v_iload_n C dX3_bestLeg_52 3 rfl ?_
            refine v_eqi eb ?_
            refine v_iload_n C dX3_bestLeg_53 4 rfl ?_
            refine v_iload_n C dX3_bestLeg_54 5 rfl ?_
            refine v_iload C dX3_bestLeg_55 6 rfl ?_
            refine v_callVw C (m_against l g a _ _ _ _ _ _ _ (nl - 1 - j) (bin.toNatClampNeg) _ _ _ _ _ _ rfl rfl (by omega) (by omega)) ok_X3_against rfl q1340 rfl (Nat.le_of_ble_eq_true rfl) 0 rfl rfl rfl dX3_bestLeg_57 (roomL rfl rfl) ⟨rfl, rfl⟩ ?_
            refine v_ternI C 67 68 dX3_bestLeg_63 dX3_bestLeg_64 dX3_bestLeg_67 (by decide) rfl (fun ht hf => v_if_ne C 67 dX3_bestLeg_60 (by decide) (fun q => ht q) (fun q => hf q)) ?_
            refine v_istore (lv' := [(7, _), (6, _), (5, _), (0, _), (1, _), (2, _), (3, _), (4, _)]) C dX3_bestLeg_68 (by decide) rfl ?_
            refine v_iload C dX3_bestLeg_70 0 rfl ?_
            refine v_if_eqB C 111 dX3_bestLeg_72 (by decide) (fun c72_6 => ?_) (fun c72_6 => ?_)
            · skip
              refine v_iload C dX3_bestLeg_111 2 rfl ?_
              refine v_istore (lv' := [(5, _), (7, _), (6, _), (0, _), (1, _), (2, _), (3, _), (4, _)]) C dX3_bestLeg_113 (by decide) rfl ?_
              refine v_iinc (lv' := [(6, _), (5, _), (7, _), (0, _), (1, _), (2, _), (3, _), (4, _)]) C dX3_bestLeg_115 2 rfl (show nI (nl - j) - 1 + Int32.ofInt (-1) = nI (nl - (j + 1)) - 1 by rw [show nl - j = (nl - (j + 1)) + 1 by omega]; exact dec2 _) (by decide) rfl ?_
              refine v_goto C 43 dX3_bestLeg_118 (by decide) ?_
              refine v_lvp (lv' := [(6, _), (5, _), (0, _), (1, _), (2, _), (3, _), (4, _)]) [0, 1, 3, 4, 5, 6, 7] rfl ?_
              have e1 := hback
              rw [blN, bl1, if_neg c72_6] at e1
              exact e1
            · skip
              refine v_iload C dX3_bestLeg_75 2 rfl ?_
              refine v_iconst (v := -1) C dX3_bestLeg_77 (by decide) ?_
              refine v_icmp_eq C 106 dX3_bestLeg_78 (by decide) (fun c78_7 => ?_) (fun c78_7 => ?_)
              · skip
                refine v_iload C dX3_bestLeg_106 1 rfl ?_
                refine v_eqi hkj ?_
                refine v_goto C 113 dX3_bestLeg_108 (by decide) ?_
                refine v_istore (lv' := [(5, _), (7, _), (6, _), (0, _), (1, _), (2, _), (3, _), (4, _)]) C dX3_bestLeg_113 (by decide) rfl ?_
                refine v_iinc (lv' := [(6, _), (5, _), (7, _), (0, _), (1, _), (2, _), (3, _), (4, _)]) C dX3_bestLeg_115 2 rfl (show nI (nl - j) - 1 + Int32.ofInt (-1) = nI (nl - (j + 1)) - 1 by rw [show nl - j = (nl - (j + 1)) + 1 by omega]; exact dec2 _) (by decide) rfl ?_
                refine v_goto C 43 dX3_bestLeg_118 (by decide) ?_
                refine v_lvp (lv' := [(6, _), (5, _), (0, _), (1, _), (2, _), (3, _), (4, _)]) [0, 1, 3, 4, 5, 6, 7] rfl ?_
                have e1 := hback
                rw [blN, bl1, if_pos c72_6, if_pos c78_7] at e1
                exact e1
              · skip
                obtain ⟨ebl, hbl⟩ := (blN_ok row nl bin.toNatClampNeg kind amt moist hl3 j (by omega)).resolve_left c78_7
                refine v_iload_n C dX3_bestLeg_81 6 rfl ?_
                refine v_aload_n C dX3_bestLeg_82 3 rfl ?_
                refine v_iload C dX3_bestLeg_83 1 rfl ?_
                refine v_eqi hkj ?_
                refine v_iconst (v := 0) C dX3_bestLeg_85 (by decide) ?_
                refine v_callVw C (m_ofLeg l g a _ _ _ _ _ _ _ (nl - 1 - j) 0 _ _ rfl rfl (by omega)) ok_X3_ofLeg rfl q1257 rfl (Nat.le_of_ble_eq_true rfl) 0 rfl rfl rfl dX3_bestLeg_86 (roomL rfl rfl) ⟨rfl, rfl⟩ ?_
                refine v_callSp C (m_minutes l g _ _ (hsp _ (by omega))) ok_X3_minutes rfl q1348 rfl (Nat.le_of_ble_eq_true rfl) dX3_bestLeg_89 (roomL rfl rfl) ⟨rfl, rfl⟩ ?_
                refine v_iload_n C dX3_bestLeg_92 6 rfl ?_
                refine v_aload_n C dX3_bestLeg_93 3 rfl ?_
                refine v_iload C dX3_bestLeg_94 2 rfl ?_
                refine v_eqi ebl ?_
                refine v_iconst (v := 0) C dX3_bestLeg_96 (by decide) ?_
                refine v_callVw C (m_ofLeg l g a _ _ _ _ _ _ _ ((blN row nl bin.toNatClampNeg kind amt moist j).toNatClampNeg) 0 _ _ rfl rfl (by omega)) ok_X3_ofLeg rfl q1257 rfl (Nat.le_of_ble_eq_true rfl) 0 rfl rfl rfl dX3_bestLeg_97 (roomL rfl rfl) ⟨rfl, rfl⟩ ?_
                refine v_callSp C (m_minutes l g _ _ (hsp _ hbl)) ok_X3_minutes rfl q1348 rfl (Nat.le_of_ble_eq_true rfl) dX3_bestLeg_100 (roomL rfl rfl) ⟨rfl, rfl⟩ ?_
                refine v_icmp_gt C 111 dX3_bestLeg_103 (by decide) (fun c103_8 => ?_) (fun c103_8 => ?_)
                · skip
                  refine v_iload C dX3_bestLeg_111 2 rfl ?_
                  refine v_istore (lv' := [(5, _), (7, _), (6, _), (0, _), (1, _), (2, _), (3, _), (4, _)]) C dX3_bestLeg_113 (by decide) rfl ?_
                  refine v_iinc (lv' := [(6, _), (5, _), (7, _), (0, _), (1, _), (2, _), (3, _), (4, _)]) C dX3_bestLeg_115 2 rfl (show nI (nl - j) - 1 + Int32.ofInt (-1) = nI (nl - (j + 1)) - 1 by rw [show nl - j = (nl - (j + 1)) + 1 by omega]; exact dec2 _) (by decide) rfl ?_
                  refine v_goto C 43 dX3_bestLeg_118 (by decide) ?_
                  refine v_lvp (lv' := [(6, _), (5, _), (0, _), (1, _), (2, _), (3, _), (4, _)]) [0, 1, 3, 4, 5, 6, 7] rfl ?_
                  have e1 := hback
                  rw [blN, bl1, if_pos c72_6, if_neg c78_7, if_pos c103_8] at e1
                  exact e1
                · skip
                  refine v_iload C dX3_bestLeg_106 1 rfl ?_
                  refine v_eqi hkj ?_
                  refine v_goto C 113 dX3_bestLeg_108 (by decide) ?_
                  refine v_istore (lv' := [(5, _), (7, _), (6, _), (0, _), (1, _), (2, _), (3, _), (4, _)]) C dX3_bestLeg_113 (by decide) rfl ?_
                  refine v_iinc (lv' := [(6, _), (5, _), (7, _), (0, _), (1, _), (2, _), (3, _), (4, _)]) C dX3_bestLeg_115 2 rfl (show nI (nl - j) - 1 + Int32.ofInt (-1) = nI (nl - (j + 1)) - 1 by rw [show nl - j = (nl - (j + 1)) + 1 by omega]; exact dec2 _) (by decide) rfl ?_
                  refine v_goto C 43 dX3_bestLeg_118 (by decide) ?_
                  refine v_lvp (lv' := [(6, _), (5, _), (0, _), (1, _), (2, _), (3, _), (4, _)]) [0, 1, 3, 4, 5, 6, 7] rfl ?_
                  have e1 := hback
                  rw [blN, bl1, if_pos c72_6, if_neg c78_7, if_neg c103_8] at e1
                  exact e1
      · skip
        refine v_bipush (v := -3) C dX3_bestLeg_27 (by decide) ?_
        exact v_iret C dX3_bestLeg_29 (Nat.le_of_ble_eq_true rfl) (Nat.le_of_ble_eq_true rfl) (by unfold p_bestLeg; (try dsimp only); rw [if_pos c5_1, if_pos c12_2, if_neg c24_3]; exact ⟨rfl, rfl⟩)
    · skip
      refine v_bipush (v := -2) C dX3_bestLeg_15 (by decide) ?_
      exact v_iret C dX3_bestLeg_17 (Nat.le_of_ble_eq_true rfl) (Nat.le_of_ble_eq_true rfl) (by unfold p_bestLeg; (try dsimp only); rw [if_pos c5_1, if_neg c12_2]; exact ⟨rfl, rfl⟩)
def M_X3_bestBin : Md := (yX3_bestBin, cX3_bestBin, 10, (some .int), 4, 110, 0, 0)
theorem ok_X3_bestBin : MOKv M_X3_bestBin 4 := ⟨q1504, q1505, q103, q1506, ⟨by decide +kernel, by decide +kernel, by decide +kernel⟩⟩
set_option maxHeartbeats 4000000 in
theorem m_bestBin (l : Launch) (g : GT) (a : Nat → Nat) (row : Nat → Int32) (books : Nat → Int64) (S : Int32 × (Nat → Int32)) (B : (Nat → Int32) × Int32 × (Nat → Int32)) (T : (Nat → Int32) × Int32) (P : Int32 × Int32 × (Nat → Int32) × Int32 × Int32) (h : Int64) (nb nl : Nat) (hnb : row 2 = nI nb) (hb8 : nb ≤ 8) (hnl : row 3 = nI nl) (hl3 : nl ≤ 3) (leg kind amt moist : Int32) : CtE l g M_X3_bestBin [.ref (a 0), .int leg, .int kind, .int amt, .int moist] (mw g a row books S B T P h) (some (.int (p_bestBin row nb leg kind amt moist))) (mw g a row books S B T P h) := by
  refine Ct.start2 (M := M_X3_bestBin) rfl [(0, .ref (a 0)), (1, .int leg), (2, .int kind), (3, .int amt), (4, .int moist)] rfl (by decide +kernel) (Nat.le_of_ble_eq_true rfl) ?_
  intro p e s m args below meth c A C
  refine v_aload_n C dX3_bestBin_0 0 rfl ?_
  refine v_iload_n C dX3_bestBin_1 1 rfl ?_
  refine v_callVw C (m_isLeg l g a _ _ _ _ _ _ _ _) ok_X3_isLeg rfl q1253 rfl (Nat.le_of_ble_eq_true rfl) 0 rfl rfl rfl dX3_bestBin_2 (roomL rfl rfl) ⟨rfl, rfl⟩ ?_
  refine v_if_eqB C 15 dX3_bestBin_5 (by decide) (fun c5_1 => ?_) (fun c5_1 => ?_)
  · skip
    refine v_bipush (v := -2) C dX3_bestBin_15 (by decide) ?_
    exact v_iret C dX3_bestBin_17 (Nat.le_of_ble_eq_true rfl) (Nat.le_of_ble_eq_true rfl) (by unfold p_bestBin; (try dsimp only); rw [if_neg c5_1]; exact ⟨rfl, rfl⟩)
  · skip
    obtain ⟨el, hl⟩ := isB_c hnl (by omega) c5_1
    refine v_iload_n C dX3_bestBin_8 2 rfl ?_
    refine v_callSp C (m_isClass l g _) ok_X3_isClass rfl q1273 rfl (Nat.le_of_ble_eq_true rfl) dX3_bestBin_9 (roomL rfl rfl) ⟨rfl, rfl⟩ ?_
    refine v_if_neB C 18 dX3_bestBin_12 (by decide) (fun c12_2 => ?_) (fun c12_2 => ?_)
    · skip
      refine v_iload_n C dX3_bestBin_18 3 rfl ?_
      refine v_iload C dX3_bestBin_19 4 rfl ?_
      refine v_callSp C (m_isTruck l g _ _) ok_X3_isTruck rfl q1337 rfl (Nat.le_of_ble_eq_true rfl) dX3_bestBin_21 (roomL rfl rfl) ⟨rfl, rfl⟩ ?_
      refine v_if_neB C 30 dX3_bestBin_24 (by decide) (fun c24_3 => ?_) (fun c24_3 => ?_)
      · skip
        refine v_iconst (v := -1) C dX3_bestBin_30 (by decide) ?_
        refine v_istore (lv' := [(5, _), (0, _), (1, _), (2, _), (3, _), (4, _)]) C dX3_bestBin_31 (by decide) rfl ?_
        refine v_iconst (v := 0) C dX3_bestBin_33 (by decide) ?_
        refine v_istore (lv' := [(6, _), (5, _), (0, _), (1, _), (2, _), (3, _), (4, _)]) C dX3_bestBin_34 (by decide) rfl ?_
        refine v_iconst (v := 0) C dX3_bestBin_36 (by decide) ?_
        refine v_istore (lv' := [(7, _), (6, _), (5, _), (0, _), (1, _), (2, _), (3, _), (4, _)]) C dX3_bestBin_37 (by decide) rfl ?_
        refine v_loop 0 nb (fun k => [(7, .int (nI k)), (6, .int (iter (bb1 row leg.toNatClampNeg kind amt moist) k (-1, 0)).2), (5, .int (iter (bb1 row leg.toNatClampNeg kind amt moist) k (-1, 0)).1), (0, .ref (a 0)), (1, .int leg), (2, .int kind), (3, .int amt), (4, .int moist)]) (fun k => mw g a row books S B T P h) rfl rfl (by omega) ?_ ?_
        · skip
          refine v_iload C dX3_bestBin_39 0 rfl ?_
          refine v_aload_n C dX3_bestBin_41 3 rfl ?_
          refine v_get C in_X3 rfl 0 rfl 0 (by decide) q1166 (fun _ h => h) rfl dX3_bestBin_42 ?_
          refine v_iconst (v := 2) C dX3_bestBin_45 (by decide) ?_
          refine v_iald C dX3_bestBin_46 1 rfl (j := 2) (ixl rfl) ?_
          refine v_eqi hnb ?_
          refine v_icmp_ge C 136 dX3_bestBin_47 (by decide) (fun c47_4 => ?_) (fun c47_4 => ?_)
          · skip
            refine v_iload C dX3_bestBin_136 2 rfl ?_
            exact v_iret C dX3_bestBin_138 (Nat.le_of_ble_eq_true rfl) (Nat.le_of_ble_eq_true rfl) (by unfold p_bestBin; (try dsimp only); rw [if_pos c5_1, if_pos c12_2, if_pos c24_3]; exact ⟨rfl, rfl⟩)
          · exact absurd (Int32.le_refl _) c47_4
        · intro k hk hk0 hback
          refine v_iload C dX3_bestBin_39 0 rfl ?_
          refine v_aload_n C dX3_bestBin_41 3 rfl ?_
          refine v_get C in_X3 rfl 0 rfl 0 (by decide) q1166 (fun _ h => h) rfl dX3_bestBin_42 ?_
          refine v_iconst (v := 2) C dX3_bestBin_45 (by decide) ?_
          refine v_iald C dX3_bestBin_46 1 rfl (j := 2) (ixl rfl) ?_
          refine v_eqi hnb ?_
          refine v_icmp_ge C 136 dX3_bestBin_47 (by decide) (fun c47_5 => ?_) (fun c47_5 => ?_)
          · exact absurd c47_5 (nI_ge hk (by first | decide | omega))
          · skip
            refine v_aload_n C dX3_bestBin_50 3 rfl ?_
            refine v_iload C dX3_bestBin_51 0 rfl ?_
            refine v_iconst (v := 0) C dX3_bestBin_53 (by decide) ?_
            refine v_callVw C (m_of l g a _ _ _ _ _ _ _ k 0 _ _ rfl rfl (by omega)) ok_X3_of rfl q1241 rfl (Nat.le_of_ble_eq_true rfl) 0 rfl rfl rfl dX3_bestBin_54 (roomL rfl rfl) ⟨rfl, rfl⟩ ?_
            refine v_aload_n C dX3_bestBin_57 3 rfl ?_
            refine v_iload C dX3_bestBin_58 0 rfl ?_
            refine v_iconst (v := 3) C dX3_bestBin_60 (by decide) ?_
            refine v_callVw C (m_of l g a _ _ _ _ _ _ _ k 3 _ _ rfl rfl (by omega)) ok_X3_of rfl q1241 rfl (Nat.le_of_ble_eq_true rfl) 0 rfl rfl rfl dX3_bestBin_61 (roomL rfl rfl) ⟨rfl, rfl⟩ ?_
            refine v_isub C dX3_bestBin_64 ?_
            refine v_istore (lv' := [(8, _), (7, _), (6, _), (5, _), (0, _), (1, _), (2, _), (3, _), (4, _)]) C dX3_bestBin_65 (by decide) rfl ?_
            refine v_aload_n C dX3_bestBin_67 4 rfl ?_
            refine v_iload_n C dX3_bestBin_68 5 rfl ?_
            refine v_eqi el ?_
            refine v_iconst (v := -1) C dX3_bestBin_69 (by decide) ?_
            refine v_iload C dX3_bestBin_70 1 rfl ?_
            refine v_iload_n C dX3_bestBin_72 6 rfl ?_
            refine v_iload_n C dX3_bestBin_73 7 rfl ?_
            refine v_iload C dX3_bestBin_74 8 rfl ?_
            refine v_callVw C (m_against l g a _ _ _ _ _ _ _ (leg.toNatClampNeg) k _ _ _ _ _ _ rfl rfl (by omega) (by omega)) ok_X3_against rfl q1340 rfl (Nat.le_of_ble_eq_true rfl) 0 rfl rfl rfl dX3_bestBin_76 (roomL rfl rfl) ⟨rfl, rfl⟩ ?_
            refine v_if_ne C 99 dX3_bestBin_79 (by decide) (fun c79_6 => ?_) (fun c79_6 => ?_)
            · skip
              refine v_iconst (v := 0) C dX3_bestBin_99 (by decide) ?_
              refine v_istore (lv' := [(9, _), (8, _), (7, _), (6, _), (5, _), (0, _), (1, _), (2, _), (3, _), (4, _)]) C dX3_bestBin_100 (by decide) rfl ?_
              refine v_iload C dX3_bestBin_102 0 rfl ?_
              refine v_if_eq C 112 dX3_bestBin_104 (by decide) (fun c104_7 => ?_) (fun c104_7 => ?_)
              · skip
                refine v_iload C dX3_bestBin_112 4 rfl ?_
                refine v_istore (lv' := [(5, _), (9, _), (8, _), (7, _), (6, _), (0, _), (1, _), (2, _), (3, _), (4, _)]) C dX3_bestBin_114 (by decide) rfl ?_
                refine v_iload C dX3_bestBin_116 1 rfl ?_
                refine v_if_eq C 126 dX3_bestBin_118 (by decide) (fun c118_8 => ?_) (fun c118_8 => ?_)
                · skip
                  refine v_iload C dX3_bestBin_126 4 rfl ?_
                  refine v_istore (lv' := [(6, _), (5, _), (9, _), (8, _), (7, _), (0, _), (1, _), (2, _), (3, _), (4, _)]) C dX3_bestBin_128 (by decide) rfl ?_
                  refine v_iinc (lv' := [(7, _), (6, _), (5, _), (9, _), (8, _), (0, _), (1, _), (2, _), (3, _), (4, _)]) C dX3_bestBin_130 4 rfl (nI_1 k) (by decide) rfl ?_
                  refine v_goto C 39 dX3_bestBin_133 (by decide) ?_
                  refine v_lvp (lv' := [(7, _), (6, _), (5, _), (0, _), (1, _), (2, _), (3, _), (4, _)]) [0, 1, 2, 5, 6, 7, 8, 9] rfl ?_
                  have e1 := hback
                  rw [iter, bb1, if_neg c79_6] at e1
                  exact e1
                · exact absurd (by decide) c118_8
              · exact absurd (by decide) c104_7
            · skip
              refine v_iload C dX3_bestBin_82 3 rfl ?_
              refine v_iconst (v := -1) C dX3_bestBin_84 (by decide) ?_
              refine v_icmp_eq C 95 dX3_bestBin_85 (by decide) (fun c85_9 => ?_) (fun c85_9 => ?_)
              · skip
                refine v_iconst (v := 1) C dX3_bestBin_95 (by decide) ?_
                refine v_goto C 100 dX3_bestBin_96 (by decide) ?_
                refine v_istore (lv' := [(9, _), (8, _), (7, _), (6, _), (5, _), (0, _), (1, _), (2, _), (3, _), (4, _)]) C dX3_bestBin_100 (by decide) rfl ?_
                refine v_iload C dX3_bestBin_102 0 rfl ?_
                refine v_if_eq C 112 dX3_bestBin_104 (by decide) (fun c104_10 => ?_) (fun c104_10 => ?_)
                · exact absurd c104_10 (by decide)
                · skip
                  refine v_iload C dX3_bestBin_107 2 rfl ?_
                  refine v_goto C 114 dX3_bestBin_109 (by decide) ?_
                  refine v_istore (lv' := [(5, _), (9, _), (8, _), (7, _), (6, _), (0, _), (1, _), (2, _), (3, _), (4, _)]) C dX3_bestBin_114 (by decide) rfl ?_
                  refine v_iload C dX3_bestBin_116 1 rfl ?_
                  refine v_if_eq C 126 dX3_bestBin_118 (by decide) (fun c118_11 => ?_) (fun c118_11 => ?_)
                  · exact absurd c118_11 (by decide)
                  · skip
                    refine v_iload C dX3_bestBin_121 2 rfl ?_
                    refine v_goto C 128 dX3_bestBin_123 (by decide) ?_
                    refine v_istore (lv' := [(6, _), (5, _), (9, _), (8, _), (7, _), (0, _), (1, _), (2, _), (3, _), (4, _)]) C dX3_bestBin_128 (by decide) rfl ?_
                    refine v_iinc (lv' := [(7, _), (6, _), (5, _), (9, _), (8, _), (0, _), (1, _), (2, _), (3, _), (4, _)]) C dX3_bestBin_130 4 rfl (nI_1 k) (by decide) rfl ?_
                    refine v_goto C 39 dX3_bestBin_133 (by decide) ?_
                    refine v_lvp (lv' := [(7, _), (6, _), (5, _), (0, _), (1, _), (2, _), (3, _), (4, _)]) [0, 1, 2, 5, 6, 7, 8, 9] rfl ?_
                    have e1 := hback
                    rw [iter, bb1, if_pos c79_6, if_pos c85_9] at e1
                    exact e1
              · skip
                refine v_iload C dX3_bestBin_88 0 rfl ?_
                refine v_iload C dX3_bestBin_90 2 rfl ?_
                refine v_icmp_ge C 99 dX3_bestBin_92 (by decide) (fun c92_12 => ?_) (fun c92_12 => ?_)
                · skip
                  refine v_iconst (v := 0) C dX3_bestBin_99 (by decide) ?_
                  refine v_istore (lv' := [(9, _), (8, _), (7, _), (6, _), (5, _), (0, _), (1, _), (2, _), (3, _), (4, _)]) C dX3_bestBin_100 (by decide) rfl ?_
                  refine v_iload C dX3_bestBin_102 0 rfl ?_
                  refine v_if_eq C 112 dX3_bestBin_104 (by decide) (fun c104_13 => ?_) (fun c104_13 => ?_)
                  · skip
                    refine v_iload C dX3_bestBin_112 4 rfl ?_
                    refine v_istore (lv' := [(5, _), (9, _), (8, _), (7, _), (6, _), (0, _), (1, _), (2, _), (3, _), (4, _)]) C dX3_bestBin_114 (by decide) rfl ?_
                    refine v_iload C dX3_bestBin_116 1 rfl ?_
                    refine v_if_eq C 126 dX3_bestBin_118 (by decide) (fun c118_14 => ?_) (fun c118_14 => ?_)
                    · skip
                      refine v_iload C dX3_bestBin_126 4 rfl ?_
                      refine v_istore (lv' := [(6, _), (5, _), (9, _), (8, _), (7, _), (0, _), (1, _), (2, _), (3, _), (4, _)]) C dX3_bestBin_128 (by decide) rfl ?_
                      refine v_iinc (lv' := [(7, _), (6, _), (5, _), (9, _), (8, _), (0, _), (1, _), (2, _), (3, _), (4, _)]) C dX3_bestBin_130 4 rfl (nI_1 k) (by decide) rfl ?_
                      refine v_goto C 39 dX3_bestBin_133 (by decide) ?_
                      refine v_lvp (lv' := [(7, _), (6, _), (5, _), (0, _), (1, _), (2, _), (3, _), (4, _)]) [0, 1, 2, 5, 6, 7, 8, 9] rfl ?_
                      have e1 := hback
                      rw [iter, bb1, if_pos c79_6, if_neg c85_9, if_pos c92_12] at e1
                      exact e1
                    · exact absurd (by decide) c118_14
                  · exact absurd (by decide) c104_13
                · skip
                  refine v_iconst (v := 1) C dX3_bestBin_95 (by decide) ?_
                  refine v_goto C 100 dX3_bestBin_96 (by decide) ?_
                  refine v_istore (lv' := [(9, _), (8, _), (7, _), (6, _), (5, _), (0, _), (1, _), (2, _), (3, _), (4, _)]) C dX3_bestBin_100 (by decide) rfl ?_
                  refine v_iload C dX3_bestBin_102 0 rfl ?_
                  refine v_if_eq C 112 dX3_bestBin_104 (by decide) (fun c104_15 => ?_) (fun c104_15 => ?_)
                  · exact absurd c104_15 (by decide)
                  · skip
                    refine v_iload C dX3_bestBin_107 2 rfl ?_
                    refine v_goto C 114 dX3_bestBin_109 (by decide) ?_
                    refine v_istore (lv' := [(5, _), (9, _), (8, _), (7, _), (6, _), (0, _), (1, _), (2, _), (3, _), (4, _)]) C dX3_bestBin_114 (by decide) rfl ?_
                    refine v_iload C dX3_bestBin_116 1 rfl ?_
                    refine v_if_eq C 126 dX3_bestBin_118 (by decide) (fun c118_16 => ?_) (fun c118_16 => ?_)
                    · exact absurd c118_16 (by decide)
                    · skip
                      refine v_iload C dX3_bestBin_121 2 rfl ?_
                      refine v_goto C 128 dX3_bestBin_123 (by decide) ?_
                      refine v_istore (lv' := [(6, _), (5, _), (9, _), (8, _), (7, _), (0, _), (1, _), (2, _), (3, _), (4, _)]) C dX3_bestBin_128 (by decide) rfl ?_
                      refine v_iinc (lv' := [(7, _), (6, _), (5, _), (9, _), (8, _), (0, _), (1, _), (2, _), (3, _), (4, _)]) C dX3_bestBin_130 4 rfl (nI_1 k) (by decide) rfl ?_
                      refine v_goto C 39 dX3_bestBin_133 (by decide) ?_
                      refine v_lvp (lv' := [(7, _), (6, _), (5, _), (0, _), (1, _), (2, _), (3, _), (4, _)]) [0, 1, 2, 5, 6, 7, 8, 9] rfl ?_
                      have e1 := hback
                      rw [iter, bb1, if_pos c79_6, if_neg c85_9, if_neg c92_12] at e1
                      exact e1
      · skip
        refine v_bipush (v := -3) C dX3_bestBin_27 (by decide) ?_
        exact v_iret C dX3_bestBin_29 (Nat.le_of_ble_eq_true rfl) (Nat.le_of_ble_eq_true rfl) (by unfold p_bestBin; (try dsimp only); rw [if_pos c5_1, if_pos c12_2, if_neg c24_3]; exact ⟨rfl, rfl⟩)
    · skip
      refine v_bipush (v := -2) C dX3_bestBin_15 (by decide) ?_
      exact v_iret C dX3_bestBin_17 (Nat.le_of_ble_eq_true rfl) (Nat.le_of_ble_eq_true rfl) (by unfold p_bestBin; (try dsimp only); rw [if_pos c5_1, if_neg c12_2]; exact ⟨rfl, rfl⟩)
