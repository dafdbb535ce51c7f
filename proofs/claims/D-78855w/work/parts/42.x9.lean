/-! the class: bestLeg, bestBin, digest -/
set_option maxRecDepth 100000
def xbl (r : Nat → Int32) (bi : Nat) (kind amt mo : Int32) : Nat → Int32
  | 0 => -1
  | k + 1 => if s_ref r k bi kind amt mo = 0 then (if xbl r bi kind amt mo k = -1 then nI k else if p_min amt (r (82 + 4 * (xbl r bi kind amt mo k).toNatClampNeg + 0)) ≤ p_min amt (r (82 + 4 * k + 0)) then xbl r bi kind amt mo k else nI k) else xbl r bi kind amt mo k
def xbb (r : Nat → Int32) (le : Nat) (kind amt mo : Int32) : Nat → Int32
  | 0 => -1
  | k + 1 => if s_ref r le k kind amt mo = 0 then (if xbb r le kind amt mo k = -1 then nI k else if r (10 + 9 * (xbb r le kind amt mo k).toNatClampNeg + 0) - r (10 + 9 * (xbb r le kind amt mo k).toNatClampNeg + 3) ≤ r (10 + 9 * k + 0) - r (10 + 9 * k + 3) then xbb r le kind amt mo k else nI k) else xbb r le kind amt mo k
theorem xbl_ok (r : Nat → Int32) (bi : Nat) (kind amt mo : Int32) (k : Nat) (hk : k ≤ 100) : xbl r bi kind amt mo k = -1 ∨ (xbl r bi kind amt mo k = nI (xbl r bi kind amt mo k).toNatClampNeg ∧ (xbl r bi kind amt mo k).toNatClampNeg < k) := by
  induction k with
  | zero => exact Or.inl rfl
  | succ k ih =>
    have ih := ih (by omega)
    have old : xbl r bi kind amt mo k = -1 ∨ (xbl r bi kind amt mo k = nI (xbl r bi kind amt mo k).toNatClampNeg ∧ (xbl r bi kind amt mo k).toNatClampNeg < k + 1) := ih.imp id (fun q => ⟨q.1, by omega⟩)
    have new : nI k = -1 ∨ (nI k = nI (nI k).toNatClampNeg ∧ (nI k).toNatClampNeg < k + 1) := Or.inr (by rw [nI_clamp (by omega)]; exact ⟨rfl, by omega⟩)
    rw [xbl]
    split
    · split
      · exact new
      · split
        · exact old
        · exact new
    · exact old
theorem xbb_ok (r : Nat → Int32) (le : Nat) (kind amt mo : Int32) (k : Nat) (hk : k ≤ 100) : xbb r le kind amt mo k = -1 ∨ (xbb r le kind amt mo k = nI (xbb r le kind amt mo k).toNatClampNeg ∧ (xbb r le kind amt mo k).toNatClampNeg < k) := by
  induction k with
  | zero => exact Or.inl rfl
  | succ k ih =>
    have ih := ih (by omega)
    have old : xbb r le kind amt mo k = -1 ∨ (xbb r le kind amt mo k = nI (xbb r le kind amt mo k).toNatClampNeg ∧ (xbb r le kind amt mo k).toNatClampNeg < k + 1) := ih.imp id (fun q => ⟨q.1, by omega⟩)
    have new : nI k = -1 ∨ (nI k = nI (nI k).toNatClampNeg ∧ (nI k).toNatClampNeg < k + 1) := Or.inr (by rw [nI_clamp (by omega)]; exact ⟨rfl, by omega⟩)
    rw [xbb]
    split
    · split
      · exact new
      · split
        · exact old
        · exact new
    · exact old
def x_bL (r : Nat → Int32) (nb nl : Nat) (bi kind amt mo : Int32) : Int32 := if q_n nb bi then if 0 ≤ x_truck kind amt mo then xbl r bi.toNatClampNeg kind amt mo nl else x_truck kind amt mo else -2
def x_bB (r : Nat → Int32) (nb nl : Nat) (le kind amt mo : Int32) : Int32 := if q_n nl le then if 0 ≤ x_truck kind amt mo then xbb r le.toNatClampNeg kind amt mo nb else x_truck kind amt mo else -2
def xdA (r : Nat → Int32) (nb nl nc k : Nat) : Int64 := hfold (fun k => (x_count r nb nl nc (nI k)).toInt64) k 17
def xdB2 (r : Nat → Int32) (nb nl nc b : Nat) : Int64 := iter (fun b h => hfold (fun w => (b_prop (bv r b) (nI w)).toInt64) 10 h) b (xdA r nb nl nc 10)
def xdL2 (r : Nat → Int32) (nb nl nc l : Nat) : Int64 := iter (fun b h => hfold (fun w => (x_legP r b (nI w)).toInt64) 5 h) l (xdB2 r nb nl nc nb)
def xdP (r : Nat → Int32) (nb nl nc k : Nat) : Int64 := hfold (fun k => (r (6 + k)).toInt64) k (xdL2 r nb nl nc nl)
def xdK (r : Nat → Int32) (bk : Nat → Int64) (nb nl nc k : Nat) : Int64 := hfold (fun k => x_bookW bk (nI k)) k (xdP r nb nl nc 4)
def xdC (r : Nat → Int32) (bk : Nat → Int64) (nb nl nc k : Nat) : Int64 := iter (fun c h => hfold (fun w => (c_prop (tv r c) (nI w)).toInt64) 6 h) k (xdK r bk nb nl nc 7)
theorem xdB_0 (r : Nat → Int32) (nb nl nc : Nat) : xdB2 r nb nl nc 0 = xdA r nb nl nc 10 := by unfold xdB2; rw [iter]
theorem xdL_0 (r : Nat → Int32) (nb nl nc : Nat) : xdL2 r nb nl nc 0 = xdB2 r nb nl nc nb := by unfold xdL2; rw [iter]
theorem xdP_0 (r : Nat → Int32) (nb nl nc : Nat) : xdP r nb nl nc 0 = xdL2 r nb nl nc nl := by unfold xdP; rw [hfold]
theorem xdK_0 (r : Nat → Int32) (bk : Nat → Int64) (nb nl nc : Nat) : xdK r bk nb nl nc 0 = xdP r nb nl nc 4 := by unfold xdK; rw [hfold]
theorem xdC_0 (r : Nat → Int32) (bk : Nat → Int64) (nb nl nc : Nat) : xdC r bk nb nl nc 0 = xdK r bk nb nl nc 7 := by unfold xdC; rw [iter]
theorem xdA_s (r : Nat → Int32) (nb nl nc k : Nat) : xdA r nb nl nc (k + 1) = 31 * xdA r nb nl nc k + (x_count r nb nl nc (nI k)).toInt64 := by unfold xdA; rw [hfold]
theorem xdB_s (r : Nat → Int32) (nb nl nc k : Nat) : xdB2 r nb nl nc (k + 1) = hfold (fun w => (b_prop (bv r k) (nI w)).toInt64) 10 (xdB2 r nb nl nc k) := by unfold xdB2; rw [iter]
theorem xdL_s (r : Nat → Int32) (nb nl nc k : Nat) : xdL2 r nb nl nc (k + 1) = hfold (fun w => (x_legP r k (nI w)).toInt64) 5 (xdL2 r nb nl nc k) := by unfold xdL2; rw [iter]
theorem xdP_s (r : Nat → Int32) (nb nl nc k : Nat) : xdP r nb nl nc (k + 1) = 31 * xdP r nb nl nc k + (r (6 + k)).toInt64 := by unfold xdP; rw [hfold]
theorem xdK_s (r : Nat → Int32) (bk : Nat → Int64) (nb nl nc k : Nat) : xdK r bk nb nl nc (k + 1) = 31 * xdK r bk nb nl nc k + x_bookW bk (nI k) := by unfold xdK; rw [hfold]
theorem xdC_s (r : Nat → Int32) (bk : Nat → Int64) (nb nl nc k : Nat) : xdC r bk nb nl nc (k + 1) = hfold (fun w => (c_prop (tv r k) (nI w)).toInt64) 6 (xdC r bk nb nl nc k) := by unfold xdC; rw [iter]
def M_X0_bestLeg : Md := (yX0_bestLeg, cX0_bestLeg, 9, (some .int), 6, 151, 0, 0)
theorem ok_X0_bestLeg : MOKv M_X0_bestLeg 4 := ⟨q919, q920, q89, q921, ⟨by decide +kernel, by decide +kernel, by decide +kernel⟩⟩
set_option maxHeartbeats 4000000 in
theorem x_bestLeg (l : Launch) (g : GT) (a A : Nat → Nat) (nb nl nc : Nat) (r : Nat → Int32) (b : Nat → Int64) (od : Nat → Int32) (us : Int32) (tk : Nat → Int32) (bn : Int32) (suf : va_W) (hnb : nb ≤ 8) (hnl : nl ≤ 3) (hnc : nc ≤ 6) (bi kind amt mo : Int32) (hsp : ∀ i, i < nl → ¬ r (82 + 4 * i + 0) = 0) : CtE l g M_X0_bestLeg [.ref (a 0), .int bi, .int kind, .int amt, .int mo] (cw g a A nb nl nc r b od us tk bn suf) (some (.int (x_bL r nb nl bi kind amt mo))) (cw g a A nb nl nc r b od us tk bn suf) := by
  refine Ct.start2 (M := M_X0_bestLeg) rfl [(0, .ref (a 0)), (1, .int bi), (2, .int kind), (3, .int amt), (4, .int mo)] rfl (by decide +kernel) (Nat.le_of_ble_eq_true rfl) ?_
  intro p e s m args below meth c A9 C
  refine v_aload_n C dX0_bestLeg_0 0 rfl ?_
  refine v_iload_n C dX0_bestLeg_1 1 rfl ?_
  refine v_callVw C (x_isBin l g a A nb nl nc r b od us tk bn suf hnb hnl hnc _) ok_X0_isBin rfl q463 rfl (Nat.le_of_ble_eq_true rfl) 0 rfl rfl rfl dX0_bestLeg_2 (roomL rfl rfl) ⟨rfl, rfl⟩ ?_
  refine v_if_eqB C 18 dX0_bestLeg_5 (by decide) (fun c5_1 => ?_) (fun c5_1 => ?_)
  · skip
    refine v_bipush (v := -2) C dX0_bestLeg_18 (by decide) ?_
    refine v_istore (lv' := [(5, _), (0, _), (1, _), (2, _), (3, _), (4, _)]) C dX0_bestLeg_20 (by decide) rfl ?_
    refine v_iload C dX0_bestLeg_22 0 rfl ?_
    refine v_if_ge C 30 dX0_bestLeg_24 (by decide) (fun c24_2 => ?_) (fun c24_2 => ?_)
    · exact absurd c24_2 (by decide)
    · skip
      refine v_iload C dX0_bestLeg_27 0 rfl ?_
      exact v_iret C dX0_bestLeg_29 (Nat.le_of_ble_eq_true rfl) (Nat.le_of_ble_eq_true rfl) (by unfold x_bL; rw [if_neg c5_1]; exact ⟨rfl, rfl⟩)
  · skip
    obtain ⟨ebi, hbi⟩ := isB_c (n := nb) rfl (by omega) c5_1
    refine v_iload_n C dX0_bestLeg_8 2 rfl ?_
    refine v_iload_n C dX0_bestLeg_9 3 rfl ?_
    refine v_iload C dX0_bestLeg_10 4 rfl ?_
    refine v_callSp C (x_truckFault l g _ _ _) ok_X0_truckFault rfl q922 rfl (Nat.le_of_ble_eq_true rfl) dX0_bestLeg_12 (roomL rfl rfl) ⟨rfl, rfl⟩ ?_
    refine v_goto C 20 dX0_bestLeg_15 (by decide) ?_
    refine v_istore (lv' := [(5, _), (0, _), (1, _), (2, _), (3, _), (4, _)]) C dX0_bestLeg_20 (by decide) rfl ?_
    refine v_iload C dX0_bestLeg_22 0 rfl ?_
    refine v_if_ge C 30 dX0_bestLeg_24 (by decide) (fun c24_3 => ?_) (fun c24_3 => ?_)
    · skip
      refine v_iconst (v := -1) C dX0_bestLeg_30 (by decide) ?_
      refine v_istore (lv' := [(6, _), (5, _), (0, _), (1, _), (2, _), (3, _), (4, _)]) C dX0_bestLeg_31 (by decide) rfl ?_
      refine v_iconst (v := 0) C dX0_bestLeg_33 (by decide) ?_
      refine v_istore (lv' := [(7, _), (6, _), (5, _), (0, _), (1, _), (2, _), (3, _), (4, _)]) C dX0_bestLeg_34 (by decide) rfl ?_
      refine v_lvp (lv' := [(7, _), (6, _), (0, _), (1, _), (2, _), (3, _), (4, _)]) [0, 1, 3, 4, 5, 6, 7] rfl ?_
      refine v_loop 0 nl (fun k => [(7, .int (nI k)), (6, .int (xbl r bi.toNatClampNeg kind amt mo k)), (0, .ref (a 0)), (1, .int bi), (2, .int kind), (3, .int amt), (4, .int mo)]) (fun k => (cw g a A nb nl nc r b od us tk bn suf)) rfl rfl (by omega) ?_ ?_
      · skip
        refine v_iload C dX0_bestLeg_36 0 rfl ?_
        refine v_aload_n C dX0_bestLeg_38 2 rfl ?_
        refine v_get C in_X0 rfl 0 rfl 0 (by decide) q483 (fun _ h => h) rfl dX0_bestLeg_39 ?_
        refine v_getN C in_X1 rfl 3 rfl 1 (by decide) q157 (fun _ h => h) rfl dX0_bestLeg_42 ?_
        refine v_zMV (ws' := (cw g a A nb nl nc r b od us tk bn suf)) C (j_size l g (A 3) (A 4) 3 (nI nl) nl (rfs A 20 nl)) [_, _, _, _, _, _] rfl ok_J2_size rfl q269 rfl (Nat.le_of_ble_eq_true rfl) 0 rfl rfl rfl dX0_bestLeg_45 (roomL rfl rfl) ⟨rfl, rfl⟩ rfl ?_
        refine v_icmp_ge C 124 dX0_bestLeg_48 (by decide) (fun c48_4 => ?_) (fun c48_4 => ?_)
        · skip
          refine v_iload C dX0_bestLeg_124 1 rfl ?_
          exact v_iret C dX0_bestLeg_126 (Nat.le_of_ble_eq_true rfl) (Nat.le_of_ble_eq_true rfl) (by unfold x_bL; rw [if_pos c5_1, if_pos c24_3]; exact ⟨rfl, rfl⟩)
        · exact absurd (Int32.le_refl _) c48_4
      · intro k hk hk0 hback
        refine v_iload C dX0_bestLeg_36 0 rfl ?_
        refine v_aload_n C dX0_bestLeg_38 2 rfl ?_
        refine v_get C in_X0 rfl 0 rfl 0 (by decide) q483 (fun _ h => h) rfl dX0_bestLeg_39 ?_
        refine v_getN C in_X1 rfl 3 rfl 1 (by decide) q157 (fun _ h => h) rfl dX0_bestLeg_42 ?_
        refine v_zMV (ws' := (cw g a A nb nl nc r b od us tk bn suf)) C (j_size l g (A 3) (A 4) 3 (nI nl) nl (rfs A 20 nl)) [_, _, _, _, _, _] rfl ok_J2_size rfl q269 rfl (Nat.le_of_ble_eq_true rfl) 0 rfl rfl rfl dX0_bestLeg_45 (roomL rfl rfl) ⟨rfl, rfl⟩ rfl ?_
        refine v_icmp_ge C 124 dX0_bestLeg_48 (by decide) (fun c48_5 => ?_) (fun c48_5 => ?_)
        · exact absurd c48_5 (nI_ge hk (by first | decide | omega))
        · skip
          refine v_aload_n C dX0_bestLeg_51 2 rfl ?_
          refine v_get C in_X0 rfl 0 rfl 0 (by decide) q483 (fun _ h => h) rfl dX0_bestLeg_52 ?_
          refine v_iload C dX0_bestLeg_55 0 rfl ?_
          refine v_iload_n C dX0_bestLeg_57 3 rfl ?_
          refine v_eqi ebi ?_
          refine v_iload_n C dX0_bestLeg_58 4 rfl ?_
          refine v_iload_n C dX0_bestLeg_59 5 rfl ?_
          refine v_iload C dX0_bestLeg_60 6 rfl ?_
          refine v_zTV (ws' := (cw g a A nb nl nc r b od us tk bn suf)) C (x_refusal l g A nb nl nc r b suf hnb hnl hnc k hk bi.toNatClampNeg hbi _ _ _) [_, _, _] rfl ok_X1_refusal rfl q282 rfl (Nat.le_of_ble_eq_true rfl) 0 rfl rfl rfl dX0_bestLeg_62 (roomL rfl rfl) ⟨rfl, rfl⟩ rfl ?_
          refine v_ternI C 72 73 dX0_bestLeg_68 dX0_bestLeg_69 dX0_bestLeg_72 (by decide) rfl (fun ht hf => v_if_ne C 72 dX0_bestLeg_65 (by decide) (fun q => ht q) (fun q => hf q)) ?_
          refine v_istore (lv' := [(8, _), (7, _), (6, _), (0, _), (1, _), (2, _), (3, _), (4, _)]) C dX0_bestLeg_73 (by decide) rfl ?_
          refine v_iload C dX0_bestLeg_75 0 rfl ?_
          refine v_if_eqB C 114 dX0_bestLeg_77 (by decide) (fun c77_6 => ?_) (fun c77_6 => ?_)
          · skip
            refine v_iload C dX0_bestLeg_114 2 rfl ?_
            refine v_istore (lv' := [(6, _), (8, _), (7, _), (0, _), (1, _), (2, _), (3, _), (4, _)]) C dX0_bestLeg_116 (by decide) rfl ?_
            refine v_iinc (lv' := [(7, _), (6, _), (8, _), (0, _), (1, _), (2, _), (3, _), (4, _)]) C dX0_bestLeg_118 2 rfl (nI_1 k) (by decide) rfl ?_
            refine v_goto C 36 dX0_bestLeg_121 (by decide) ?_
            refine v_lvp (lv' := [(7, _), (6, _), (0, _), (1, _), (2, _), (3, _), (4, _)]) [0, 1, 3, 4, 5, 6, 7] rfl ?_
            have e1 := hback
            rw [xbl, if_neg c77_6] at e1
            exact e1
          · skip
            refine v_iload C dX0_bestLeg_80 2 rfl ?_
            refine v_iconst (v := -1) C dX0_bestLeg_82 (by decide) ?_
            refine v_icmp_eq C 109 dX0_bestLeg_83 (by decide) (fun c83_7 => ?_) (fun c83_7 => ?_)
            · skip
              refine v_iload C dX0_bestLeg_109 1 rfl ?_
              refine v_goto C 116 dX0_bestLeg_111 (by decide) ?_
              refine v_istore (lv' := [(6, _), (8, _), (7, _), (0, _), (1, _), (2, _), (3, _), (4, _)]) C dX0_bestLeg_116 (by decide) rfl ?_
              refine v_iinc (lv' := [(7, _), (6, _), (8, _), (0, _), (1, _), (2, _), (3, _), (4, _)]) C dX0_bestLeg_118 2 rfl (nI_1 k) (by decide) rfl ?_
              refine v_goto C 36 dX0_bestLeg_121 (by decide) ?_
              refine v_lvp (lv' := [(7, _), (6, _), (0, _), (1, _), (2, _), (3, _), (4, _)]) [0, 1, 3, 4, 5, 6, 7] rfl ?_
              have e1 := hback
              rw [xbl, if_pos c77_6, if_pos c83_7] at e1
              exact e1
            · skip
              obtain ⟨ej, hj⟩ := (xbl_ok r bi.toNatClampNeg kind amt mo k (by omega)).resolve_left c83_7
              refine v_aload_n C dX0_bestLeg_86 3 rfl ?_
              refine v_get C in_X0 rfl 0 rfl 0 (by decide) q483 (fun _ h => h) rfl dX0_bestLeg_87 ?_
              refine v_iload C dX0_bestLeg_90 1 rfl ?_
              refine v_iload_n C dX0_bestLeg_92 6 rfl ?_
              refine v_zTV (ws' := (cw g a A nb nl nc r b od us tk bn suf)) C (x_minutesOf l g A nb nl nc r b suf hnb hnl hnc k hk _ (hsp _ hk)) [_, _, _] rfl ok_X1_minutesOf rfl q318 rfl (Nat.le_of_ble_eq_true rfl) 0 rfl rfl rfl dX0_bestLeg_93 (roomL rfl rfl) ⟨rfl, rfl⟩ rfl ?_
              refine v_aload_n C dX0_bestLeg_96 3 rfl ?_
              refine v_get C in_X0 rfl 0 rfl 0 (by decide) q483 (fun _ h => h) rfl dX0_bestLeg_97 ?_
              refine v_iload C dX0_bestLeg_100 2 rfl ?_
              refine v_eqi ej ?_
              refine v_iload_n C dX0_bestLeg_102 6 rfl ?_
              refine v_zTV (ws' := (cw g a A nb nl nc r b od us tk bn suf)) C (x_minutesOf l g A nb nl nc r b suf hnb hnl hnc (xbl r bi.toNatClampNeg kind amt mo k).toNatClampNeg (Nat.lt_trans hj hk) _ (hsp _ (Nat.lt_trans hj hk))) [_, _, _] rfl ok_X1_minutesOf rfl q318 rfl (Nat.le_of_ble_eq_true rfl) 0 rfl rfl rfl dX0_bestLeg_103 (roomL rfl rfl) ⟨rfl, rfl⟩ rfl ?_
              refine v_icmp_ge C 114 dX0_bestLeg_106 (by decide) (fun c106_8 => ?_) (fun c106_8 => ?_)
              · skip
                refine v_iload C dX0_bestLeg_114 2 rfl ?_
                refine v_istore (lv' := [(6, _), (8, _), (7, _), (0, _), (1, _), (2, _), (3, _), (4, _)]) C dX0_bestLeg_116 (by decide) rfl ?_
                refine v_iinc (lv' := [(7, _), (6, _), (8, _), (0, _), (1, _), (2, _), (3, _), (4, _)]) C dX0_bestLeg_118 2 rfl (nI_1 k) (by decide) rfl ?_
                refine v_goto C 36 dX0_bestLeg_121 (by decide) ?_
                refine v_lvp (lv' := [(7, _), (6, _), (0, _), (1, _), (2, _), (3, _), (4, _)]) [0, 1, 3, 4, 5, 6, 7] rfl ?_
                have e1 := hback
                rw [xbl, if_pos c77_6, if_neg c83_7, if_pos c106_8] at e1
                exact e1
              · skip
                refine v_iload C dX0_bestLeg_109 1 rfl ?_
                refine v_goto C 116 dX0_bestLeg_111 (by decide) ?_
                refine v_istore (lv' := [(6, _), (8, _), (7, _), (0, _), (1, _), (2, _), (3, _), (4, _)]) C dX0_bestLeg_116 (by decide) rfl ?_
                refine v_iinc (lv' := [(7, _), (6, _), (8, _), (0, _), (1, _), (2, _), (3, _), (4, _)]) C dX0_bestLeg_118 2 rfl (nI_1 k) (by decide) rfl ?_
                refine v_goto C 36 dX0_bestLeg_121 (by decide) ?_
                refine v_lvp (lv' := [(7, _), (6, _), (0, _), (1, _), (2, _), (3, _), (4, _)]) [0, 1, 3, 4, 5, 6, 7] rfl ?_
                have e1 := hback
                rw [xbl, if_pos c77_6, if_neg c83_7, if_neg c106_8] at e1
                exact e1
    · skip
      refine v_iload C dX0_bestLeg_27 0 rfl ?_
      exact v_iret C dX0_bestLeg_29 (Nat.le_of_ble_eq_true rfl) (Nat.le_of_ble_eq_true rfl) (by unfold x_bL; rw [if_pos c5_1, if_neg c24_3]; exact ⟨rfl, rfl⟩)
def M_X0_bestBin : Md := (yX0_bestBin, cX0_bestBin, 9, (some .int), 6, 151, 0, 0)
theorem ok_X0_bestBin : MOKv M_X0_bestBin 4 := ⟨q926, q927, q89, q928, ⟨by decide +kernel, by decide +kernel, by decide +kernel⟩⟩
set_option maxHeartbeats 4000000 in
theorem x_bestBin (l : Launch) (g : GT) (a A : Nat → Nat) (nb nl nc : Nat) (r : Nat → Int32) (b : Nat → Int64) (od : Nat → Int32) (us : Int32) (tk : Nat → Int32) (bn : Int32) (suf : va_W) (hnb : nb ≤ 8) (hnl : nl ≤ 3) (hnc : nc ≤ 6) (le kind amt mo : Int32) : CtE l g M_X0_bestBin [.ref (a 0), .int le, .int kind, .int amt, .int mo] (cw g a A nb nl nc r b od us tk bn suf) (some (.int (x_bB r nb nl le kind amt mo))) (cw g a A nb nl nc r b od us tk bn suf) := by
  refine Ct.start2 (M := M_X0_bestBin) rfl [(0, .ref (a 0)), (1, .int le), (2, .int kind), (3, .int amt), (4, .int mo)] rfl (by decide +kernel) (Nat.le_of_ble_eq_true rfl) ?_
  intro p e s m args below meth c A9 C
  refine v_aload_n C dX0_bestBin_0 0 rfl ?_
  refine v_iload_n C dX0_bestBin_1 1 rfl ?_
  refine v_callVw C (x_isLeg l g a A nb nl nc r b od us tk bn suf hnb hnl hnc _) ok_X0_isLeg rfl q444 rfl (Nat.le_of_ble_eq_true rfl) 0 rfl rfl rfl dX0_bestBin_2 (roomL rfl rfl) ⟨rfl, rfl⟩ ?_
  refine v_if_eqB C 18 dX0_bestBin_5 (by decide) (fun c5_1 => ?_) (fun c5_1 => ?_)
  · skip
    refine v_bipush (v := -2) C dX0_bestBin_18 (by decide) ?_
    refine v_istore (lv' := [(5, _), (0, _), (1, _), (2, _), (3, _), (4, _)]) C dX0_bestBin_20 (by decide) rfl ?_
    refine v_iload C dX0_bestBin_22 0 rfl ?_
    refine v_if_ge C 30 dX0_bestBin_24 (by decide) (fun c24_2 => ?_) (fun c24_2 => ?_)
    · exact absurd c24_2 (by decide)
    · skip
      refine v_iload C dX0_bestBin_27 0 rfl ?_
      exact v_iret C dX0_bestBin_29 (Nat.le_of_ble_eq_true rfl) (Nat.le_of_ble_eq_true rfl) (by unfold x_bB; rw [if_neg c5_1]; exact ⟨rfl, rfl⟩)
  · skip
    obtain ⟨ele, hle⟩ := isB_c (n := nl) rfl (by omega) c5_1
    refine v_iload_n C dX0_bestBin_8 2 rfl ?_
    refine v_iload_n C dX0_bestBin_9 3 rfl ?_
    refine v_iload C dX0_bestBin_10 4 rfl ?_
    refine v_callSp C (x_truckFault l g _ _ _) ok_X0_truckFault rfl q922 rfl (Nat.le_of_ble_eq_true rfl) dX0_bestBin_12 (roomL rfl rfl) ⟨rfl, rfl⟩ ?_
    refine v_goto C 20 dX0_bestBin_15 (by decide) ?_
    refine v_istore (lv' := [(5, _), (0, _), (1, _), (2, _), (3, _), (4, _)]) C dX0_bestBin_20 (by decide) rfl ?_
    refine v_iload C dX0_bestBin_22 0 rfl ?_
    refine v_if_ge C 30 dX0_bestBin_24 (by decide) (fun c24_3 => ?_) (fun c24_3 => ?_)
    · skip
      refine v_iconst (v := -1) C dX0_bestBin_30 (by decide) ?_
      refine v_istore (lv' := [(6, _), (5, _), (0, _), (1, _), (2, _), (3, _), (4, _)]) C dX0_bestBin_31 (by decide) rfl ?_
      refine v_iconst (v := 0) C dX0_bestBin_33 (by decide) ?_
      refine v_istore (lv' := [(7, _), (6, _), (5, _), (0, _), (1, _), (2, _), (3, _), (4, _)]) C dX0_bestBin_34 (by decide) rfl ?_
      refine v_lvp (lv' := [(7, _), (6, _), (0, _), (1, _), (2, _), (3, _), (4, _)]) [0, 1, 3, 4, 5, 6, 7] rfl ?_
      refine v_loop 0 nb (fun k => [(7, .int (nI k)), (6, .int (xbb r le.toNatClampNeg kind amt mo k)), (0, .ref (a 0)), (1, .int le), (2, .int kind), (3, .int amt), (4, .int mo)]) (fun k => (cw g a A nb nl nc r b od us tk bn suf)) rfl rfl (by omega) ?_ ?_
      · skip
        refine v_iload C dX0_bestBin_36 0 rfl ?_
        refine v_aload_n C dX0_bestBin_38 2 rfl ?_
        refine v_get C in_X0 rfl 0 rfl 0 (by decide) q483 (fun _ h => h) rfl dX0_bestBin_39 ?_
        refine v_getN C in_X1 rfl 3 rfl 0 (by decide) q155 (fun _ h => h) rfl dX0_bestBin_42 ?_
        refine v_zMV (ws' := (cw g a A nb nl nc r b od us tk bn suf)) C (j_size l g (A 1) (A 2) 8 (nI nb) nb (rfs A 10 nb)) [_, _, _, _] rfl ok_J2_size rfl q269 rfl (Nat.le_of_ble_eq_true rfl) 0 rfl rfl rfl dX0_bestBin_45 (roomL rfl rfl) ⟨rfl, rfl⟩ rfl ?_
        refine v_icmp_ge C 116 dX0_bestBin_48 (by decide) (fun c48_4 => ?_) (fun c48_4 => ?_)
        · skip
          refine v_iload C dX0_bestBin_116 1 rfl ?_
          exact v_iret C dX0_bestBin_118 (Nat.le_of_ble_eq_true rfl) (Nat.le_of_ble_eq_true rfl) (by unfold x_bB; rw [if_pos c5_1, if_pos c24_3]; exact ⟨rfl, rfl⟩)
        · exact absurd (Int32.le_refl _) c48_4
      · intro k hk hk0 hback
        refine v_iload C dX0_bestBin_36 0 rfl ?_
        refine v_aload_n C dX0_bestBin_38 2 rfl ?_
        refine v_get C in_X0 rfl 0 rfl 0 (by decide) q483 (fun _ h => h) rfl dX0_bestBin_39 ?_
        refine v_getN C in_X1 rfl 3 rfl 0 (by decide) q155 (fun _ h => h) rfl dX0_bestBin_42 ?_
        refine v_zMV (ws' := (cw g a A nb nl nc r b od us tk bn suf)) C (j_size l g (A 1) (A 2) 8 (nI nb) nb (rfs A 10 nb)) [_, _, _, _] rfl ok_J2_size rfl q269 rfl (Nat.le_of_ble_eq_true rfl) 0 rfl rfl rfl dX0_bestBin_45 (roomL rfl rfl) ⟨rfl, rfl⟩ rfl ?_
        refine v_icmp_ge C 116 dX0_bestBin_48 (by decide) (fun c48_5 => ?_) (fun c48_5 => ?_)
        · exact absurd c48_5 (nI_ge hk (by first | decide | omega))
        · skip
          refine v_aload_n C dX0_bestBin_51 2 rfl ?_
          refine v_get C in_X0 rfl 0 rfl 0 (by decide) q483 (fun _ h => h) rfl dX0_bestBin_52 ?_
          refine v_iload_n C dX0_bestBin_55 3 rfl ?_
          refine v_eqi ele ?_
          refine v_iload C dX0_bestBin_56 0 rfl ?_
          refine v_iload_n C dX0_bestBin_58 4 rfl ?_
          refine v_iload_n C dX0_bestBin_59 5 rfl ?_
          refine v_iload C dX0_bestBin_60 6 rfl ?_
          refine v_zTV (ws' := (cw g a A nb nl nc r b od us tk bn suf)) C (x_refusal l g A nb nl nc r b suf hnb hnl hnc le.toNatClampNeg hle k hk _ _ _) [_, _, _] rfl ok_X1_refusal rfl q282 rfl (Nat.le_of_ble_eq_true rfl) 0 rfl rfl rfl dX0_bestBin_62 (roomL rfl rfl) ⟨rfl, rfl⟩ rfl ?_
          refine v_ternI C 72 73 dX0_bestBin_68 dX0_bestBin_69 dX0_bestBin_72 (by decide) rfl (fun ht hf => v_if_ne C 72 dX0_bestBin_65 (by decide) (fun q => ht q) (fun q => hf q)) ?_
          refine v_istore (lv' := [(8, _), (7, _), (6, _), (0, _), (1, _), (2, _), (3, _), (4, _)]) C dX0_bestBin_73 (by decide) rfl ?_
          refine v_iload C dX0_bestBin_75 0 rfl ?_
          refine v_if_eqB C 106 dX0_bestBin_77 (by decide) (fun c77_6 => ?_) (fun c77_6 => ?_)
          · skip
            refine v_iload C dX0_bestBin_106 2 rfl ?_
            refine v_istore (lv' := [(6, _), (8, _), (7, _), (0, _), (1, _), (2, _), (3, _), (4, _)]) C dX0_bestBin_108 (by decide) rfl ?_
            refine v_iinc (lv' := [(7, _), (6, _), (8, _), (0, _), (1, _), (2, _), (3, _), (4, _)]) C dX0_bestBin_110 2 rfl (nI_1 k) (by decide) rfl ?_
            refine v_goto C 36 dX0_bestBin_113 (by decide) ?_
            refine v_lvp (lv' := [(7, _), (6, _), (0, _), (1, _), (2, _), (3, _), (4, _)]) [0, 1, 3, 4, 5, 6, 7] rfl ?_
            have e1 := hback
            rw [xbb, if_neg c77_6] at e1
            exact e1
          · skip
            refine v_iload C dX0_bestBin_80 2 rfl ?_
            refine v_iconst (v := -1) C dX0_bestBin_82 (by decide) ?_
            refine v_icmp_eq C 101 dX0_bestBin_83 (by decide) (fun c83_7 => ?_) (fun c83_7 => ?_)
            · skip
              refine v_iload C dX0_bestBin_101 1 rfl ?_
              refine v_goto C 108 dX0_bestBin_103 (by decide) ?_
              refine v_istore (lv' := [(6, _), (8, _), (7, _), (0, _), (1, _), (2, _), (3, _), (4, _)]) C dX0_bestBin_108 (by decide) rfl ?_
              refine v_iinc (lv' := [(7, _), (6, _), (8, _), (0, _), (1, _), (2, _), (3, _), (4, _)]) C dX0_bestBin_110 2 rfl (nI_1 k) (by decide) rfl ?_
              refine v_goto C 36 dX0_bestBin_113 (by decide) ?_
              refine v_lvp (lv' := [(7, _), (6, _), (0, _), (1, _), (2, _), (3, _), (4, _)]) [0, 1, 3, 4, 5, 6, 7] rfl ?_
              have e1 := hback
              rw [xbb, if_pos c77_6, if_pos c83_7] at e1
              exact e1
            · skip
              obtain ⟨ej, hj⟩ := (xbb_ok r le.toNatClampNeg kind amt mo k (by omega)).resolve_left c83_7
              refine v_aload_n C dX0_bestBin_86 3 rfl ?_
              refine v_iload C dX0_bestBin_87 1 rfl ?_
              refine v_callVw C (x_room l g a A nb nl nc r b od us tk bn suf hnb hnl hnc k hk) ok_X0_room rfl q929 rfl (Nat.le_of_ble_eq_true rfl) 0 rfl rfl rfl dX0_bestBin_89 (roomL rfl rfl) ⟨rfl, rfl⟩ ?_
              refine v_aload_n C dX0_bestBin_92 3 rfl ?_
              refine v_iload C dX0_bestBin_93 2 rfl ?_
              refine v_eqi ej ?_
              refine v_callVw C (x_room l g a A nb nl nc r b od us tk bn suf hnb hnl hnc (xbb r le.toNatClampNeg kind amt mo k).toNatClampNeg (Nat.lt_trans hj hk)) ok_X0_room rfl q929 rfl (Nat.le_of_ble_eq_true rfl) 0 rfl rfl rfl dX0_bestBin_95 (roomL rfl rfl) ⟨rfl, rfl⟩ ?_
              refine v_icmp_ge C 106 dX0_bestBin_98 (by decide) (fun c98_8 => ?_) (fun c98_8 => ?_)
              · skip
                refine v_iload C dX0_bestBin_106 2 rfl ?_
                refine v_istore (lv' := [(6, _), (8, _), (7, _), (0, _), (1, _), (2, _), (3, _), (4, _)]) C dX0_bestBin_108 (by decide) rfl ?_
                refine v_iinc (lv' := [(7, _), (6, _), (8, _), (0, _), (1, _), (2, _), (3, _), (4, _)]) C dX0_bestBin_110 2 rfl (nI_1 k) (by decide) rfl ?_
                refine v_goto C 36 dX0_bestBin_113 (by decide) ?_
                refine v_lvp (lv' := [(7, _), (6, _), (0, _), (1, _), (2, _), (3, _), (4, _)]) [0, 1, 3, 4, 5, 6, 7] rfl ?_
                have e1 := hback
                rw [xbb, if_pos c77_6, if_neg c83_7, if_pos c98_8] at e1
                exact e1
              · skip
                refine v_iload C dX0_bestBin_101 1 rfl ?_
                refine v_goto C 108 dX0_bestBin_103 (by decide) ?_
                refine v_istore (lv' := [(6, _), (8, _), (7, _), (0, _), (1, _), (2, _), (3, _), (4, _)]) C dX0_bestBin_108 (by decide) rfl ?_
                refine v_iinc (lv' := [(7, _), (6, _), (8, _), (0, _), (1, _), (2, _), (3, _), (4, _)]) C dX0_bestBin_110 2 rfl (nI_1 k) (by decide) rfl ?_
                refine v_goto C 36 dX0_bestBin_113 (by decide) ?_
                refine v_lvp (lv' := [(7, _), (6, _), (0, _), (1, _), (2, _), (3, _), (4, _)]) [0, 1, 3, 4, 5, 6, 7] rfl ?_
                have e1 := hback
                rw [xbb, if_pos c77_6, if_neg c83_7, if_neg c98_8] at e1
                exact e1
    · skip
      refine v_iload C dX0_bestBin_27 0 rfl ?_
      exact v_iret C dX0_bestBin_29 (Nat.le_of_ble_eq_true rfl) (Nat.le_of_ble_eq_true rfl) (by unfold x_bB; rw [if_pos c5_1, if_neg c24_3]; exact ⟨rfl, rfl⟩)
def M_X0_digest : Md := (yX0_digest, cX0_digest, 5, (some .long), 6, 148, 0, 0)
theorem ok_X0_digest : MOKv M_X0_digest 0 := ⟨q1150, q1151, q89, q1152, ⟨by decide +kernel, by decide +kernel, by decide +kernel⟩⟩
set_option maxHeartbeats 4000000 in
theorem x_digest (l : Launch) (g : GT) (a A : Nat → Nat) (nb nl nc : Nat) (r : Nat → Int32) (b : Nat → Int64) (od : Nat → Int32) (us : Int32) (tk : Nat → Int32) (bn : Int32) (suf : va_W) (hnb : nb ≤ 8) (hnl : nl ≤ 3) (hnc : nc ≤ 6)  : CtE l g M_X0_digest [.ref (a 0)] (cw g a A nb nl nc r b od us tk bn suf) (some (.long (xdC r b nb nl nc nc))) (cw g a A nb nl nc r b od us tk bn suf) := by
  refine Ct.start2 (M := M_X0_digest) rfl [(0, .ref (a 0))] rfl (by decide +kernel) (Nat.le_of_ble_eq_true rfl) ?_
  intro p e s m args below meth c A9 C
  refine v_ldc2 C dX0_digest_0 q1153 ?_
  refine v_lstore_n (lv' := [(1, _), (0, _)]) C dX0_digest_3 rfl (by decide) rfl ?_
  refine v_iconst (v := 0) C dX0_digest_4 (by decide) ?_
  refine v_istore_n (lv' := [(3, _), (1, _), (0, _)]) C dX0_digest_5 rfl (by decide) rfl ?_
  refine v_loop 0 10 (fun k => [(3, .int (nI k)), (1, .long (xdA r nb nl nc k)), (0, .ref (a 0))]) (fun k => (cw g a A nb nl nc r b od us tk bn suf)) rfl rfl (by omega) ?_ ?_
  · skip
    refine v_iload_n C dX0_digest_6 0 rfl ?_
    refine v_bipush (v := 10) C dX0_digest_7 (by decide) ?_
    refine v_icmp_ge C 29 dX0_digest_9 (by decide) (fun c9_1 => ?_) (fun c9_1 => ?_)
    · skip
      refine v_iconst (v := 0) C dX0_digest_29 (by decide) ?_
      refine v_istore_n (lv' := [(3, _), (1, _), (0, _)]) C dX0_digest_30 rfl (by decide) rfl ?_
      refine v_loop 0 nb (fun k => [(3, .int (nI k)), (1, .long (xdB2 r nb nl nc k)), (0, .ref (a 0))]) (fun k => (cw g a A nb nl nc r b od us tk bn suf)) (congrArg (fun z : Int64 => ([(3, .int (nI 0)), (1, .long z), (0, .ref (a 0))] : List (Nat × Value))) (xdB_0 r nb nl nc)) rfl (by omega) ?_ ?_
      · skip
        refine v_iload_n C dX0_digest_31 0 rfl ?_
        refine v_aload_n C dX0_digest_32 2 rfl ?_
        refine v_get C in_X0 rfl 0 rfl 0 (by decide) q483 (fun _ h => h) rfl dX0_digest_33 ?_
        refine v_getN C in_X1 rfl 3 rfl 0 (by decide) q155 (fun _ h => h) rfl dX0_digest_36 ?_
        refine v_zMV (ws' := (cw g a A nb nl nc r b od us tk bn suf)) C (j_size l g (A 1) (A 2) 8 (nI nb) nb (rfs A 10 nb)) [_, _, _, _] rfl ok_J2_size rfl q269 rfl (Nat.le_of_ble_eq_true rfl) 0 rfl rfl rfl dX0_digest_39 (roomL rfl rfl) ⟨rfl, rfl⟩ rfl ?_
        refine v_icmp_ge C 92 dX0_digest_42 (by decide) (fun c42_2 => ?_) (fun c42_2 => ?_)
        · skip
          refine v_iconst (v := 0) C dX0_digest_92 (by decide) ?_
          refine v_istore_n (lv' := [(3, _), (1, _), (0, _)]) C dX0_digest_93 rfl (by decide) rfl ?_
          refine v_loop 0 nl (fun k => [(3, .int (nI k)), (1, .long (xdL2 r nb nl nc k)), (0, .ref (a 0))]) (fun k => (cw g a A nb nl nc r b od us tk bn suf)) (congrArg (fun z : Int64 => ([(3, .int (nI 0)), (1, .long z), (0, .ref (a 0))] : List (Nat × Value))) (xdL_0 r nb nl nc)) rfl (by omega) ?_ ?_
          · skip
            refine v_iload_n C dX0_digest_94 0 rfl ?_
            refine v_aload_n C dX0_digest_95 2 rfl ?_
            refine v_get C in_X0 rfl 0 rfl 0 (by decide) q483 (fun _ h => h) rfl dX0_digest_96 ?_
            refine v_getN C in_X1 rfl 3 rfl 1 (by decide) q157 (fun _ h => h) rfl dX0_digest_99 ?_
            refine v_zMV (ws' := (cw g a A nb nl nc r b od us tk bn suf)) C (j_size l g (A 3) (A 4) 3 (nI nl) nl (rfs A 20 nl)) [_, _, _, _, _, _] rfl ok_J2_size rfl q269 rfl (Nat.le_of_ble_eq_true rfl) 0 rfl rfl rfl dX0_digest_102 (roomL rfl rfl) ⟨rfl, rfl⟩ rfl ?_
            refine v_icmp_ge C 142 dX0_digest_105 (by decide) (fun c105_3 => ?_) (fun c105_3 => ?_)
            · skip
              refine v_iconst (v := 0) C dX0_digest_142 (by decide) ?_
              refine v_istore_n (lv' := [(3, _), (1, _), (0, _)]) C dX0_digest_143 rfl (by decide) rfl ?_
              refine v_loop 0 4 (fun k => [(3, .int (nI k)), (1, .long (xdP r nb nl nc k)), (0, .ref (a 0))]) (fun k => (cw g a A nb nl nc r b od us tk bn suf)) (congrArg (fun z : Int64 => ([(3, .int (nI 0)), (1, .long z), (0, .ref (a 0))] : List (Nat × Value))) (xdP_0 r nb nl nc)) rfl (by omega) ?_ ?_
              · skip
                refine v_iload_n C dX0_digest_144 0 rfl ?_
                refine v_iconst (v := 4) C dX0_digest_145 (by decide) ?_
                refine v_icmp_ge C 170 dX0_digest_146 (by decide) (fun c146_4 => ?_) (fun c146_4 => ?_)
                · skip
                  refine v_iconst (v := 0) C dX0_digest_170 (by decide) ?_
                  refine v_istore_n (lv' := [(3, _), (1, _), (0, _)]) C dX0_digest_171 rfl (by decide) rfl ?_
                  refine v_loop 0 7 (fun k => [(3, .int (nI k)), (1, .long (xdK r b nb nl nc k)), (0, .ref (a 0))]) (fun k => (cw g a A nb nl nc r b od us tk bn suf)) (congrArg (fun z : Int64 => ([(3, .int (nI 0)), (1, .long z), (0, .ref (a 0))] : List (Nat × Value))) (xdK_0 r b nb nl nc)) rfl (by omega) ?_ ?_
                  · skip
                    refine v_iload_n C dX0_digest_172 0 rfl ?_
                    refine v_bipush (v := 7) C dX0_digest_173 (by decide) ?_
                    refine v_icmp_ge C 194 dX0_digest_175 (by decide) (fun c175_5 => ?_) (fun c175_5 => ?_)
                    · skip
                      refine v_iconst (v := 0) C dX0_digest_194 (by decide) ?_
                      refine v_istore_n (lv' := [(3, _), (1, _), (0, _)]) C dX0_digest_195 rfl (by decide) rfl ?_
                      refine v_loop 0 nc (fun k => [(3, .int (nI k)), (1, .long (xdC r b nb nl nc k)), (0, .ref (a 0))]) (fun k => (cw g a A nb nl nc r b od us tk bn suf)) (congrArg (fun z : Int64 => ([(3, .int (nI 0)), (1, .long z), (0, .ref (a 0))] : List (Nat × Value))) (xdC_0 r b nb nl nc)) rfl (by omega) ?_ ?_
                      · skip
                        refine v_iload_n C dX0_digest_196 0 rfl ?_
                        refine v_aload_n C dX0_digest_197 2 rfl ?_
                        refine v_get C in_X0 rfl 0 rfl 0 (by decide) q483 (fun _ h => h) rfl dX0_digest_198 ?_
                        refine v_getN C in_X1 rfl 3 rfl 2 (by decide) q159 (fun _ h => h) rfl dX0_digest_201 ?_
                        refine v_zMV (ws' := (cw g a A nb nl nc r b od us tk bn suf)) C (j_size l g (A 5) (A 6) 6 (nI nc) nc (rfs A 30 nc)) [_, _, _, _, _, _, _, _] rfl ok_J2_size rfl q269 rfl (Nat.le_of_ble_eq_true rfl) 0 rfl rfl rfl dX0_digest_204 (roomL rfl rfl) ⟨rfl, rfl⟩ rfl ?_
                        refine v_icmp_ge C 257 dX0_digest_207 (by decide) (fun c207_6 => ?_) (fun c207_6 => ?_)
                        · skip
                          refine v_lload_n C dX0_digest_257 1 rfl ?_
                          exact v_lret C dX0_digest_258 (Nat.le_of_ble_eq_true rfl) (Nat.le_of_ble_eq_true rfl) ⟨rfl, rfl⟩
                        · exact absurd (Int32.le_refl _) c207_6
                      · intro k hk hk0 hback
                        refine v_iload_n C dX0_digest_196 0 rfl ?_
                        refine v_aload_n C dX0_digest_197 2 rfl ?_
                        refine v_get C in_X0 rfl 0 rfl 0 (by decide) q483 (fun _ h => h) rfl dX0_digest_198 ?_
                        refine v_getN C in_X1 rfl 3 rfl 2 (by decide) q159 (fun _ h => h) rfl dX0_digest_201 ?_
                        refine v_zMV (ws' := (cw g a A nb nl nc r b od us tk bn suf)) C (j_size l g (A 5) (A 6) 6 (nI nc) nc (rfs A 30 nc)) [_, _, _, _, _, _, _, _] rfl ok_J2_size rfl q269 rfl (Nat.le_of_ble_eq_true rfl) 0 rfl rfl rfl dX0_digest_204 (roomL rfl rfl) ⟨rfl, rfl⟩ rfl ?_
                        refine v_icmp_ge C 257 dX0_digest_207 (by decide) (fun c207_7 => ?_) (fun c207_7 => ?_)
                        · exact absurd c207_7 (nI_ge hk (by first | decide | omega))
                        · skip
                          refine v_iconst (v := 0) C dX0_digest_210 (by decide) ?_
                          refine v_istore (lv' := [(4, _), (3, _), (1, _), (0, _)]) C dX0_digest_211 (by decide) rfl ?_
                          refine v_loop 0 6 (fun j => [(4, .int (nI j)), (3, .int (nI k)), (1, .long (hfold (fun w => (c_prop (tv r k) (nI w)).toInt64) j (xdC r b nb nl nc k))), (0, .ref (a 0))]) (fun j => (cw g a A nb nl nc r b od us tk bn suf)) rfl rfl (by omega) ?_ ?_
                          · skip
                            refine v_iload C dX0_digest_213 0 rfl ?_
                            refine v_bipush (v := 6) C dX0_digest_215 (by decide) ?_
                            refine v_icmp_ge C 251 dX0_digest_217 (by decide) (fun c217_8 => ?_) (fun c217_8 => ?_)
                            · skip
                              refine v_iinc (lv' := [(3, _), (4, _), (1, _), (0, _)]) C dX0_digest_251 1 rfl (nI_1 k) (by decide) rfl ?_
                              refine v_goto C 196 dX0_digest_254 (by decide) ?_
                              refine v_lvp (lv' := [(3, _), (1, _), (0, _)]) [0, 2, 3] rfl ?_
                              rw [xdC_s] at hback; exact hback
                            · exact absurd (Int32.le_refl _) c217_8
                          · intro j hj hj0 hback
                            refine v_iload C dX0_digest_213 0 rfl ?_
                            refine v_bipush (v := 6) C dX0_digest_215 (by decide) ?_
                            refine v_icmp_ge C 251 dX0_digest_217 (by decide) (fun c217_9 => ?_) (fun c217_9 => ?_)
                            · exact absurd c217_9 (nI_ge hj (by first | decide | omega))
                            · skip
                              refine v_lload_n C dX0_digest_220 2 rfl ?_
                              refine v_aload_n C dX0_digest_221 3 rfl ?_
                              refine v_get C in_X0 rfl 0 rfl 0 (by decide) q483 (fun _ h => h) rfl dX0_digest_222 ?_
                              refine v_getN C in_X1 rfl 3 rfl 2 (by decide) q159 (fun _ h => h) rfl dX0_digest_225 ?_
                              refine v_iload_n C dX0_digest_228 1 rfl ?_
                              refine v_zMV (ws' := (cw g a A nb nl nc r b od us tk bn suf)) C (j_get l g (A 5) (A 6) 6 (nI nc) nc (rfs A 30 nc) k (A (30 + k)) hk hnc (by decide) (rfs_at A 30 hk)) [_, _, _, _, _, _, _, _] rfl ok_J2_get rfl q359 rfl (Nat.le_of_ble_eq_true rfl) 0 rfl rfl rfl dX0_digest_229 (roomL rfl rfl) ⟨rfl, rfl⟩ rfl ?_
                              refine v_castS (r := (RX6, TX6, 5)) C q761 (nb + nl + k + 11) (cw_con hk) rfl dX0_digest_232 ?_
                              refine v_iload C dX0_digest_235 0 rfl ?_
                              refine v_zFV (ws' := (cw g a A nb nl nc r b od us tk bn suf)) C (x_cprop l g _ (tv r k) _) ok_X6_property rfl q850 rfl (Nat.le_of_ble_eq_true rfl) (nb + nl + k + 11) (cw_con hk) rfl rfl dX0_digest_237 (roomL rfl rfl) ⟨rfl, rfl⟩ (set_same (cw_con hk)) ?_
                              refine v_i2l C dX0_digest_240 ?_
                              refine v_callSp C (x_mixed l g _ _) ok_X0_mixed rfl q1155 rfl (Nat.le_of_ble_eq_true rfl) dX0_digest_241 (roomL rfl rfl) ⟨rfl, rfl⟩ ?_
                              refine v_lstore_n (lv' := [(1, _), (4, _), (3, _), (0, _)]) C dX0_digest_244 rfl (by decide) rfl ?_
                              refine v_iinc (lv' := [(4, _), (1, _), (3, _), (0, _)]) C dX0_digest_245 1 rfl (nI_1 j) (by decide) rfl ?_
                              refine v_goto C 213 dX0_digest_248 (by decide) ?_
                              refine v_lvp (lv' := [(4, _), (3, _), (1, _), (0, _)]) [0, 2, 1, 3] rfl ?_
                              rw [hf_s] at hback; exact hback
                    · exact absurd (Int32.le_refl _) c175_5
                  · intro k hk hk0 hback
                    refine v_iload_n C dX0_digest_172 0 rfl ?_
                    refine v_bipush (v := 7) C dX0_digest_173 (by decide) ?_
                    refine v_icmp_ge C 194 dX0_digest_175 (by decide) (fun c175_10 => ?_) (fun c175_10 => ?_)
                    · exact absurd c175_10 (nI_ge hk (by first | decide | omega))
                    · skip
                      refine v_lload_n C dX0_digest_178 1 rfl ?_
                      refine v_aload_n C dX0_digest_179 2 rfl ?_
                      refine v_iload_n C dX0_digest_180 0 rfl ?_
                      refine v_callVw C (x_book l g a A nb nl nc r b od us tk bn suf hnb hnl hnc _) ok_X0_book rfl q1159 rfl (Nat.le_of_ble_eq_true rfl) 0 rfl rfl rfl dX0_digest_181 (roomL rfl rfl) ⟨rfl, rfl⟩ ?_
                      refine v_callSp C (x_mixed l g _ _) ok_X0_mixed rfl q1155 rfl (Nat.le_of_ble_eq_true rfl) dX0_digest_184 (roomL rfl rfl) ⟨rfl, rfl⟩ ?_
                      refine v_lstore_n (lv' := [(1, _), (3, _), (0, _)]) C dX0_digest_187 rfl (by decide) rfl ?_
                      refine v_iinc (lv' := [(3, _), (1, _), (0, _)]) C dX0_digest_188 1 rfl (nI_1 k) (by decide) rfl ?_
                      refine v_goto C 172 dX0_digest_191 (by decide) ?_
                      rw [xdK_s] at hback; exact hback
                · exact absurd (Int32.le_refl _) c146_4
              · intro k hk hk0 hback
                refine v_iload_n C dX0_digest_144 0 rfl ?_
                refine v_iconst (v := 4) C dX0_digest_145 (by decide) ?_
                refine v_icmp_ge C 170 dX0_digest_146 (by decide) (fun c146_11 => ?_) (fun c146_11 => ?_)
                · exact absurd c146_11 (nI_ge hk (by first | decide | omega))
                · skip
                  refine v_lload_n C dX0_digest_149 1 rfl ?_
                  refine v_aload_n C dX0_digest_150 2 rfl ?_
                  refine v_get C in_X0 rfl 0 rfl 0 (by decide) q483 (fun _ h => h) rfl dX0_digest_151 ?_
                  refine v_getN C in_X1 rfl 3 rfl 3 (by decide) q161 (fun _ h => h) rfl dX0_digest_154 ?_
                  refine v_iload_n C dX0_digest_157 0 rfl ?_
                  refine v_iald C dX0_digest_158 10 rfl (ixn (by omega) (by decide)) ?_
                  refine v_eqi (prF_at r hk) ?_
                  refine v_i2l C dX0_digest_159 ?_
                  refine v_callSp C (x_mixed l g _ _) ok_X0_mixed rfl q1155 rfl (Nat.le_of_ble_eq_true rfl) dX0_digest_160 (roomL rfl rfl) ⟨rfl, rfl⟩ ?_
                  refine v_lstore_n (lv' := [(1, _), (3, _), (0, _)]) C dX0_digest_163 rfl (by decide) rfl ?_
                  refine v_iinc (lv' := [(3, _), (1, _), (0, _)]) C dX0_digest_164 1 rfl (nI_1 k) (by decide) rfl ?_
                  refine v_goto C 144 dX0_digest_167 (by decide) ?_
                  rw [xdP_s] at hback; exact hback
            · exact absurd (Int32.le_refl _) c105_3
          · intro k hk hk0 hback
            refine v_iload_n C dX0_digest_94 0 rfl ?_
            refine v_aload_n C dX0_digest_95 2 rfl ?_
            refine v_get C in_X0 rfl 0 rfl 0 (by decide) q483 (fun _ h => h) rfl dX0_digest_96 ?_
            refine v_getN C in_X1 rfl 3 rfl 1 (by decide) q157 (fun _ h => h) rfl dX0_digest_99 ?_
            refine v_zMV (ws' := (cw g a A nb nl nc r b od us tk bn suf)) C (j_size l g (A 3) (A 4) 3 (nI nl) nl (rfs A 20 nl)) [_, _, _, _, _, _] rfl ok_J2_size rfl q269 rfl (Nat.le_of_ble_eq_true rfl) 0 rfl rfl rfl dX0_digest_102 (roomL rfl rfl) ⟨rfl, rfl⟩ rfl ?_
            refine v_icmp_ge C 142 dX0_digest_105 (by decide) (fun c105_12 => ?_) (fun c105_12 => ?_)
            · exact absurd c105_12 (nI_ge hk (by first | decide | omega))
            · skip
              refine v_iconst (v := 0) C dX0_digest_108 (by decide) ?_
              refine v_istore (lv' := [(4, _), (3, _), (1, _), (0, _)]) C dX0_digest_109 (by decide) rfl ?_
              refine v_loop 0 5 (fun j => [(4, .int (nI j)), (3, .int (nI k)), (1, .long (hfold (fun w => (x_legP r k (nI w)).toInt64) j (xdL2 r nb nl nc k))), (0, .ref (a 0))]) (fun j => (cw g a A nb nl nc r b od us tk bn suf)) rfl rfl (by omega) ?_ ?_
              · skip
                refine v_iload C dX0_digest_111 0 rfl ?_
                refine v_iconst (v := 5) C dX0_digest_113 (by decide) ?_
                refine v_icmp_ge C 136 dX0_digest_114 (by decide) (fun c114_13 => ?_) (fun c114_13 => ?_)
                · skip
                  refine v_iinc (lv' := [(3, _), (4, _), (1, _), (0, _)]) C dX0_digest_136 1 rfl (nI_1 k) (by decide) rfl ?_
                  refine v_goto C 94 dX0_digest_139 (by decide) ?_
                  refine v_lvp (lv' := [(3, _), (1, _), (0, _)]) [0, 2, 3] rfl ?_
                  rw [xdL_s] at hback; exact hback
                · exact absurd (Int32.le_refl _) c114_13
              · intro j hj hj0 hback
                refine v_iload C dX0_digest_111 0 rfl ?_
                refine v_iconst (v := 5) C dX0_digest_113 (by decide) ?_
                refine v_icmp_ge C 136 dX0_digest_114 (by decide) (fun c114_14 => ?_) (fun c114_14 => ?_)
                · exact absurd c114_14 (nI_ge hj (by first | decide | omega))
                · skip
                  refine v_lload_n C dX0_digest_117 2 rfl ?_
                  refine v_aload_n C dX0_digest_118 3 rfl ?_
                  refine v_iload_n C dX0_digest_119 1 rfl ?_
                  refine v_iload C dX0_digest_120 0 rfl ?_
                  refine v_callVw C (x_legProp l g a A nb nl nc r b od us tk bn suf hnb hnl hnc k hk _) ok_X0_legProperty rfl q791 rfl (Nat.le_of_ble_eq_true rfl) 0 rfl rfl rfl dX0_digest_122 (roomL rfl rfl) ⟨rfl, rfl⟩ ?_
                  refine v_i2l C dX0_digest_125 ?_
                  refine v_callSp C (x_mixed l g _ _) ok_X0_mixed rfl q1155 rfl (Nat.le_of_ble_eq_true rfl) dX0_digest_126 (roomL rfl rfl) ⟨rfl, rfl⟩ ?_
                  refine v_lstore_n (lv' := [(1, _), (4, _), (3, _), (0, _)]) C dX0_digest_129 rfl (by decide) rfl ?_
                  refine v_iinc (lv' := [(4, _), (1, _), (3, _), (0, _)]) C dX0_digest_130 1 rfl (nI_1 j) (by decide) rfl ?_
                  refine v_goto C 111 dX0_digest_133 (by decide) ?_
                  refine v_lvp (lv' := [(4, _), (3, _), (1, _), (0, _)]) [0, 2, 1, 3] rfl ?_
                  rw [hf_s] at hback; exact hback
        · exact absurd (Int32.le_refl _) c42_2
      · intro k hk hk0 hback
        refine v_iload_n C dX0_digest_31 0 rfl ?_
        refine v_aload_n C dX0_digest_32 2 rfl ?_
        refine v_get C in_X0 rfl 0 rfl 0 (by decide) q483 (fun _ h => h) rfl dX0_digest_33 ?_
        refine v_getN C in_X1 rfl 3 rfl 0 (by decide) q155 (fun _ h => h) rfl dX0_digest_36 ?_
        refine v_zMV (ws' := (cw g a A nb nl nc r b od us tk bn suf)) C (j_size l g (A 1) (A 2) 8 (nI nb) nb (rfs A 10 nb)) [_, _, _, _] rfl ok_J2_size rfl q269 rfl (Nat.le_of_ble_eq_true rfl) 0 rfl rfl rfl dX0_digest_39 (roomL rfl rfl) ⟨rfl, rfl⟩ rfl ?_
        refine v_icmp_ge C 92 dX0_digest_42 (by decide) (fun c42_15 => ?_) (fun c42_15 => ?_)
        · exact absurd c42_15 (nI_ge hk (by first | decide | omega))
        · skip
          refine v_iconst (v := 0) C dX0_digest_45 (by decide) ?_
          refine v_istore (lv' := [(4, _), (3, _), (1, _), (0, _)]) C dX0_digest_46 (by decide) rfl ?_
          refine v_loop 0 10 (fun j => [(4, .int (nI j)), (3, .int (nI k)), (1, .long (hfold (fun w => (b_prop (bv r k) (nI w)).toInt64) j (xdB2 r nb nl nc k))), (0, .ref (a 0))]) (fun j => (cw g a A nb nl nc r b od us tk bn suf)) rfl rfl (by omega) ?_ ?_
          · skip
            refine v_iload C dX0_digest_48 0 rfl ?_
            refine v_bipush (v := 10) C dX0_digest_50 (by decide) ?_
            refine v_icmp_ge C 86 dX0_digest_52 (by decide) (fun c52_16 => ?_) (fun c52_16 => ?_)
            · skip
              refine v_iinc (lv' := [(3, _), (4, _), (1, _), (0, _)]) C dX0_digest_86 1 rfl (nI_1 k) (by decide) rfl ?_
              refine v_goto C 31 dX0_digest_89 (by decide) ?_
              refine v_lvp (lv' := [(3, _), (1, _), (0, _)]) [0, 2, 3] rfl ?_
              rw [xdB_s] at hback; exact hback
            · exact absurd (Int32.le_refl _) c52_16
          · intro j hj hj0 hback
            refine v_iload C dX0_digest_48 0 rfl ?_
            refine v_bipush (v := 10) C dX0_digest_50 (by decide) ?_
            refine v_icmp_ge C 86 dX0_digest_52 (by decide) (fun c52_17 => ?_) (fun c52_17 => ?_)
            · exact absurd c52_17 (nI_ge hj (by first | decide | omega))
            · skip
              refine v_lload_n C dX0_digest_55 2 rfl ?_
              refine v_aload_n C dX0_digest_56 3 rfl ?_
              refine v_get C in_X0 rfl 0 rfl 0 (by decide) q483 (fun _ h => h) rfl dX0_digest_57 ?_
              refine v_getN C in_X1 rfl 3 rfl 0 (by decide) q155 (fun _ h => h) rfl dX0_digest_60 ?_
              refine v_iload_n C dX0_digest_63 1 rfl ?_
              refine v_zMV (ws' := (cw g a A nb nl nc r b od us tk bn suf)) C (j_get l g (A 1) (A 2) 8 (nI nb) nb (rfs A 10 nb) k (A (10 + k)) hk hnb (by decide) (rfs_at A 10 hk)) [_, _, _, _] rfl ok_J2_get rfl q359 rfl (Nat.le_of_ble_eq_true rfl) 0 rfl rfl rfl dX0_digest_64 (roomL rfl rfl) ⟨rfl, rfl⟩ rfl ?_
              refine v_castS (r := (RX4, TX4, 9)) C q360 (k + 11) (cw_bin hk) rfl dX0_digest_67 ?_
              refine v_iload C dX0_digest_70 0 rfl ?_
              refine v_zFV (ws' := (cw g a A nb nl nc r b od us tk bn suf)) C (x_bprop l g _ (bv r k) _) ok_X4_property rfl q783 rfl (Nat.le_of_ble_eq_true rfl) (k + 11) (cw_bin hk) rfl rfl dX0_digest_72 (roomL rfl rfl) ⟨rfl, rfl⟩ (set_same (cw_bin hk)) ?_
              refine v_i2l C dX0_digest_75 ?_
              refine v_callSp C (x_mixed l g _ _) ok_X0_mixed rfl q1155 rfl (Nat.le_of_ble_eq_true rfl) dX0_digest_76 (roomL rfl rfl) ⟨rfl, rfl⟩ ?_
              refine v_lstore_n (lv' := [(1, _), (4, _), (3, _), (0, _)]) C dX0_digest_79 rfl (by decide) rfl ?_
              refine v_iinc (lv' := [(4, _), (1, _), (3, _), (0, _)]) C dX0_digest_80 1 rfl (nI_1 j) (by decide) rfl ?_
              refine v_goto C 48 dX0_digest_83 (by decide) ?_
              refine v_lvp (lv' := [(4, _), (3, _), (1, _), (0, _)]) [0, 2, 1, 3] rfl ?_
              rw [hf_s] at hback; exact hback
    · exact absurd (Int32.le_refl _) c9_1
  · intro k hk hk0 hback
    refine v_iload_n C dX0_digest_6 0 rfl ?_
    refine v_bipush (v := 10) C dX0_digest_7 (by decide) ?_
    refine v_icmp_ge C 29 dX0_digest_9 (by decide) (fun c9_18 => ?_) (fun c9_18 => ?_)
    · exact absurd c9_18 (nI_ge hk (by first | decide | omega))
    · skip
      refine v_lload_n C dX0_digest_12 1 rfl ?_
      refine v_aload_n C dX0_digest_13 2 rfl ?_
      refine v_iload_n C dX0_digest_14 0 rfl ?_
      refine v_callVw C (x_cnt l g a A nb nl nc r b od us tk bn suf hnb hnl hnc _) ok_X0_count rfl q1154 rfl (Nat.le_of_ble_eq_true rfl) 0 rfl rfl rfl dX0_digest_15 (roomL rfl rfl) ⟨rfl, rfl⟩ ?_
      refine v_i2l C dX0_digest_18 ?_
      refine v_callSp C (x_mixed l g _ _) ok_X0_mixed rfl q1155 rfl (Nat.le_of_ble_eq_true rfl) dX0_digest_19 (roomL rfl rfl) ⟨rfl, rfl⟩ ?_
      refine v_lstore_n (lv' := [(1, _), (3, _), (0, _)]) C dX0_digest_22 rfl (by decide) rfl ?_
      refine v_iinc (lv' := [(3, _), (1, _), (0, _)]) C dX0_digest_23 1 rfl (nI_1 k) (by decide) rfl ?_
      refine v_goto C 6 dX0_digest_26 (by decide) ?_
      rw [xdA_s] at hback; exact hback
