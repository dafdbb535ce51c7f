/-! the class's blends, second lot -/
set_option maxRecDepth 100000
abbrev xgN (r : Nat → Int32) (nb c l : Nat) : Nat → Nat := (xog r (r (94 + 6 * c + 0)) l nb).1
abbrev xgC (r : Nat → Int32) (nb c l : Nat) : Nat := (xog r (r (94 + 6 * c + 0)) l nb).2
abbrev xuN (r : Nat → Int32) (nb c l : Nat) (m : Int32) : Nat → Int32 := xU r (xgN r nb c l) (xgC r nb c l) (r (94 + 6 * c + 1)) m
abbrev xT (r : Nat → Int32) (nb c l : Nat) (m : Int32) : Int64 := mixS r (xgN r nb c l) (xuN r nb c l m) (xgC r nb c l)
abbrev xMost (r : Nat → Int32) (c : Nat) : Int64 := (r (94 + 6 * c + 2)).toInt64 * (r (94 + 6 * c + 1)).toInt64
def x_fb (r : Nat → Int32) (nb c l : Nat) : Int32 :=
  if q_stands r l then 1 else if r (94 + 6 * c + 1) ≤ xuu r (xgN r nb c l) (xgC r nb c l) then if lg_cmp (xT r nb c l 0) (xMost r c) ≤ 0 then 0 else 8 else 7
theorem x_fb0 {r : Nat → Int32} {nb c l : Nat} (h : x_fb r nb c l ≤ 0) : x_fb r nb c l = 0 := by
  unfold x_fb at h ⊢
  split
  · rename_i q; rw [if_pos q] at h; exact absurd h (by decide)
  · rename_i q; rw [if_neg q] at h
    split
    · rename_i q2; rw [if_pos q2] at h
      split
      · rfl
      · rename_i q3; rw [if_neg q3] at h; exact absurd h (by decide)
    · rename_i q2; rw [if_neg q2] at h; exact absurd h (by decide)
def xbT (r : Nat → Int32) (nb c l : Nat) (m : Nat) : Bool := decide (¬ 0 < lg_cmp (xT r nb c l (nI m)) (xMost r c))
def x_bestN (r : Nat → Int32) (nb c l : Nat) : Nat := bsr (xbT r nb c l) ((r (94 + 6 * c + 1)).toNatClampNeg + 1) 0 ((r (94 + 6 * c + 1)).toNatClampNeg + 1)
def x_blend (r : Nat → Int32) (nb nl nc : Nat) (con leg : Int32) : Int32 :=
  if q_n nc con ∧ q_n nl leg then if x_fb r nb con.toNatClampNeg leg.toNatClampNeg ≤ 0 then nI (x_bestN r nb con.toNatClampNeg leg.toNatClampNeg) else -1 else -2
def x_whyB (r : Nat → Int32) (nb nl nc : Nat) (con leg : Int32) : Int32 := if q_n nc con ∧ q_n nl leg then x_fb r nb con.toNatClampNeg leg.toNatClampNeg else -2
def x_from (r : Nat → Int32) (nb nl nc : Nat) (con leg bin : Int32) : Int32 :=
  if q_n nc con ∧ q_n nl leg then if q_n nb bin then if x_fb r nb con.toNatClampNeg leg.toNatClampNeg ≤ 0 then xuN r nb con.toNatClampNeg leg.toNatClampNeg (nI (x_bestN r nb con.toNatClampNeg leg.toNatClampNeg)) bin.toNatClampNeg else -1 else -2 else -2
abbrev x_fm (r : Nat → Int32) (og : Nat → Nat) (n : Nat) (am bn : Int32) : Int32 := ((mixS r og (xU r og n am bn) n + am.toInt64 - 1) / am.toInt64).toInt32
abbrev x_bM (r : Nat → Int32) (nb c l : Nat) : Int32 := x_fm r (xgN r nb c l) (xgC r nb c l) (r (94 + 6 * c + 1)) (nI (x_bestN r nb c l))
def x_blM (r : Nat → Int32) (nb nl nc : Nat) (con leg : Int32) : Int32 :=
  if q_n nc con ∧ q_n nl leg then if x_fb r nb con.toNatClampNeg leg.toNatClampNeg ≤ 0 then x_bM r nb con.toNatClampNeg leg.toNatClampNeg else -1 else -2
def x_spI (r : Nat → Int32) (nb : Nat) (bi : Int32) : Int32 :=
  if q_n nb bi then if q_spoilt r bi.toNatClampNeg then 0 else
    if 0 < p_moist r bi.toNatClampNeg - 150 then (10000 - r (10 + 9 * bi.toNatClampNeg + 6) + (p_moist r bi.toNatClampNeg - 150) - 1) / (p_moist r bi.toNatClampNeg - 150) else -1
  else -2
section VQ
variable {p : Program} {l : Launch} {e : Env} {R : Room} {s : State} {m : MethodId} {args : Array Value} {below : List Frame} {meth : Method} {c : Code} {g : GT} {A : Nat → Prop} {nL cells slots : Nat} {Q : State → Prop} {y : MethodName} {cc : ByteArray} {ret : Option FieldType} {pc : Nat} {lv : List (Nat × Value)} {st : List Value} {ws : va_W}
variable {M : Md} {post : va_W → Prop} {As st0 : List Value} {index b n : Nat}
theorem v_callVq (C : Cx p s m args meth c g A y cc nL ret) (hM : Ct l g M (.ref b :: As) ws (fun rv w => rv = none ∧ post w)) (ok : MOKv M n) (hn : As.length = n) (hlk : Cond.methodLink y.cls index M.1 ∈ lw_all) (hst : st0 = As.reverse ++ .ref b :: st) (h8 : (st.map fun v => v.category).sum ≤ 8) {ci : Nat} {r0 : vw_C} {fs : List Value} (q0 : Nat) (he : ws[q0]? = some (b, .inr (ci, fs))) (hc : vwCl[ci]? = some r0) (hrc : r0.1 = M.1.cls) (d : decode cc pc = .ok (.invokevirtual index, 3)) (hR : roomOk M R cells slots) (hz : M.2.2.2.2.2.2.1 = 0 ∧ M.2.2.2.2.2.2.2 = 0)
    (k : ∀ w, post w → V p l e R s m args below meth c g A nL cells slots Q (pc + 3) lv st w) : V p l e R s m args below meth c g A nL cells slots Q pc lv st0 ws :=
  v_callV C hM ok hn hlk hst h8 q0 he hc hrc d hR (by rw [List.append_nil]) (fun rv w h => by
    obtain ⟨rfl, h2⟩ := h
    rw [hz.1, hz.2, List.append_nil]
    exact k w h2)
end VQ
def M_X0_areThere : Md := (yX0_areThere, cX0_areThere, 3, (some .boolean), 3, 83, 0, 0)
theorem ok_X0_areThere : MOKv M_X0_areThere 2 := ⟨q861, qs32, q89, q862, ⟨by decide +kernel, by decide +kernel, by decide +kernel⟩⟩
set_option maxHeartbeats 4000000 in
theorem x_areThere (l : Launch) (g : GT) (a A : Nat → Nat) (nb nl nc : Nat) (r : Nat → Int32) (b : Nat → Int64) (od : Nat → Int32) (us : Int32) (tk : Nat → Int32) (bn : Int32) (suf : va_W) (hnb : nb ≤ 8) (hnl : nl ≤ 3) (hnc : nc ≤ 6) (con leg : Int32) : CtE l g M_X0_areThere [.ref (a 0), .int con, .int leg] (cw g a A nb nl nc r b od us tk bn suf) (some (.int (bI (q_n nc con ∧ q_n nl leg)))) (cw g a A nb nl nc r b od us tk bn suf) := by
  refine Ct.start2 (M := M_X0_areThere) rfl [(0, .ref (a 0)), (1, .int con), (2, .int leg)] rfl (by decide +kernel) (Nat.le_of_ble_eq_true rfl) ?_
  intro p e s m args below meth c A9 C
  refine v_aload_n C dX0_areThere_0 0 rfl ?_
  refine v_iload_n C dX0_areThere_1 1 rfl ?_
  refine v_callVw C (x_isCon l g a A nb nl nc r b od us tk bn suf hnb hnl hnc _) ok_X0_isContract rfl q846 rfl (Nat.le_of_ble_eq_true rfl) 0 rfl rfl rfl dX0_areThere_2 (roomL rfl rfl) ⟨rfl, rfl⟩ ?_
  refine v_if_eqB C 20 dX0_areThere_5 (by decide) (fun c5_1 => ?_) (fun c5_1 => ?_)
  · skip
    refine v_iconst (v := 0) C dX0_areThere_20 (by decide) ?_
    exact v_zret C rfl dX0_areThere_21 (Nat.le_of_ble_eq_true rfl) (Nat.le_of_ble_eq_true rfl) ⟨si (bI_f (fun q => c5_1 q.1)).symm, rfl⟩
  · skip
    refine v_aload_n C dX0_areThere_8 0 rfl ?_
    refine v_iload_n C dX0_areThere_9 2 rfl ?_
    refine v_callVw C (x_isLeg l g a A nb nl nc r b od us tk bn suf hnb hnl hnc _) ok_X0_isLeg rfl q444 rfl (Nat.le_of_ble_eq_true rfl) 0 rfl rfl rfl dX0_areThere_10 (roomL rfl rfl) ⟨rfl, rfl⟩ ?_
    refine v_ternB C 20 21 dX0_areThere_13 dX0_areThere_16 dX0_areThere_17 dX0_areThere_20 (by decide) (by decide) rfl ?_
    exact v_zret C (bI_nar _) dX0_areThere_21 (Nat.le_of_ble_eq_true rfl) (Nat.le_of_ble_eq_true rfl) ⟨si (bI_iff ⟨fun q => ⟨c5_1, q⟩, fun q => q.2⟩), rfl⟩
def M_X0_findBlend : Md := (yX0_findBlend, cX0_findBlend, 9, (some .int), 6, 155, 0, 0)
theorem ok_X0_findBlend : MOKv M_X0_findBlend 2 := ⟨q865, qs33, q89, q866, ⟨by decide +kernel, by decide +kernel, by decide +kernel⟩⟩
set_option maxHeartbeats 4000000 in
theorem x_findBlend (l : Launch) (g : GT) (a A : Nat → Nat) (nb nl nc : Nat) (r : Nat → Int32) (b : Nat → Int64) (od : Nat → Int32) (us : Int32) (tk : Nat → Int32) (bn : Int32) (suf : va_W) (hnb : nb ≤ 8) (hnl : nl ≤ 3) (hnc : nc ≤ 6) (cn : Nat) (hc : cn < nc) (lg : Nat) (hl : lg < nl) (hcw : ∀ c, c < nc → ∃ wd, r (94 + 6 * c + 1) = nI wd ∧ 0 < wd ∧ wd ≤ 20000) : Ct l g M_X0_findBlend [.ref (a 0), .int (nI cn), .int (nI lg)] (cw g a A nb nl nc r b od us tk bn suf) (fun rv w => rv = some (.int (x_fb r nb cn lg)) ∧ ∃ f us' u bn', w = cw g a A nb nl nc r b f us' u bn' suf ∧ (x_fb r nb cn lg = 0 → us' = nI (xgC r nb cn lg) ∧ ordOk f (xgN r nb cn lg) (xgC r nb cn lg) ∧ bn' = nI (x_bestN r nb cn lg))) := by
  refine Ct.start2 (M := M_X0_findBlend) rfl [(0, .ref (a 0)), (1, .int (nI cn)), (2, .int (nI lg))] rfl (by decide +kernel) (Nat.le_of_ble_eq_true rfl) ?_
  intro p e s m args below meth c A9 C
  obtain ⟨wd, hw, hw1, hw2⟩ := hcw cn hc
  have hwc : (r (94 + 6 * cn + 1)).toNatClampNeg = wd := by rw [hw]; exact nI_clamp (by omega)
  refine v_aload_n C dX0_findBlend_0 0 rfl ?_
  refine v_get C in_X0 rfl 0 rfl 0 (by decide) q483 (fun _ h => h) rfl dX0_findBlend_1 ?_
  refine v_getN C in_X1 rfl 3 rfl 2 (by decide) q159 (fun _ h => h) rfl dX0_findBlend_4 ?_
  refine v_iload_n C dX0_findBlend_7 1 rfl ?_
  refine v_zMV (ws' := (cw g a A nb nl nc r b od us tk bn suf)) C (j_get l g (A 5) (A 6) 6 (nI nc) nc (rfs A 30 nc) cn (A (30 + cn)) hc hnc (by decide) (rfs_at A 30 hc)) [_, _, _, _, _, _, _, _] rfl ok_J2_get rfl q359 rfl (Nat.le_of_ble_eq_true rfl) 0 rfl rfl rfl dX0_findBlend_8 (roomL rfl rfl) ⟨rfl, rfl⟩ rfl ?_
  refine v_castS (r := (RX6, TX6, 5)) C q761 (nb + nl + cn + 11) (cw_con hc) rfl dX0_findBlend_11 ?_
  refine v_astore_n (lv' := [(3, _), (0, _), (1, _), (2, _)]) C dX0_findBlend_14 rfl (by decide) rfl ?_
  refine v_aload_n C dX0_findBlend_15 1 rfl ?_
  refine v_get C in_X0 rfl 0 rfl 0 (by decide) q483 (fun _ h => h) rfl dX0_findBlend_16 ?_
  refine v_iload_n C dX0_findBlend_19 3 rfl ?_
  refine v_zTV (ws' := (cw g a A nb nl nc r b od us tk bn suf)) C (x_stands l g A nb nl nc r b suf hnb hnl hnc lg hl) [_, _, _] rfl ok_X1_stands rfl q795 rfl (Nat.le_of_ble_eq_true rfl) 0 rfl rfl rfl dX0_findBlend_20 (roomL rfl rfl) ⟨rfl, rfl⟩ rfl ?_
  refine v_if_eqB C 28 dX0_findBlend_23 (by decide) (fun c23_1 => ?_) (fun c23_1 => ?_)
  · skip
    refine v_aload_n C dX0_findBlend_28 1 rfl ?_
    refine v_aload_n C dX0_findBlend_29 0 rfl ?_
    refine v_getN C in_X6 rfl (nb + nl + cn + 11) (cw_con hc) 0 (by decide) q702 (fun _ h => h) rfl dX0_findBlend_30 ?_
    refine v_eqi (show _ = r (94 + 6 * cn + 0) from rfl) ?_
    refine v_iload_n C dX0_findBlend_33 3 rfl ?_
    refine v_callVq C (x_orderUseful l g a A nb nl nc r b od us tk bn suf hnb hnl hnc _ lg hl) ok_X0_orderUseful rfl q867 rfl (Nat.le_of_ble_eq_true rfl) 0 rfl rfl rfl dX0_findBlend_34 (roomL rfl rfl) ⟨rfl, rfl⟩ ?_
    rintro _ ⟨f, rfl, hf⟩
    obtain ⟨hcn, hog⟩ := xog_ok r (r (94 + 6 * cn + 0)) lg nb
    refine v_aload_n C dX0_findBlend_37 1 rfl ?_
    refine v_callVw C (x_usefulUnits l g a A nb nl nc r b f (nI (xgC r nb cn lg)) tk bn suf hnb hnl hnc (xgC r nb cn lg) (xgN r nb cn lg) (Nat.le_trans hcn hnb) rfl hf hog) ok_X0_usefulUnits rfl q876 rfl (Nat.le_of_ble_eq_true rfl) 0 rfl rfl rfl dX0_findBlend_38 (roomL rfl rfl) ⟨rfl, rfl⟩ ?_
    refine v_aload_n C dX0_findBlend_41 0 rfl ?_
    refine v_getN C in_X6 rfl (nb + nl + cn + 11) (cw_con hc) 1 (by decide) q704 (fun _ h => h) rfl dX0_findBlend_42 ?_
    refine v_eqi (show _ = r (94 + 6 * cn + 1) from rfl) ?_
    refine v_icmp_ge C 51 dX0_findBlend_45 (by decide) (fun c45_2 => ?_) (fun c45_2 => ?_)
    · skip
      refine v_aload_n C dX0_findBlend_51 0 rfl ?_
      refine v_getN C in_X6 rfl (nb + nl + cn + 11) (cw_con hc) 2 (by decide) q706 (fun _ h => h) rfl dX0_findBlend_52 ?_
      refine v_eqi (show _ = r (94 + 6 * cn + 2) from rfl) ?_
      refine v_i2l C dX0_findBlend_55 ?_
      refine v_aload_n C dX0_findBlend_56 0 rfl ?_
      refine v_getN C in_X6 rfl (nb + nl + cn + 11) (cw_con hc) 1 (by decide) q704 (fun _ h => h) rfl dX0_findBlend_57 ?_
      refine v_eqi (show _ = r (94 + 6 * cn + 1) from rfl) ?_
      refine v_i2l C dX0_findBlend_60 ?_
      refine v_lmul C dX0_findBlend_61 ?_
      refine v_lstore (lv' := [(4, _), (3, _), (0, _), (1, _), (2, _)]) C dX0_findBlend_62 (by decide) rfl ?_
      refine v_aload_n C dX0_findBlend_64 2 rfl ?_
      refine v_aload_n C dX0_findBlend_65 1 rfl ?_
      refine v_getN C in_X6 rfl (nb + nl + cn + 11) (cw_con hc) 1 (by decide) q704 (fun _ h => h) rfl dX0_findBlend_66 ?_
      refine v_eqi (show _ = r (94 + 6 * cn + 1) from rfl) ?_
      refine v_iconst (v := 0) C dX0_findBlend_69 (by decide) ?_
      refine v_callVw C (x_findTakes l g a A nb nl nc r b f (nI (xgC r nb cn lg)) tk bn suf hnb hnl hnc (xgC r nb cn lg) (xgN r nb cn lg) (Nat.le_trans hcn hnb) rfl hf hog _ _) ok_X0_findTakes rfl q880 rfl (Nat.le_of_ble_eq_true rfl) 0 rfl rfl rfl dX0_findBlend_70 (roomL rfl rfl) ⟨rfl, rfl⟩ ?_
      refine v_lload C dX0_findBlend_73 0 rfl ?_
      refine v_lcmp C dX0_findBlend_75 ?_
      refine v_if_le C 82 dX0_findBlend_76 (by decide) (fun c76_3 => ?_) (fun c76_3 => ?_)
      · skip
        refine v_iconst (v := 0) C dX0_findBlend_82 (by decide) ?_
        refine v_istore (lv' := [(6, _), (4, _), (3, _), (0, _), (1, _), (2, _)]) C dX0_findBlend_83 (by decide) rfl ?_
        refine v_aload_n C dX0_findBlend_85 2 rfl ?_
        refine v_getN C in_X6 rfl (nb + nl + cn + 11) (cw_con hc) 1 (by decide) q704 (fun _ h => h) rfl dX0_findBlend_86 ?_
        refine v_eqi (show _ = r (94 + 6 * cn + 1) from rfl) ?_
        refine v_eqi hw ?_
        refine v_iconst (v := 1) C dX0_findBlend_89 (by decide) ?_
        refine v_iadd C dX0_findBlend_90 ?_
        refine v_eqi (nI_add wd 1) ?_
        refine v_istore (lv' := [(7, _), (6, _), (4, _), (3, _), (0, _), (1, _), (2, _)]) C dX0_findBlend_91 (by decide) rfl ?_
        refine v_while (α := Nat × Nat × Nat × (Nat → Int32)) (fun x => x.2.2.1 - x.2.1) (fun x => x.2.1 < x.2.2.1 ∧ x.2.2.1 ≤ wd + 1 ∧ x.2.2.1 - x.2.1 ≤ x.1 ∧ bsr (xbT r nb cn lg) ((r (94 + 6 * cn + 1)).toNatClampNeg + 1) 0 ((r (94 + 6 * cn + 1)).toNatClampNeg + 1) = bsr (xbT r nb cn lg) x.1 x.2.1 x.2.2.1) (fun x => [(7, .int (nI x.2.2.1)), (6, .int (nI x.2.1)), (4, .long (xMost r cn)), (3, .ref (A (30 + cn))), (0, .ref (a 0)), (1, .int (nI cn)), (2, .int (nI lg))]) (fun x => cw g a A nb nl nc r b f (nI (xgC r nb cn lg)) x.2.2.2 bn suf) (wd + 1, 0, wd + 1, xuN r nb cn lg 0) rfl rfl ⟨by dsimp only; omega, by dsimp only; omega, by dsimp only; omega, by dsimp only; rw [hwc]⟩ ?_
        rintro ⟨fu, lo, hi, u⟩ ⟨h1, h2, h3, hfin⟩ ih
        dsimp only at h1 h2 h3 hfin ih ⊢
        obtain ⟨fu, rfl⟩ : ∃ z, fu = z + 1 := ⟨fu - 1, by omega⟩
        refine v_iload C dX0_findBlend_93 0 rfl ?_
        refine v_iload C dX0_findBlend_95 1 rfl ?_
        refine v_isub C dX0_findBlend_97 ?_
        refine v_eqi (pk_sub (Nat.le_of_lt h1)) ?_
        refine v_iconst (v := 1) C dX0_findBlend_98 (by decide) ?_
        refine v_icmp_le C 141 dX0_findBlend_99 (by decide) (fun c99_4 => ?_) (fun c99_4 => ?_)
        · skip
          have hle : hi - lo ≤ 1 := (nI_leI (by omega) (by decide)).mp c99_4
          refine v_aload_n C dX0_findBlend_141 4 rfl ?_
          refine v_iload C dX0_findBlend_142 1 rfl ?_
          refine v_put (ws' := (cw g a A nb nl nc r b f (nI (xgC r nb cn lg)) u (nI lo) suf)) C in_X0 tyX0 tyX0_ok nmX0 rfl 0 rfl 6 (by decide) q489 (fun _ h => h) rfl rfl rfl (Nat.le_of_ble_eq_true rfl) dX0_findBlend_144 rfl ?_
          refine v_iconst (v := 0) C dX0_findBlend_147 (by decide) ?_
          exact v_iret C dX0_findBlend_148 (Nat.le_of_ble_eq_true rfl) (Nat.le_of_ble_eq_true rfl) (by rw [show x_fb r nb cn lg = 0 by unfold x_fb; rw [if_neg c23_1, if_pos c45_2, if_pos c76_3]]; exact ⟨rfl, f, _, _, _, rfl, fun _ => ⟨rfl, hf, by rw [x_bestN, hfin, bsr, if_pos hle]⟩⟩)
        · skip
          have hgt : ¬ hi - lo ≤ 1 := fun q => c99_4 ((nI_leI (by omega) (by decide)).mpr q)
          refine v_iload C dX0_findBlend_102 1 rfl ?_
          refine v_iload C dX0_findBlend_104 0 rfl ?_
          refine v_iadd C dX0_findBlend_106 ?_
          refine v_eqi (nI_add lo hi) ?_
          refine v_iconst (v := 2) C dX0_findBlend_107 (by decide) ?_
          refine v_idiv C dX0_findBlend_108 (by decide) ?_
          refine v_eqi (pk_div (a := lo + hi) (d := 2) (by omega) (by decide) (by decide)) ?_
          refine v_istore (lv' := [(8, _), (7, _), (6, _), (4, _), (3, _), (0, _), (1, _), (2, _)]) C dX0_findBlend_109 (by decide) rfl ?_
          refine v_aload_n C dX0_findBlend_111 5 rfl ?_
          refine v_aload_n C dX0_findBlend_112 4 rfl ?_
          refine v_getN C in_X6 rfl (nb + nl + cn + 11) (cw_con hc) 1 (by decide) q704 (fun _ h => h) rfl dX0_findBlend_113 ?_
          refine v_eqi (show _ = r (94 + 6 * cn + 1) from rfl) ?_
          refine v_iload C dX0_findBlend_116 0 rfl ?_
          refine v_callVw C (x_findTakes l g a A nb nl nc r b f (nI (xgC r nb cn lg)) u bn suf hnb hnl hnc (xgC r nb cn lg) (xgN r nb cn lg) (Nat.le_trans hcn hnb) rfl hf hog _ _) ok_X0_findTakes rfl q880 rfl (Nat.le_of_ble_eq_true rfl) 0 rfl rfl rfl dX0_findBlend_118 (roomL rfl rfl) ⟨rfl, rfl⟩ ?_
          refine v_lload C dX0_findBlend_121 3 rfl ?_
          refine v_lcmp C dX0_findBlend_123 ?_
          refine v_if_gt C 134 dX0_findBlend_124 (by decide) (fun c124_5 => ?_) (fun c124_5 => ?_)
          · skip
            refine v_iload C dX0_findBlend_134 0 rfl ?_
            refine v_istore (lv' := [(7, _), (8, _), (6, _), (4, _), (3, _), (0, _), (1, _), (2, _)]) C dX0_findBlend_136 (by decide) rfl ?_
            refine v_goto C 93 dX0_findBlend_138 (by decide) ?_
            refine v_lvp (lv' := [(7, _), (6, _), (4, _), (3, _), (0, _), (1, _), (2, _)]) [0, 2, 3, 4, 5, 6, 7] rfl ?_
            have ht : ¬ xbT r nb cn lg ((lo + hi) / 2) = true := by unfold xbT; rw [decide_eq_true_eq]; exact fun q => q c124_5
            exact ih (fu, lo, ((lo + hi) / 2), xuN r nb cn lg (nI ((lo + hi) / 2))) ⟨by dsimp only; omega, by dsimp only; omega, by dsimp only; omega, by dsimp only; rw [hfin, bsr, if_neg hgt, if_neg ht]⟩ (by dsimp only; omega)
          · skip
            refine v_iload C dX0_findBlend_127 0 rfl ?_
            refine v_istore (lv' := [(6, _), (8, _), (7, _), (4, _), (3, _), (0, _), (1, _), (2, _)]) C dX0_findBlend_129 (by decide) rfl ?_
            refine v_goto C 138 dX0_findBlend_131 (by decide) ?_
            refine v_goto C 93 dX0_findBlend_138 (by decide) ?_
            refine v_lvp (lv' := [(7, _), (6, _), (4, _), (3, _), (0, _), (1, _), (2, _)]) [2, 0, 3, 4, 5, 6, 7] rfl ?_
            have ht : xbT r nb cn lg ((lo + hi) / 2) = true := by unfold xbT; rw [decide_eq_true_eq]; exact c124_5
            exact ih (fu, ((lo + hi) / 2), hi, xuN r nb cn lg (nI ((lo + hi) / 2))) ⟨by dsimp only; omega, by dsimp only; omega, by dsimp only; omega, by dsimp only; rw [hfin, bsr, if_neg hgt, if_pos ht]⟩ (by dsimp only; omega)
      · skip
        refine v_bipush (v := 8) C dX0_findBlend_79 (by decide) ?_
        exact v_iret C dX0_findBlend_81 (Nat.le_of_ble_eq_true rfl) (Nat.le_of_ble_eq_true rfl) (by unfold x_fb; rw [if_neg c23_1, if_pos c45_2, if_neg c76_3]; exact ⟨rfl, _, _, _, _, rfl, fun q => absurd q (by decide)⟩)
    · skip
      refine v_bipush (v := 7) C dX0_findBlend_48 (by decide) ?_
      exact v_iret C dX0_findBlend_50 (Nat.le_of_ble_eq_true rfl) (Nat.le_of_ble_eq_true rfl) (by unfold x_fb; rw [if_neg c23_1, if_neg c45_2]; exact ⟨rfl, _, _, _, _, rfl, fun q => absurd q (by decide)⟩)
  · skip
    refine v_iconst (v := 1) C dX0_findBlend_26 (by decide) ?_
    exact v_iret C dX0_findBlend_27 (Nat.le_of_ble_eq_true rfl) (Nat.le_of_ble_eq_true rfl) (by unfold x_fb; rw [if_pos c23_1]; exact ⟨rfl, _, _, _, _, rfl, fun q => absurd q (by decide)⟩)
def M_X0_foundMoisture : Md := (yX0_foundMoisture, cX0_foundMoisture, 2, (some .int), 6, 155, 0, 0)
theorem ok_X0_foundMoisture : MOKv M_X0_foundMoisture 1 := ⟨q903, qs39, q89, q904, ⟨by decide +kernel, by decide +kernel, by decide +kernel⟩⟩
set_option maxHeartbeats 4000000 in
theorem x_foundMo (l : Launch) (g : GT) (a A : Nat → Nat) (nb nl nc : Nat) (r : Nat → Int32) (b : Nat → Int64) (od : Nat → Int32) (us : Int32) (tk : Nat → Int32) (bn : Int32) (suf : va_W) (hnb : nb ≤ 8) (hnl : nl ≤ 3) (hnc : nc ≤ 6) (n : Nat) (og : Nat → Nat) (hn8 : n ≤ 8) (hus : us = nI n) (hord : ordOk od og n) (hog : ∀ k, k < n → og k < nb) (am : Int32) (ha : ¬ am = 0) : CtE l g M_X0_foundMoisture [.ref (a 0), .int am] (cw g a A nb nl nc r b od us tk bn suf) (some (.int (x_fm r og n am bn))) (cw g a A nb nl nc r b od (nI n) (xU r og n am bn) bn suf) := by
  refine Ct.start2 (M := M_X0_foundMoisture) rfl [(0, .ref (a 0)), (1, .int am)] rfl (by decide +kernel) (Nat.le_of_ble_eq_true rfl) ?_
  intro p e s m args below meth c A9 C
  subst hus
  refine v_aload_n C dX0_foundMoisture_0 0 rfl ?_
  refine v_iload_n C dX0_foundMoisture_1 1 rfl ?_
  refine v_aload_n C dX0_foundMoisture_2 0 rfl ?_
  refine v_get C in_X0 rfl 0 rfl 6 (by decide) q489 (fun _ h => h) rfl dX0_foundMoisture_3 ?_
  refine v_callVw C (x_findTakes l g a A nb nl nc r b od (nI n) tk bn suf hnb hnl hnc n og hn8 rfl hord hog _ _) ok_X0_findTakes rfl q880 rfl (Nat.le_of_ble_eq_true rfl) 0 rfl rfl rfl dX0_foundMoisture_6 (roomL rfl rfl) ⟨rfl, rfl⟩ ?_
  refine v_iload_n C dX0_foundMoisture_9 1 rfl ?_
  refine v_i2l C dX0_foundMoisture_10 ?_
  refine v_ladd C dX0_foundMoisture_11 ?_
  refine v_lconst (v := 1) C dX0_foundMoisture_12 (by decide) ?_
  refine v_lsub C dX0_foundMoisture_13 ?_
  refine v_iload_n C dX0_foundMoisture_14 1 rfl ?_
  refine v_i2l C dX0_foundMoisture_15 ?_
  refine v_ldiv C dX0_foundMoisture_16 (ne0_l ha) ?_
  refine v_l2i C dX0_foundMoisture_17 ?_
  exact v_iret C dX0_foundMoisture_18 (Nat.le_of_ble_eq_true rfl) (Nat.le_of_ble_eq_true rfl) ⟨rfl, rfl⟩
def M_X0_blend : Md := (yX0_blend, cX0_blend, 3, (some .int), 7, 183, 0, 0)
theorem ok_X0_blend : MOKv M_X0_blend 2 := ⟨q856, q857, q89, q858, ⟨by decide +kernel, by decide +kernel, by decide +kernel⟩⟩
set_option maxHeartbeats 4000000 in
theorem x_pblend (l : Launch) (g : GT) (a A : Nat → Nat) (nb nl nc : Nat) (r : Nat → Int32) (b : Nat → Int64) (od : Nat → Int32) (us : Int32) (tk : Nat → Int32) (bn : Int32) (suf : va_W) (hnb : nb ≤ 8) (hnl : nl ≤ 3) (hnc : nc ≤ 6) (con leg : Int32) (hcw : ∀ c, c < nc → ∃ wd, r (94 + 6 * c + 1) = nI wd ∧ 0 < wd ∧ wd ≤ 20000) : Ct l g M_X0_blend [.ref (a 0), .int con, .int leg] (cw g a A nb nl nc r b od us tk bn suf) (fun rv w => rv = some (.int (x_blend r nb nl nc con leg)) ∧ ∃ f us' u bn', w = cw g a A nb nl nc r b f us' u bn' suf) := by
  refine Ct.start2 (M := M_X0_blend) rfl [(0, .ref (a 0)), (1, .int con), (2, .int leg)] rfl (by decide +kernel) (Nat.le_of_ble_eq_true rfl) ?_
  intro p e s m args below meth c A9 C
  refine v_aload_n C dX0_blend_0 0 rfl ?_
  refine v_iload_n C dX0_blend_1 1 rfl ?_
  refine v_iload_n C dX0_blend_2 2 rfl ?_
  refine v_callVw C (x_areThere l g a A nb nl nc r b od us tk bn suf hnb hnl hnc _ _) ok_X0_areThere rfl q859 rfl (Nat.le_of_ble_eq_true rfl) 0 rfl rfl rfl dX0_blend_3 (roomL rfl rfl) ⟨rfl, rfl⟩ ?_
  refine v_if_neB C 12 dX0_blend_6 (by decide) (fun c6_1 => ?_) (fun c6_1 => ?_)
  · skip
    obtain ⟨hq1, hq2⟩ := id c6_1
    obtain ⟨econ, hcon⟩ := isB_c (n := nc) rfl (by omega) hq1
    obtain ⟨eleg, hleg⟩ := isB_c (n := nl) rfl (by omega) hq2
    obtain ⟨wd, hw, hw1, hw2⟩ := hcw _ hcon
    have hw0 : ¬ r (94 + 6 * con.toNatClampNeg + 1) = 0 := by rw [hw]; exact nI_ne0 hw1 (by omega)
    refine v_aload_n C dX0_blend_12 0 rfl ?_
    refine v_iload_n C dX0_blend_13 1 rfl ?_
    refine v_eqi econ ?_
    refine v_iload_n C dX0_blend_14 2 rfl ?_
    refine v_eqi eleg ?_
    refine v_callVp C (x_findBlend l g a A nb nl nc r b od us tk bn suf hnb hnl hnc con.toNatClampNeg hcon leg.toNatClampNeg hleg hcw) ok_X0_findBlend rfl q863 rfl (Nat.le_of_ble_eq_true rfl) 0 rfl rfl rfl dX0_blend_15 (roomL rfl rfl) ⟨rfl, rfl⟩ ?_
    rintro _ ⟨f, us1, u, bn1, rfl, hpr⟩
    obtain ⟨hcn, hog⟩ := xog_ok r (r (94 + 6 * con.toNatClampNeg + 0)) leg.toNatClampNeg nb
    refine v_if_le C 25 dX0_blend_18 (by decide) (fun c18_2 => ?_) (fun c18_2 => ?_)
    · skip
      obtain ⟨e1, hf, e2⟩ := hpr (x_fb0 c18_2)
      subst e1; subst e2
      refine v_aload_n C dX0_blend_25 0 rfl ?_
      refine v_get C in_X0 rfl 0 rfl 6 (by decide) q489 (fun _ h => h) rfl dX0_blend_26 ?_
      exact v_iret C dX0_blend_29 (Nat.le_of_ble_eq_true rfl) (Nat.le_of_ble_eq_true rfl) (by unfold x_blend; rw [if_pos c6_1, if_pos c18_2]; exact ⟨rfl, _, _, _, _, rfl⟩)
    · skip
      refine v_iconst (v := -1) C dX0_blend_21 (by decide) ?_
      refine v_goto C 29 dX0_blend_22 (by decide) ?_
      exact v_iret C dX0_blend_29 (Nat.le_of_ble_eq_true rfl) (Nat.le_of_ble_eq_true rfl) (by unfold x_blend; rw [if_pos c6_1, if_neg c18_2]; exact ⟨rfl, _, _, _, _, rfl⟩)
  · skip
    refine v_bipush (v := -2) C dX0_blend_9 (by decide) ?_
    exact v_iret C dX0_blend_11 (Nat.le_of_ble_eq_true rfl) (Nat.le_of_ble_eq_true rfl) (by unfold x_blend; rw [if_neg c6_1]; exact ⟨rfl, _, _, _, _, rfl⟩)
def M_X0_whyNoBlend : Md := (yX0_whyNoBlend, cX0_whyNoBlend, 3, (some .int), 7, 183, 0, 0)
theorem ok_X0_whyNoBlend : MOKv M_X0_whyNoBlend 2 := ⟨q890, q891, q89, q892, ⟨by decide +kernel, by decide +kernel, by decide +kernel⟩⟩
set_option maxHeartbeats 4000000 in
theorem x_pwhyNoBlend (l : Launch) (g : GT) (a A : Nat → Nat) (nb nl nc : Nat) (r : Nat → Int32) (b : Nat → Int64) (od : Nat → Int32) (us : Int32) (tk : Nat → Int32) (bn : Int32) (suf : va_W) (hnb : nb ≤ 8) (hnl : nl ≤ 3) (hnc : nc ≤ 6) (con leg : Int32) (hcw : ∀ c, c < nc → ∃ wd, r (94 + 6 * c + 1) = nI wd ∧ 0 < wd ∧ wd ≤ 20000) : Ct l g M_X0_whyNoBlend [.ref (a 0), .int con, .int leg] (cw g a A nb nl nc r b od us tk bn suf) (fun rv w => rv = some (.int (x_whyB r nb nl nc con leg)) ∧ ∃ f us' u bn', w = cw g a A nb nl nc r b f us' u bn' suf) := by
  refine Ct.start2 (M := M_X0_whyNoBlend) rfl [(0, .ref (a 0)), (1, .int con), (2, .int leg)] rfl (by decide +kernel) (Nat.le_of_ble_eq_true rfl) ?_
  intro p e s m args below meth c A9 C
  refine v_aload_n C dX0_whyNoBlend_0 0 rfl ?_
  refine v_iload_n C dX0_whyNoBlend_1 1 rfl ?_
  refine v_iload_n C dX0_whyNoBlend_2 2 rfl ?_
  refine v_callVw C (x_areThere l g a A nb nl nc r b od us tk bn suf hnb hnl hnc _ _) ok_X0_areThere rfl q859 rfl (Nat.le_of_ble_eq_true rfl) 0 rfl rfl rfl dX0_whyNoBlend_3 (roomL rfl rfl) ⟨rfl, rfl⟩ ?_
  refine v_if_eqB C 18 dX0_whyNoBlend_6 (by decide) (fun c6_1 => ?_) (fun c6_1 => ?_)
  · skip
    refine v_bipush (v := -2) C dX0_whyNoBlend_18 (by decide) ?_
    exact v_iret C dX0_whyNoBlend_20 (Nat.le_of_ble_eq_true rfl) (Nat.le_of_ble_eq_true rfl) (by unfold x_whyB; rw [if_neg c6_1]; exact ⟨rfl, _, _, _, _, rfl⟩)
  · skip
    obtain ⟨hq1, hq2⟩ := id c6_1
    obtain ⟨econ, hcon⟩ := isB_c (n := nc) rfl (by omega) hq1
    obtain ⟨eleg, hleg⟩ := isB_c (n := nl) rfl (by omega) hq2
    obtain ⟨wd, hw, hw1, hw2⟩ := hcw _ hcon
    have hw0 : ¬ r (94 + 6 * con.toNatClampNeg + 1) = 0 := by rw [hw]; exact nI_ne0 hw1 (by omega)
    refine v_aload_n C dX0_whyNoBlend_9 0 rfl ?_
    refine v_iload_n C dX0_whyNoBlend_10 1 rfl ?_
    refine v_eqi econ ?_
    refine v_iload_n C dX0_whyNoBlend_11 2 rfl ?_
    refine v_eqi eleg ?_
    refine v_callVp C (x_findBlend l g a A nb nl nc r b od us tk bn suf hnb hnl hnc con.toNatClampNeg hcon leg.toNatClampNeg hleg hcw) ok_X0_findBlend rfl q863 rfl (Nat.le_of_ble_eq_true rfl) 0 rfl rfl rfl dX0_whyNoBlend_12 (roomL rfl rfl) ⟨rfl, rfl⟩ ?_
    rintro _ ⟨f, us1, u, bn1, rfl, hpr⟩
    obtain ⟨hcn, hog⟩ := xog_ok r (r (94 + 6 * con.toNatClampNeg + 0)) leg.toNatClampNeg nb
    refine v_goto C 20 dX0_whyNoBlend_15 (by decide) ?_
    exact v_iret C dX0_whyNoBlend_20 (Nat.le_of_ble_eq_true rfl) (Nat.le_of_ble_eq_true rfl) (by unfold x_whyB; rw [if_pos c6_1]; exact ⟨rfl, _, _, _, _, rfl⟩)
def M_X0_blendMoisture : Md := (yX0_blendMoisture, cX0_blendMoisture, 3, (some .int), 7, 183, 0, 0)
theorem ok_X0_blendMoisture : MOKv M_X0_blendMoisture 2 := ⟨q898, q899, q89, q900, ⟨by decide +kernel, by decide +kernel, by decide +kernel⟩⟩
set_option maxHeartbeats 4000000 in
theorem x_pblendMoisture (l : Launch) (g : GT) (a A : Nat → Nat) (nb nl nc : Nat) (r : Nat → Int32) (b : Nat → Int64) (od : Nat → Int32) (us : Int32) (tk : Nat → Int32) (bn : Int32) (suf : va_W) (hnb : nb ≤ 8) (hnl : nl ≤ 3) (hnc : nc ≤ 6) (con leg : Int32) (hcw : ∀ c, c < nc → ∃ wd, r (94 + 6 * c + 1) = nI wd ∧ 0 < wd ∧ wd ≤ 20000) : Ct l g M_X0_blendMoisture [.ref (a 0), .int con, .int leg] (cw g a A nb nl nc r b od us tk bn suf) (fun rv w => rv = some (.int (x_blM r nb nl nc con leg)) ∧ ∃ f us' u bn', w = cw g a A nb nl nc r b f us' u bn' suf) := by
  refine Ct.start2 (M := M_X0_blendMoisture) rfl [(0, .ref (a 0)), (1, .int con), (2, .int leg)] rfl (by decide +kernel) (Nat.le_of_ble_eq_true rfl) ?_
  intro p e s m args below meth c A9 C
  refine v_aload_n C dX0_blendMoisture_0 0 rfl ?_
  refine v_iload_n C dX0_blendMoisture_1 1 rfl ?_
  refine v_iload_n C dX0_blendMoisture_2 2 rfl ?_
  refine v_callVw C (x_areThere l g a A nb nl nc r b od us tk bn suf hnb hnl hnc _ _) ok_X0_areThere rfl q859 rfl (Nat.le_of_ble_eq_true rfl) 0 rfl rfl rfl dX0_blendMoisture_3 (roomL rfl rfl) ⟨rfl, rfl⟩ ?_
  refine v_if_neB C 12 dX0_blendMoisture_6 (by decide) (fun c6_1 => ?_) (fun c6_1 => ?_)
  · skip
    obtain ⟨hq1, hq2⟩ := id c6_1
    obtain ⟨econ, hcon⟩ := isB_c (n := nc) rfl (by omega) hq1
    obtain ⟨eleg, hleg⟩ := isB_c (n := nl) rfl (by omega) hq2
    obtain ⟨wd, hw, hw1, hw2⟩ := hcw _ hcon
    have hw0 : ¬ r (94 + 6 * con.toNatClampNeg + 1) = 0 := by rw [hw]; exact nI_ne0 hw1 (by omega)
    refine v_aload_n C dX0_blendMoisture_12 0 rfl ?_
    refine v_iload_n C dX0_blendMoisture_13 1 rfl ?_
    refine v_eqi econ ?_
    refine v_iload_n C dX0_blendMoisture_14 2 rfl ?_
    refine v_eqi eleg ?_
    refine v_callVp C (x_findBlend l g a A nb nl nc r b od us tk bn suf hnb hnl hnc con.toNatClampNeg hcon leg.toNatClampNeg hleg hcw) ok_X0_findBlend rfl q863 rfl (Nat.le_of_ble_eq_true rfl) 0 rfl rfl rfl dX0_blendMoisture_15 (roomL rfl rfl) ⟨rfl, rfl⟩ ?_
    rintro _ ⟨f, us1, u, bn1, rfl, hpr⟩
    obtain ⟨hcn, hog⟩ := xog_ok r (r (94 + 6 * con.toNatClampNeg + 0)) leg.toNatClampNeg nb
    refine v_if_le C 25 dX0_blendMoisture_18 (by decide) (fun c18_2 => ?_) (fun c18_2 => ?_)
    · skip
      obtain ⟨e1, hf, e2⟩ := hpr (x_fb0 c18_2)
      subst e1; subst e2
      refine v_aload_n C dX0_blendMoisture_25 0 rfl ?_
      refine v_aload_n C dX0_blendMoisture_26 0 rfl ?_
      refine v_get C in_X0 rfl 0 rfl 0 (by decide) q483 (fun _ h => h) rfl dX0_blendMoisture_27 ?_
      refine v_getN C in_X1 rfl 3 rfl 2 (by decide) q159 (fun _ h => h) rfl dX0_blendMoisture_30 ?_
      refine v_iload_n C dX0_blendMoisture_33 1 rfl ?_
      refine v_eqi econ ?_
      refine v_zMV (ws' := (cw g a A nb nl nc r b f (nI (xgC r nb con.toNatClampNeg leg.toNatClampNeg)) u (nI (x_bestN r nb con.toNatClampNeg leg.toNatClampNeg)) suf)) C (j_get l g (A 5) (A 6) 6 (nI nc) nc (rfs A 30 nc) con.toNatClampNeg (A (30 + con.toNatClampNeg)) hcon hnc (by decide) (rfs_at A 30 hcon)) [_, _, _, _, _, _, _, _] rfl ok_J2_get rfl q359 rfl (Nat.le_of_ble_eq_true rfl) 0 rfl rfl rfl dX0_blendMoisture_34 (roomL rfl rfl) ⟨rfl, rfl⟩ rfl ?_
      refine v_castS (r := (RX6, TX6, 5)) C q761 (nb + nl + con.toNatClampNeg + 11) (cw_con hcon) rfl dX0_blendMoisture_37 ?_
      refine v_getN C in_X6 rfl (nb + nl + con.toNatClampNeg + 11) (cw_con hcon) 1 (by decide) q704 (fun _ h => h) rfl dX0_blendMoisture_40 ?_
      refine v_eqi (show _ = r (94 + 6 * con.toNatClampNeg + 1) from rfl) ?_
      refine v_callVw C (x_foundMo l g a A nb nl nc r b f (nI (xgC r nb con.toNatClampNeg leg.toNatClampNeg)) u (nI (x_bestN r nb con.toNatClampNeg leg.toNatClampNeg)) suf hnb hnl hnc (xgC r nb con.toNatClampNeg leg.toNatClampNeg) (xgN r nb con.toNatClampNeg leg.toNatClampNeg) (Nat.le_trans hcn hnb) rfl hf hog _ hw0) ok_X0_foundMoisture rfl q901 rfl (Nat.le_of_ble_eq_true rfl) 0 rfl rfl rfl dX0_blendMoisture_43 (roomL rfl rfl) ⟨rfl, rfl⟩ ?_
      exact v_iret C dX0_blendMoisture_46 (Nat.le_of_ble_eq_true rfl) (Nat.le_of_ble_eq_true rfl) (by unfold x_blM; rw [if_pos c6_1, if_pos c18_2]; exact ⟨rfl, _, _, _, _, rfl⟩)
    · skip
      refine v_iconst (v := -1) C dX0_blendMoisture_21 (by decide) ?_
      refine v_goto C 46 dX0_blendMoisture_22 (by decide) ?_
      exact v_iret C dX0_blendMoisture_46 (Nat.le_of_ble_eq_true rfl) (Nat.le_of_ble_eq_true rfl) (by unfold x_blM; rw [if_pos c6_1, if_neg c18_2]; exact ⟨rfl, _, _, _, _, rfl⟩)
  · skip
    refine v_bipush (v := -2) C dX0_blendMoisture_9 (by decide) ?_
    exact v_iret C dX0_blendMoisture_11 (Nat.le_of_ble_eq_true rfl) (Nat.le_of_ble_eq_true rfl) (by unfold x_blM; rw [if_neg c6_1]; exact ⟨rfl, _, _, _, _, rfl⟩)
def M_X0_fromBin : Md := (yX0_fromBin, cX0_fromBin, 6, (some .int), 7, 183, 0, 0)
theorem ok_X0_fromBin : MOKv M_X0_fromBin 3 := ⟨q894, q895, q89, q896, ⟨by decide +kernel, by decide +kernel, by decide +kernel⟩⟩
set_option maxHeartbeats 4000000 in
theorem x_fromBin (l : Launch) (g : GT) (a A : Nat → Nat) (nb nl nc : Nat) (r : Nat → Int32) (b : Nat → Int64) (od : Nat → Int32) (us : Int32) (tk : Nat → Int32) (bn : Int32) (suf : va_W) (hnb : nb ≤ 8) (hnl : nl ≤ 3) (hnc : nc ≤ 6) (con leg bin : Int32) (hcw : ∀ c, c < nc → ∃ wd, r (94 + 6 * c + 1) = nI wd ∧ 0 < wd ∧ wd ≤ 20000) : Ct l g M_X0_fromBin [.ref (a 0), .int con, .int leg, .int bin] (cw g a A nb nl nc r b od us tk bn suf) (fun rv w => rv = some (.int (x_from r nb nl nc con leg bin)) ∧ ∃ f us' u bn', w = cw g a A nb nl nc r b f us' u bn' suf) := by
  refine Ct.start2 (M := M_X0_fromBin) rfl [(0, .ref (a 0)), (1, .int con), (2, .int leg), (3, .int bin)] rfl (by decide +kernel) (Nat.le_of_ble_eq_true rfl) ?_
  intro p e s m args below meth c A9 C
  refine v_aload_n C dX0_fromBin_0 0 rfl ?_
  refine v_iload_n C dX0_fromBin_1 1 rfl ?_
  refine v_iload_n C dX0_fromBin_2 2 rfl ?_
  refine v_callVw C (x_areThere l g a A nb nl nc r b od us tk bn suf hnb hnl hnc _ _) ok_X0_areThere rfl q859 rfl (Nat.le_of_ble_eq_true rfl) 0 rfl rfl rfl dX0_fromBin_3 (roomL rfl rfl) ⟨rfl, rfl⟩ ?_
  refine v_if_eqB C 17 dX0_fromBin_6 (by decide) (fun c6_1 => ?_) (fun c6_1 => ?_)
  · skip
    refine v_bipush (v := -2) C dX0_fromBin_17 (by decide) ?_
    exact v_iret C dX0_fromBin_19 (Nat.le_of_ble_eq_true rfl) (Nat.le_of_ble_eq_true rfl) (by unfold x_from; rw [if_neg c6_1]; exact ⟨rfl, _, _, _, _, rfl⟩)
  · skip
    obtain ⟨hq1, hq2⟩ := id c6_1
    obtain ⟨econ, hcon⟩ := isB_c (n := nc) rfl (by omega) hq1
    obtain ⟨eleg, hleg⟩ := isB_c (n := nl) rfl (by omega) hq2
    obtain ⟨wd, hw, hw1, hw2⟩ := hcw _ hcon
    have hw0 : ¬ r (94 + 6 * con.toNatClampNeg + 1) = 0 := by rw [hw]; exact nI_ne0 hw1 (by omega)
    refine v_aload_n C dX0_fromBin_9 0 rfl ?_
    refine v_iload_n C dX0_fromBin_10 3 rfl ?_
    refine v_callVw C (x_isBin l g a A nb nl nc r b od us tk bn suf hnb hnl hnc _) ok_X0_isBin rfl q463 rfl (Nat.le_of_ble_eq_true rfl) 0 rfl rfl rfl dX0_fromBin_11 (roomL rfl rfl) ⟨rfl, rfl⟩ ?_
    refine v_if_neB C 20 dX0_fromBin_14 (by decide) (fun c14_2 => ?_) (fun c14_2 => ?_)
    · skip
      obtain ⟨ebin, hbin⟩ := isB_c (n := nb) rfl (by omega) c14_2
      refine v_aload_n C dX0_fromBin_20 0 rfl ?_
      refine v_iload_n C dX0_fromBin_21 1 rfl ?_
      refine v_eqi econ ?_
      refine v_iload_n C dX0_fromBin_22 2 rfl ?_
      refine v_eqi eleg ?_
      refine v_callVp C (x_findBlend l g a A nb nl nc r b od us tk bn suf hnb hnl hnc con.toNatClampNeg hcon leg.toNatClampNeg hleg hcw) ok_X0_findBlend rfl q863 rfl (Nat.le_of_ble_eq_true rfl) 0 rfl rfl rfl dX0_fromBin_23 (roomL rfl rfl) ⟨rfl, rfl⟩ ?_
      rintro _ ⟨f, us1, u, bn1, rfl, hpr⟩
      obtain ⟨hcn, hog⟩ := xog_ok r (r (94 + 6 * con.toNatClampNeg + 0)) leg.toNatClampNeg nb
      refine v_if_le C 31 dX0_fromBin_26 (by decide) (fun c26_3 => ?_) (fun c26_3 => ?_)
      · skip
        obtain ⟨e1, hf, e2⟩ := hpr (x_fb0 c26_3)
        subst e1; subst e2
        refine v_aload_n C dX0_fromBin_31 0 rfl ?_
        refine v_aload_n C dX0_fromBin_32 0 rfl ?_
        refine v_get C in_X0 rfl 0 rfl 0 (by decide) q483 (fun _ h => h) rfl dX0_fromBin_33 ?_
        refine v_getN C in_X1 rfl 3 rfl 2 (by decide) q159 (fun _ h => h) rfl dX0_fromBin_36 ?_
        refine v_iload_n C dX0_fromBin_39 1 rfl ?_
        refine v_eqi econ ?_
        refine v_zMV (ws' := (cw g a A nb nl nc r b f (nI (xgC r nb con.toNatClampNeg leg.toNatClampNeg)) u (nI (x_bestN r nb con.toNatClampNeg leg.toNatClampNeg)) suf)) C (j_get l g (A 5) (A 6) 6 (nI nc) nc (rfs A 30 nc) con.toNatClampNeg (A (30 + con.toNatClampNeg)) hcon hnc (by decide) (rfs_at A 30 hcon)) [_, _, _, _, _, _, _, _] rfl ok_J2_get rfl q359 rfl (Nat.le_of_ble_eq_true rfl) 0 rfl rfl rfl dX0_fromBin_40 (roomL rfl rfl) ⟨rfl, rfl⟩ rfl ?_
        refine v_castS (r := (RX6, TX6, 5)) C q761 (nb + nl + con.toNatClampNeg + 11) (cw_con hcon) rfl dX0_fromBin_43 ?_
        refine v_getN C in_X6 rfl (nb + nl + con.toNatClampNeg + 11) (cw_con hcon) 1 (by decide) q704 (fun _ h => h) rfl dX0_fromBin_46 ?_
        refine v_eqi (show _ = r (94 + 6 * con.toNatClampNeg + 1) from rfl) ?_
        refine v_aload_n C dX0_fromBin_49 0 rfl ?_
        refine v_get C in_X0 rfl 0 rfl 6 (by decide) q489 (fun _ h => h) rfl dX0_fromBin_50 ?_
        refine v_callVw C (x_findTakes l g a A nb nl nc r b f (nI (xgC r nb con.toNatClampNeg leg.toNatClampNeg)) u (nI (x_bestN r nb con.toNatClampNeg leg.toNatClampNeg)) suf hnb hnl hnc (xgC r nb con.toNatClampNeg leg.toNatClampNeg) (xgN r nb con.toNatClampNeg leg.toNatClampNeg) (Nat.le_trans hcn hnb) rfl hf hog _ _) ok_X0_findTakes rfl q880 rfl (Nat.le_of_ble_eq_true rfl) 0 rfl rfl rfl dX0_fromBin_53 (roomL rfl rfl) ⟨rfl, rfl⟩ ?_
        refine v_lstore (lv' := [(4, _), (0, _), (1, _), (2, _), (3, _)]) C dX0_fromBin_56 (by decide) rfl ?_
        refine v_aload_n C dX0_fromBin_58 1 rfl ?_
        refine v_get C in_X0 rfl 0 rfl 5 (by decide) q488 (fun _ h => h) rfl dX0_fromBin_59 ?_
        refine v_iload_n C dX0_fromBin_62 4 rfl ?_
        refine v_eqi ebin ?_
        refine v_iald C dX0_fromBin_63 2 rfl (ixn (by omega) (by decide)) ?_
        exact v_iret C dX0_fromBin_64 (Nat.le_of_ble_eq_true rfl) (Nat.le_of_ble_eq_true rfl) (by unfold x_from; rw [if_pos c6_1, if_pos c14_2, if_pos c26_3]; exact ⟨rfl, _, _, _, _, rfl⟩)
      · skip
        refine v_iconst (v := -1) C dX0_fromBin_29 (by decide) ?_
        exact v_iret C dX0_fromBin_30 (Nat.le_of_ble_eq_true rfl) (Nat.le_of_ble_eq_true rfl) (by unfold x_from; rw [if_pos c6_1, if_pos c14_2, if_neg c26_3]; exact ⟨rfl, _, _, _, _, rfl⟩)
    · skip
      refine v_bipush (v := -2) C dX0_fromBin_17 (by decide) ?_
      exact v_iret C dX0_fromBin_19 (Nat.le_of_ble_eq_true rfl) (Nat.le_of_ble_eq_true rfl) (by unfold x_from; rw [if_pos c6_1, if_neg c14_2]; exact ⟨rfl, _, _, _, _, rfl⟩)
def M_X0_spoilsIn : Md := (yX0_spoilsIn, cX0_spoilsIn, 4, (some .int), 4, 104, 0, 0)
theorem ok_X0_spoilsIn : MOKv M_X0_spoilsIn 1 := ⟨q910, q911, q89, q912, ⟨by decide +kernel, by decide +kernel, by decide +kernel⟩⟩
set_option maxHeartbeats 4000000 in
theorem x_spoilsIn (l : Launch) (g : GT) (a A : Nat → Nat) (nb nl nc : Nat) (r : Nat → Int32) (b : Nat → Int64) (od : Nat → Int32) (us : Int32) (tk : Nat → Int32) (bn : Int32) (suf : va_W) (hnb : nb ≤ 8) (hnl : nl ≤ 3) (hnc : nc ≤ 6) (bi : Int32) : CtE l g M_X0_spoilsIn [.ref (a 0), .int bi] (cw g a A nb nl nc r b od us tk bn suf) (some (.int (x_spI r nb bi))) (cw g a A nb nl nc r b od us tk bn suf) := by
  refine Ct.start2 (M := M_X0_spoilsIn) rfl [(0, .ref (a 0)), (1, .int bi)] rfl (by decide +kernel) (Nat.le_of_ble_eq_true rfl) ?_
  intro p e s m args below meth c A9 C
  refine v_aload_n C dX0_spoilsIn_0 0 rfl ?_
  refine v_iload_n C dX0_spoilsIn_1 1 rfl ?_
  refine v_callVw C (x_isBin l g a A nb nl nc r b od us tk bn suf hnb hnl hnc _) ok_X0_isBin rfl q463 rfl (Nat.le_of_ble_eq_true rfl) 0 rfl rfl rfl dX0_spoilsIn_2 (roomL rfl rfl) ⟨rfl, rfl⟩ ?_
  refine v_if_neB C 11 dX0_spoilsIn_5 (by decide) (fun c5_1 => ?_) (fun c5_1 => ?_)
  · skip
    obtain ⟨ebi, hbi⟩ := isB_c (n := nb) rfl (by omega) c5_1
    refine v_aload_n C dX0_spoilsIn_11 0 rfl ?_
    refine v_get C in_X0 rfl 0 rfl 0 (by decide) q483 (fun _ h => h) rfl dX0_spoilsIn_12 ?_
    refine v_getN C in_X1 rfl 3 rfl 0 (by decide) q155 (fun _ h => h) rfl dX0_spoilsIn_15 ?_
    refine v_iload_n C dX0_spoilsIn_18 1 rfl ?_
    refine v_eqi ebi ?_
    refine v_zMV (ws' := (cw g a A nb nl nc r b od us tk bn suf)) C (j_get l g (A 1) (A 2) 8 (nI nb) nb (rfs A 10 nb) bi.toNatClampNeg (A (10 + bi.toNatClampNeg)) hbi hnb (by decide) (rfs_at A 10 hbi)) [_, _, _, _] rfl ok_J2_get rfl q359 rfl (Nat.le_of_ble_eq_true rfl) 0 rfl rfl rfl dX0_spoilsIn_19 (roomL rfl rfl) ⟨rfl, rfl⟩ rfl ?_
    refine v_castS (r := (RX4, TX4, 9)) C q360 (bi.toNatClampNeg + 11) (cw_bin hbi) rfl dX0_spoilsIn_22 ?_
    refine v_astore_n (lv' := [(2, _), (0, _), (1, _)]) C dX0_spoilsIn_25 rfl (by decide) rfl ?_
    refine v_aload_n C dX0_spoilsIn_26 0 rfl ?_
    refine v_zFV (ws' := (cw g a A nb nl nc r b od us tk bn suf)) C (x_isSpoilt l g _ (bv r bi.toNatClampNeg)) ok_X4_isSpoilt rfl q778 rfl (Nat.le_of_ble_eq_true rfl) (bi.toNatClampNeg + 11) (cw_bin hbi) rfl rfl dX0_spoilsIn_27 (roomL rfl rfl) ⟨rfl, rfl⟩ (set_same (cw_bin hbi)) ?_
    refine v_if_eqB C 35 dX0_spoilsIn_30 (by decide) (fun c30_2 => ?_) (fun c30_2 => ?_)
    · skip
      refine v_aload_n C dX0_spoilsIn_35 0 rfl ?_
      refine v_zFV (ws' := (cw g a A nb nl nc r b od us tk bn suf)) C (x_moisture l g _ (bv r bi.toNatClampNeg)) ok_X4_moisture rfl q474 rfl (Nat.le_of_ble_eq_true rfl) (bi.toNatClampNeg + 11) (cw_bin hbi) rfl rfl dX0_spoilsIn_36 (roomL rfl rfl) ⟨rfl, rfl⟩ (set_same (cw_bin hbi)) ?_
      refine v_eqi (show _ = p_moist r bi.toNatClampNeg from rfl) ?_
      refine v_sipush (v := 150) C dX0_spoilsIn_39 (by decide) ?_
      refine v_isub C dX0_spoilsIn_42 ?_
      refine v_istore_n (lv' := [(3, _), (2, _), (0, _), (1, _)]) C dX0_spoilsIn_43 rfl (by decide) rfl ?_
      refine v_iload_n C dX0_spoilsIn_44 0 rfl ?_
      refine v_if_gt C 52 dX0_spoilsIn_45 (by decide) (fun c45_3 => ?_) (fun c45_3 => ?_)
      · skip
        have hne0 : ¬ p_moist r bi.toNatClampNeg - 150 = 0 := fun q => by
          have h9 := c45_3
          rw [q] at h9
          exact absurd h9 (by decide)
        refine v_sipush (v := 10000) C dX0_spoilsIn_52 (by decide) ?_
        refine v_aload_n C dX0_spoilsIn_55 1 rfl ?_
        refine v_getN C in_X4 rfl (bi.toNatClampNeg + 11) (cw_bin hbi) 6 (by decide) q612 (fun _ h => h) rfl dX0_spoilsIn_56 ?_
        refine v_eqi (show _ = r (10 + 9 * bi.toNatClampNeg + 6) from rfl) ?_
        refine v_isub C dX0_spoilsIn_59 ?_
        refine v_iload_n C dX0_spoilsIn_60 0 rfl ?_
        refine v_iadd C dX0_spoilsIn_61 ?_
        refine v_iconst (v := 1) C dX0_spoilsIn_62 (by decide) ?_
        refine v_isub C dX0_spoilsIn_63 ?_
        refine v_iload_n C dX0_spoilsIn_64 0 rfl ?_
        refine v_idiv C dX0_spoilsIn_65 hne0 ?_
        exact v_iret C dX0_spoilsIn_66 (Nat.le_of_ble_eq_true rfl) (Nat.le_of_ble_eq_true rfl) (by unfold x_spI; rw [if_pos c5_1, if_neg c30_2, if_pos c45_3]; exact ⟨rfl, rfl⟩)
      · skip
        refine v_iconst (v := -1) C dX0_spoilsIn_48 (by decide) ?_
        refine v_goto C 66 dX0_spoilsIn_49 (by decide) ?_
        exact v_iret C dX0_spoilsIn_66 (Nat.le_of_ble_eq_true rfl) (Nat.le_of_ble_eq_true rfl) (by unfold x_spI; rw [if_pos c5_1, if_neg c30_2, if_neg c45_3]; exact ⟨rfl, rfl⟩)
    · skip
      refine v_iconst (v := 0) C dX0_spoilsIn_33 (by decide) ?_
      exact v_iret C dX0_spoilsIn_34 (Nat.le_of_ble_eq_true rfl) (Nat.le_of_ble_eq_true rfl) (by unfold x_spI; rw [if_pos c5_1, if_pos c30_2]; exact ⟨rfl, rfl⟩)
  · skip
    refine v_bipush (v := -2) C dX0_spoilsIn_8 (by decide) ?_
    exact v_iret C dX0_spoilsIn_10 (Nat.le_of_ble_eq_true rfl) (Nat.le_of_ble_eq_true rfl) (by unfold x_spI; rw [if_neg c5_1]; exact ⟨rfl, rfl⟩)
def M_X0_room : Md := (yX0_room, cX0_room, 2, (some .int), 4, 104, 0, 0)
theorem ok_X0_room : MOKv M_X0_room 1 := ⟨q931, qs40, q89, q932, ⟨by decide +kernel, by decide +kernel, by decide +kernel⟩⟩
set_option maxHeartbeats 4000000 in
theorem x_room (l : Launch) (g : GT) (a A : Nat → Nat) (nb nl nc : Nat) (r : Nat → Int32) (b : Nat → Int64) (od : Nat → Int32) (us : Int32) (tk : Nat → Int32) (bn : Int32) (suf : va_W) (hnb : nb ≤ 8) (hnl : nl ≤ 3) (hnc : nc ≤ 6) (bi : Nat) (hb : bi < nb) : CtE l g M_X0_room [.ref (a 0), .int (nI bi)] (cw g a A nb nl nc r b od us tk bn suf) (some (.int (r (10 + 9 * bi + 0) - r (10 + 9 * bi + 3)))) (cw g a A nb nl nc r b od us tk bn suf) := by
  refine Ct.start2 (M := M_X0_room) rfl [(0, .ref (a 0)), (1, .int (nI bi))] rfl (by decide +kernel) (Nat.le_of_ble_eq_true rfl) ?_
  intro p e s m args below meth c A9 C
  refine v_aload_n C dX0_room_0 0 rfl ?_
  refine v_get C in_X0 rfl 0 rfl 0 (by decide) q483 (fun _ h => h) rfl dX0_room_1 ?_
  refine v_getN C in_X1 rfl 3 rfl 0 (by decide) q155 (fun _ h => h) rfl dX0_room_4 ?_
  refine v_iload_n C dX0_room_7 1 rfl ?_
  refine v_zMV (ws' := (cw g a A nb nl nc r b od us tk bn suf)) C (j_get l g (A 1) (A 2) 8 (nI nb) nb (rfs A 10 nb) bi (A (10 + bi)) hb hnb (by decide) (rfs_at A 10 hb)) [_, _, _, _] rfl ok_J2_get rfl q359 rfl (Nat.le_of_ble_eq_true rfl) 0 rfl rfl rfl dX0_room_8 (roomL rfl rfl) ⟨rfl, rfl⟩ rfl ?_
  refine v_castS (r := (RX4, TX4, 9)) C q360 (bi + 11) (cw_bin hb) rfl dX0_room_11 ?_
  refine v_getN C in_X4 rfl (bi + 11) (cw_bin hb) 0 (by decide) q596 (fun _ h => h) rfl dX0_room_14 ?_
  refine v_eqi (show _ = r (10 + 9 * bi + 0) from rfl) ?_
  refine v_aload_n C dX0_room_17 0 rfl ?_
  refine v_get C in_X0 rfl 0 rfl 0 (by decide) q483 (fun _ h => h) rfl dX0_room_18 ?_
  refine v_getN C in_X1 rfl 3 rfl 0 (by decide) q155 (fun _ h => h) rfl dX0_room_21 ?_
  refine v_iload_n C dX0_room_24 1 rfl ?_
  refine v_zMV (ws' := (cw g a A nb nl nc r b od us tk bn suf)) C (j_get l g (A 1) (A 2) 8 (nI nb) nb (rfs A 10 nb) bi (A (10 + bi)) hb hnb (by decide) (rfs_at A 10 hb)) [_, _, _, _] rfl ok_J2_get rfl q359 rfl (Nat.le_of_ble_eq_true rfl) 0 rfl rfl rfl dX0_room_25 (roomL rfl rfl) ⟨rfl, rfl⟩ rfl ?_
  refine v_castS (r := (RX4, TX4, 9)) C q360 (bi + 11) (cw_bin hb) rfl dX0_room_28 ?_
  refine v_getN C in_X4 rfl (bi + 11) (cw_bin hb) 3 (by decide) q605 (fun _ h => h) rfl dX0_room_31 ?_
  refine v_eqi (show _ = r (10 + 9 * bi + 3) from rfl) ?_
  refine v_isub C dX0_room_34 ?_
  exact v_iret C dX0_room_35 (Nat.le_of_ble_eq_true rfl) (Nat.le_of_ble_eq_true rfl) ⟨rfl, rfl⟩
