/-! the class's moves -/
set_option maxRecDepth 100000
def x_bel (f : Nat → Int32) : Nat → Int32
  | 0 => 1
  | k + 1 => x_bel f k &&& bI (0 ≤ f (2 * k) ∧ f (2 * k) ≤ f (2 * k + 1) - 1)
theorem bI_and {P Q : Prop} [Decidable P] [Decidable Q] : bI P &&& bI Q = bI (P ∧ Q) := by
  by_cases hP : P
  · by_cases hQ : Q
    · rw [bI_t hP, bI_t hQ, bI_t ⟨hP, hQ⟩]; rfl
    · rw [bI_t hP, bI_f hQ, bI_f (fun q => hQ q.2)]; rfl
  · by_cases hQ : Q
    · rw [bI_f hP, bI_t hQ, bI_f (fun q => hP q.1)]; rfl
    · rw [bI_f hP, bI_f hQ, bI_f (fun q => hP q.1)]; rfl
theorem bI_1and {P : Prop} [Decidable P] : (1 : Int32) &&& bI P = bI P := by
  by_cases hP : P
  · rw [bI_t hP]; rfl
  · rw [bI_f hP]; rfl
theorem bel2 (f : Nat → Int32) : x_bel f 2 = bI ((0 ≤ f 0 ∧ f 0 ≤ f 1 - 1) ∧ (0 ≤ f 2 ∧ f 2 ≤ f 3 - 1)) := by
  show (1 &&& bI (0 ≤ f 0 ∧ f 0 ≤ f 1 - 1)) &&& bI (0 ≤ f 2 ∧ f 2 ≤ f 3 - 1) = _
  rw [bI_1and, bI_and]
theorem bel3 (f : Nat → Int32) : x_bel f 3 = bI (((0 ≤ f 0 ∧ f 0 ≤ f 1 - 1) ∧ (0 ≤ f 2 ∧ f 2 ≤ f 3 - 1)) ∧ (0 ≤ f 4 ∧ f 4 ≤ f 5 - 1)) := by
  show ((1 &&& bI (0 ≤ f 0 ∧ f 0 ≤ f 1 - 1)) &&& bI (0 ≤ f 2 ∧ f 2 ≤ f 3 - 1)) &&& bI (0 ≤ f 4 ∧ f 4 ≤ f 5 - 1) = _
  rw [bI_1and, bI_and, bI_and]
theorem x_bel_01 (f : Nat → Int32) (k : Nat) : ∃ P : Prop, ∃ _ : Decidable P, x_bel f k = bI P := by
  induction k with
  | zero => exact ⟨True, inferInstance, rfl⟩
  | succ k ih =>
    obtain ⟨P, dP, e⟩ := ih
    exact ⟨P ∧ (0 ≤ f (2 * k) ∧ f (2 * k) ≤ f (2 * k + 1) - 1), inferInstance, by rw [x_bel, e, bI_and]⟩
theorem x_bel_nar (f : Nat → Int32) (k : Nat) : narrow .boolean (.int (x_bel f k)) = .int (x_bel f k) := by
  obtain ⟨P, dP, e⟩ := x_bel_01 f k
  rw [e]; exact bI_nar P
abbrev s_passes (m : Int32) (r : Nat → Int32) (nb : Nat) : Nat → Int32 := upd (s_pass m r nb) 0 (s_pass m r nb 0 + m)
abbrev q_time (r : Nat → Int32) (m : Int64) : Prop := ¬ 0 < lg_cmp ((r 0).toInt64 + m) 1000000
theorem toI32_add (x : Int64) (y : Int32) : x.toInt32 + y = (x + y.toInt64).toInt32 := by simp
def x_rF (r : Nat → Int32) (nb nl : Nat) (le bi kind amt mo : Int32) : Int32 × (Nat → Int32) :=
  if (q_n nl le ∧ q_n nb bi) ∧ (0 ≤ kind ∧ kind ≤ 4 - 1) then if 1 ≤ amt ∧ amt ≤ 5000 then if 50 ≤ mo ∧ mo ≤ 400 then
    if s_ref r le.toNatClampNeg bi.toNatClampNeg kind amt mo ≤ 0 then
      if q_time r (p_min amt (r (82 + 4 * le.toNatClampNeg + 0))).toInt64 then (0, r) else (-5, r)
    else (-4, upd r 5 (s_ref r le.toNatClampNeg bi.toNatClampNeg kind amt mo))
  else (-3, r) else (-3, r) else (-2, r)
abbrev xr1 (r : Nat → Int32) (nb le : Nat) (amt : Int32) : Nat → Int32 := s_passes (p_min amt (r (82 + 4 * le + 0))) r nb
abbrev xr2 (r : Nat → Int32) (nb le bi : Nat) (kind amt mo : Int32) : Nat → Int32 := pb (xr1 r nb le amt) bi (b_put (bv (xr1 r nb le amt) bi) amt (amt * mo) kind)
abbrev xr3 (r : Nat → Int32) (nb le bi : Nat) (kind amt mo : Int32) : Nat → Int32 := pg4 (xr2 r nb le bi kind amt mo) le (l_lift (gv (xr2 r nb le bi kind amt mo) le) amt mo)
abbrev xm2 (r : Nat → Int32) (nb le bi : Nat) (amt : Int32) : Nat → Int32 := pb (xr1 r nb le amt) bi (b_take (bv (xr1 r nb le amt) bi) amt)
abbrev xmP (r : Nat → Int32) (nb le bi : Nat) (amt : Int32) : Int32 := b_share (bv (xr1 r nb le amt) bi) amt
abbrev xm3 (r : Nat → Int32) (nb le bi bj : Nat) (amt : Int32) : Nat → Int32 := pb (xm2 r nb le bi amt) bj (b_put (bv (xm2 r nb le bi amt) bj) amt (xmP r nb le bi amt) (xr1 r nb le amt (10 + 9 * bi + 5)))
abbrev xm4 (r : Nat → Int32) (nb le bi bj : Nat) (amt : Int32) : Nat → Int32 := pg4 (xm3 r nb le bi bj amt) le (l_lift (gv (xm3 r nb le bi bj amt) le) amt (xmP r nb le bi amt / amt))
def x_mA (nb nl : Nat) (le bi bj amt : Int32) : Int32 :=
  if (q_n nl le ∧ q_n nb bi) ∧ q_n nb bj then if bi = bj then -3 else if 1 ≤ amt ∧ amt ≤ 20000 then 0 else -3 else -2
theorem x_mA0 {nb nl : Nat} {le bi bj amt : Int32} (h : 0 ≤ x_mA nb nl le bi bj amt) : ((q_n nl le ∧ q_n nb bi) ∧ q_n nb bj) ∧ ¬ bi = bj ∧ (1 ≤ amt ∧ amt ≤ 20000) := by
  unfold x_mA at h
  by_cases h1 : (q_n nl le ∧ q_n nb bi) ∧ q_n nb bj
  · rw [if_pos h1] at h
    by_cases h2 : bi = bj
    · rw [if_pos h2] at h; exact absurd h (by decide)
    · rw [if_neg h2] at h
      by_cases h3 : 1 ≤ amt ∧ amt ≤ 20000
      · exact ⟨h1, h2, h3⟩
      · rw [if_neg h3] at h; exact absurd h (by decide)
  · rw [if_neg h1] at h; exact absurd h (by decide)
def x_mF (r : Nat → Int32) (nb nl : Nat) (le bi bj amt : Int32) : Int32 × (Nat → Int32) :=
  if 0 ≤ x_mA nb nl le bi bj amt then
    if s_mref r le.toNatClampNeg bi.toNatClampNeg bj.toNatClampNeg amt ≤ 0 then
      if q_time r (p_min amt (r (82 + 4 * le.toNatClampNeg + 0))).toInt64 then (0, r) else (-5, r)
    else (-4, upd r 5 (s_mref r le.toNatClampNeg bi.toNatClampNeg bj.toNatClampNeg amt))
  else (x_mA nb nl le bi bj amt, r)
def x_wN (r : Nat → Int32) (nb nl : Nat) (le bi bj amt : Int32) : Int32 :=
  if 0 ≤ x_mA nb nl le bi bj amt then s_mref r le.toNatClampNeg bi.toNatClampNeg bj.toNatClampNeg amt else x_mA nb nl le bi bj amt
def x_cF (r : Nat → Int32) (nl : Nat) (le mi : Int32) : Int32 := if q_n nl le then if 1 ≤ mi ∧ mi ≤ 1000 then if q_time r mi.toInt64 then 0 else -5 else -3 else -2
abbrev x_cl (r : Nat → Int32) (nb le : Nat) (mi : Int32) : Nat → Int32 := upd (s_passes mi r nb) (82 + 4 * le + 2) (if 0 < s_passes mi r nb (82 + 4 * le + 2) - 50 * mi then s_passes mi r nb (82 + 4 * le + 2) - 50 * mi else 0)
def x_dF (r : Nat → Int32) (nb : Nat) (bi st : Int32) : Int32 := if q_n nb bi then if 1 ≤ st ∧ st ≤ 200 then if r (10 + 9 * bi.toNatClampNeg + 3) = 0 then -4 else if q_time r (10 * st).toInt64 then 0 else -5 else -3 else -2
abbrev xd1 (bi nb : Nat) (r : Nat → Int32) : Nat → Int32 := pb (s_passes 10 r nb) bi (b_dry (bv (s_passes 10 r nb) bi))
abbrev xdL (bi nb : Nat) (r : Nat → Int32) : Int32 := b_lost (bv (s_passes 10 r nb) bi)
abbrev xdB (bi nb : Nat) (r : Nat → Int32) (b : Nat → Int64) : Nat → Int64 := vp_updL (vp_updL b 2 (b 2 + (xdL bi nb r).toInt64)) 5 (b 5 + 3)
def x_dries (bi nb : Nat) : Nat → Nat → (Nat → Int32) × (Nat → Int64) → Nat × (Nat → Int32) × (Nat → Int64)
  | 0, n, x => (n, x)
  | f + 1, n, x => if b_moist (bv x.1 bi) ≤ 50 then (n, x) else x_dries bi nb f (n + 1) (xd1 bi nb x.1, xdB bi nb x.1 x.2)
def M_X0_areBelow : Md := (yX0_areBelow, cX0_areBelow, 3, (some .boolean), 2, 62, 0, 0)
theorem ok_X0_areBelow : MOKs M_X0_areBelow 1 := ⟨q274, q89, q275, ⟨by decide +kernel, by decide +kernel, by decide +kernel⟩⟩
set_option maxHeartbeats 4000000 in
theorem x_areBelow (l : Launch) (g : GT) (q : Nat) (m2 n : Nat) (f : Nat → Int32) (hm : n = 2 * m2) (hn : n ≤ 100) : CtE l g M_X0_areBelow [.ref q] [(q, .inl (g.2 0, n, .inl f))] (some (.int (x_bel f m2))) [(q, .inl (g.2 0, n, .inl f))] := by
  refine Ct.start2 (M := M_X0_areBelow) rfl [(0, .ref q)] rfl (by decide +kernel) (Nat.le_of_ble_eq_true rfl) ?_
  intro p e s m args below meth c A9 C
  refine v_iconst (v := 1) C dX0_areBelow_0 (by decide) ?_
  refine v_istore_n (lv' := [(1, _), (0, _)]) C dX0_areBelow_1 rfl (by decide) rfl ?_
  refine v_iconst (v := 0) C dX0_areBelow_2 (by decide) ?_
  refine v_istore_n (lv' := [(2, _), (1, _), (0, _)]) C dX0_areBelow_3 rfl (by decide) rfl ?_
  refine v_loop 0 m2 (fun k => [(2, .int (nI (2 * k))), (1, .int (x_bel f k)), (0, .ref q)]) (fun k => [(q, .inl (g.2 0, n, .inl f))]) rfl rfl (by omega) ?_ ?_
  · skip
    refine v_iload_n C dX0_areBelow_4 0 rfl ?_
    refine v_aload_n C dX0_areBelow_5 2 rfl ?_
    refine v_alen C 0 dX0_areBelow_6 0 rfl rfl (v := (nI n)) rfl ?_
    refine v_icmp_ge C 33 dX0_areBelow_7 (by decide) (fun c7_1 => ?_) (fun c7_1 => ?_)
    · skip
      refine v_iload_n C dX0_areBelow_33 1 rfl ?_
      exact v_zret C (x_bel_nar _ _) dX0_areBelow_34 (Nat.le_of_ble_eq_true rfl) (Nat.le_of_ble_eq_true rfl) ⟨rfl, rfl⟩
    · exact absurd (by rw [hm]; exact Int32.le_refl _) c7_1
  · intro k hk hk0 hback
    refine v_iload_n C dX0_areBelow_4 0 rfl ?_
    refine v_aload_n C dX0_areBelow_5 2 rfl ?_
    refine v_alen C 0 dX0_areBelow_6 0 rfl rfl (v := (nI n)) rfl ?_
    refine v_icmp_ge C 33 dX0_areBelow_7 (by decide) (fun c7_2 => ?_) (fun c7_2 => ?_)
    · exact absurd ((nI_leI (by omega) (by omega)).mp c7_2) (by omega)
    · skip
      refine v_iload_n C dX0_areBelow_10 1 rfl ?_
      refine v_aload_n C dX0_areBelow_11 2 rfl ?_
      refine v_iload_n C dX0_areBelow_12 0 rfl ?_
      refine v_iald C dX0_areBelow_13 0 rfl (ixn (by omega) (by omega)) ?_
      refine v_iconst (v := 0) C dX0_areBelow_14 (by decide) ?_
      refine v_aload_n C dX0_areBelow_15 2 rfl ?_
      refine v_iload_n C dX0_areBelow_16 0 rfl ?_
      refine v_iconst (v := 1) C dX0_areBelow_17 (by decide) ?_
      refine v_iadd C dX0_areBelow_18 ?_
      refine v_eqi (nI_add ((2 * k)) 1) ?_
      refine v_iald C dX0_areBelow_19 0 rfl (ixn (by omega) (by omega)) ?_
      refine v_iconst (v := 1) C dX0_areBelow_20 (by decide) ?_
      refine v_isub C dX0_areBelow_21 ?_
      refine v_callSp C (x_isIn l g _ _ _) ok_X0_isIn rfl q276 rfl (Nat.le_of_ble_eq_true rfl) dX0_areBelow_22 (roomL rfl rfl) ⟨rfl, rfl⟩ ?_
      refine v_iand C dX0_areBelow_25 ?_
      refine v_istore_n (lv' := [(1, _), (2, _), (0, _)]) C dX0_areBelow_26 rfl (by decide) rfl ?_
      refine v_iinc (lv' := [(2, _), (1, _), (0, _)]) C dX0_areBelow_27 1 rfl (show nI (2 * k) + nI 2 = nI (2 * (k + 1)) by rw [nI_add]; rfl) (by decide) rfl ?_
      refine v_goto C 4 dX0_areBelow_30 (by decide) ?_
      exact hback
def M_X0_receiveFault : Md := (yX0_receiveFault, cX0_receiveFault, 7, (some .int), 6, 151, 1, 6)
theorem ok_X0_receiveFault : MOKv M_X0_receiveFault 5 := ⟨q267, qs1, q89, q268, ⟨by decide +kernel, by decide +kernel, by decide +kernel⟩⟩
set_option maxHeartbeats 4000000 in
theorem x_receiveFault (l : Launch) (g : GT) (a A : Nat → Nat) (nb nl nc : Nat) (r : Nat → Int32) (b : Nat → Int64) (od : Nat → Int32) (us : Int32) (tk : Nat → Int32) (bn : Int32) (suf : va_W) (hnb : nb ≤ 8) (hnl : nl ≤ 3) (hnc : nc ≤ 6) (le bi kind amt mo : Int32) (hsp : ∀ i, i < nl → ¬ r (82 + 4 * i + 0) = 0) : CtE l g M_X0_receiveFault [.ref (a 0), .int le, .int bi, .int kind, .int amt, .int mo] (cw g a A nb nl nc r b od us tk bn suf) (some (.int (x_rF r nb nl le bi kind amt mo).1)) (cw g a A nb nl nc (x_rF r nb nl le bi kind amt mo).2 b od us tk bn suf) := by
  refine Ct.start2 (M := M_X0_receiveFault) rfl [(0, .ref (a 0)), (1, .int le), (2, .int bi), (3, .int kind), (4, .int amt), (5, .int mo)] rfl (by decide +kernel) (Nat.le_of_ble_eq_true rfl) ?_
  intro p e s m args below meth c A9 C
  refine v_bipush (v := 6) C dX0_receiveFault_0 (by decide) ?_
  refine v_newI (N := 6) C q207 (by decide) rfl (Nat.le_of_ble_eq_true rfl) (Nat.le_of_ble_eq_true rfl) (Nat.le_of_ble_eq_true rfl) dX0_receiveFault_2 (fun q2 => ?_)
  refine v_perm (ws' := (q2, .inl (g.2 0, 6, .inl (fun _ => 0))) :: (cw g a A nb nl nc r b od us tk bn suf)) (List.perm_append_comm (l₂ := [_])) ?_
  refine v_dup C dX0_receiveFault_4 rfl ?_
  refine v_iconst (v := 0) C dX0_receiveFault_5 (by decide) ?_
  refine v_iload_n C dX0_receiveFault_6 1 rfl ?_
  refine v_iast (ws' := ((_, .inl (_, _, .inl _)) :: (cw g a A nb nl nc r b od us tk bn suf))) C dX0_receiveFault_7 0 rfl (j := 0) (ixl rfl) rfl ?_
  refine v_dup C dX0_receiveFault_8 rfl ?_
  refine v_iconst (v := 1) C dX0_receiveFault_9 (by decide) ?_
  refine v_aload_n C dX0_receiveFault_10 0 rfl ?_
  refine v_get C in_X0 rfl 1 rfl 0 (by decide) q483 (fun _ h => h) rfl dX0_receiveFault_11 ?_
  refine v_getN C in_X1 rfl 4 rfl 1 (by decide) q157 (fun _ h => h) rfl dX0_receiveFault_14 ?_
  refine v_zMV (ws' := ((_, .inl (_, _, .inl _)) :: (cw g a A nb nl nc r b od us tk bn suf))) C (j_size l g (A 3) (A 4) 3 (nI nl) nl (rfs A 20 nl)) [_, _, _, _, _, _, _] rfl ok_J2_size rfl q269 rfl (Nat.le_of_ble_eq_true rfl) 0 rfl rfl rfl dX0_receiveFault_17 (roomL rfl rfl) ⟨rfl, rfl⟩ rfl ?_
  refine v_iast (ws' := ((_, .inl (_, _, .inl _)) :: (cw g a A nb nl nc r b od us tk bn suf))) C dX0_receiveFault_20 0 rfl (j := 1) (ixl rfl) rfl ?_
  refine v_dup C dX0_receiveFault_21 rfl ?_
  refine v_iconst (v := 2) C dX0_receiveFault_22 (by decide) ?_
  refine v_iload_n C dX0_receiveFault_23 2 rfl ?_
  refine v_iast (ws' := ((_, .inl (_, _, .inl _)) :: (cw g a A nb nl nc r b od us tk bn suf))) C dX0_receiveFault_24 0 rfl (j := 2) (ixl rfl) rfl ?_
  refine v_dup C dX0_receiveFault_25 rfl ?_
  refine v_iconst (v := 3) C dX0_receiveFault_26 (by decide) ?_
  refine v_aload_n C dX0_receiveFault_27 0 rfl ?_
  refine v_get C in_X0 rfl 1 rfl 0 (by decide) q483 (fun _ h => h) rfl dX0_receiveFault_28 ?_
  refine v_getN C in_X1 rfl 4 rfl 0 (by decide) q155 (fun _ h => h) rfl dX0_receiveFault_31 ?_
  refine v_zMV (ws' := ((_, .inl (_, _, .inl _)) :: (cw g a A nb nl nc r b od us tk bn suf))) C (j_size l g (A 1) (A 2) 8 (nI nb) nb (rfs A 10 nb)) [_, _, _, _, _] rfl ok_J2_size rfl q269 rfl (Nat.le_of_ble_eq_true rfl) 0 rfl rfl rfl dX0_receiveFault_34 (roomL rfl rfl) ⟨rfl, rfl⟩ rfl ?_
  refine v_iast (ws' := ((_, .inl (_, _, .inl _)) :: (cw g a A nb nl nc r b od us tk bn suf))) C dX0_receiveFault_37 0 rfl (j := 3) (ixl rfl) rfl ?_
  refine v_dup C dX0_receiveFault_38 rfl ?_
  refine v_iconst (v := 4) C dX0_receiveFault_39 (by decide) ?_
  refine v_iload_n C dX0_receiveFault_40 3 rfl ?_
  refine v_iast (ws' := ((_, .inl (_, _, .inl _)) :: (cw g a A nb nl nc r b od us tk bn suf))) C dX0_receiveFault_41 0 rfl (j := 4) (ixl rfl) rfl ?_
  refine v_dup C dX0_receiveFault_42 rfl ?_
  refine v_iconst (v := 5) C dX0_receiveFault_43 (by decide) ?_
  refine v_iconst (v := 4) C dX0_receiveFault_44 (by decide) ?_
  refine v_iast (ws' := ((_, .inl (_, _, .inl _)) :: (cw g a A nb nl nc r b od us tk bn suf))) C dX0_receiveFault_45 0 rfl (j := 5) (ixl rfl) rfl ?_
  refine v_zMS (ws' := ((_, .inl (_, _, .inl _)) :: (cw g a A nb nl nc r b od us tk bn suf))) C (x_areBelow l g _ 3 6 _ rfl (by decide)) [] rfl ok_X0_areBelow rfl q273 rfl (Nat.le_of_ble_eq_true rfl) dX0_receiveFault_46 (roomL rfl rfl) ⟨rfl, rfl⟩ rfl ?_
  refine v_eqi (show _ = bI ((q_n nl le ∧ q_n nb bi) ∧ (0 ≤ kind ∧ kind ≤ 4 - 1)) from bel3 _) ?_
  refine v_drop (ws' := (cw g a A nb nl nc r b od us tk bn suf)) (wd := [(_, .inl (_, _, .inl _))]) (List.perm_append_comm (l₁ := [_])) ?_
  refine v_if_neB C 55 dX0_receiveFault_49 (by decide) (fun c49_1 => ?_) (fun c49_1 => ?_)
  · skip
    obtain ⟨⟨hq1, hq2⟩, hq3⟩ := id c49_1
    obtain ⟨ele, hle⟩ := isB_c (n := nl) rfl (by omega) hq1
    obtain ⟨ebi, hbi⟩ := isB_c (n := nb) rfl (by omega) hq2
    refine v_iload C dX0_receiveFault_55 4 rfl ?_
    refine v_iconst (v := 1) C dX0_receiveFault_57 (by decide) ?_
    refine v_sipush (v := 5000) C dX0_receiveFault_58 (by decide) ?_
    refine v_callSp C (x_isIn l g _ _ _) ok_X0_isIn rfl q276 rfl (Nat.le_of_ble_eq_true rfl) dX0_receiveFault_61 (roomL rfl rfl) ⟨rfl, rfl⟩ ?_
    refine v_if_eqB C 75 dX0_receiveFault_64 (by decide) (fun c64_2 => ?_) (fun c64_2 => ?_)
    · skip
      refine v_bipush (v := -3) C dX0_receiveFault_75 (by decide) ?_
      exact v_iret C dX0_receiveFault_77 (Nat.le_of_ble_eq_true rfl) (Nat.le_of_ble_eq_true rfl) (by unfold x_rF; rw [if_pos c49_1, if_neg c64_2]; exact ⟨rfl, rfl⟩)
    · skip
      refine v_iload C dX0_receiveFault_67 5 rfl ?_
      refine v_callSp C (x_isMoisture l g _) ok_X0_isMoisture rfl q279 rfl (Nat.le_of_ble_eq_true rfl) dX0_receiveFault_69 (roomL rfl rfl) ⟨rfl, rfl⟩ ?_
      refine v_if_neB C 78 dX0_receiveFault_72 (by decide) (fun c72_3 => ?_) (fun c72_3 => ?_)
      · skip
        refine v_aload_n C dX0_receiveFault_78 0 rfl ?_
        refine v_get C in_X0 rfl 0 rfl 0 (by decide) q483 (fun _ h => h) rfl dX0_receiveFault_79 ?_
        refine v_iload_n C dX0_receiveFault_82 1 rfl ?_
        refine v_eqi ele ?_
        refine v_iload_n C dX0_receiveFault_83 2 rfl ?_
        refine v_eqi ebi ?_
        refine v_iload_n C dX0_receiveFault_84 3 rfl ?_
        refine v_iload C dX0_receiveFault_85 4 rfl ?_
        refine v_iload C dX0_receiveFault_87 5 rfl ?_
        refine v_zTV (ws' := (cw g a A nb nl nc r b od us tk bn suf)) C (x_refusal l g A nb nl nc r b suf hnb hnl hnc le.toNatClampNeg hle bi.toNatClampNeg hbi _ _ _) [_, _, _] rfl ok_X1_refusal rfl q282 rfl (Nat.le_of_ble_eq_true rfl) 0 rfl rfl rfl dX0_receiveFault_89 (roomL rfl rfl) ⟨rfl, rfl⟩ rfl ?_
        refine v_istore (lv' := [(6, _), (0, _), (1, _), (2, _), (3, _), (4, _), (5, _)]) C dX0_receiveFault_92 (by decide) rfl ?_
        refine v_iload C dX0_receiveFault_94 0 rfl ?_
        refine v_if_le C 106 dX0_receiveFault_96 (by decide) (fun c96_4 => ?_) (fun c96_4 => ?_)
        · skip
          refine v_aload_n C dX0_receiveFault_106 1 rfl ?_
          refine v_aload_n C dX0_receiveFault_107 1 rfl ?_
          refine v_get C in_X0 rfl 0 rfl 0 (by decide) q483 (fun _ h => h) rfl dX0_receiveFault_108 ?_
          refine v_iload_n C dX0_receiveFault_111 2 rfl ?_
          refine v_eqi ele ?_
          refine v_iload C dX0_receiveFault_112 5 rfl ?_
          refine v_zTV (ws' := (cw g a A nb nl nc r b od us tk bn suf)) C (x_minutesOf l g A nb nl nc r b suf hnb hnl hnc le.toNatClampNeg hle _ (hsp _ hle)) [_, _, _] rfl ok_X1_minutesOf rfl q318 rfl (Nat.le_of_ble_eq_true rfl) 0 rfl rfl rfl dX0_receiveFault_114 (roomL rfl rfl) ⟨rfl, rfl⟩ rfl ?_
          refine v_i2l C dX0_receiveFault_117 ?_
          refine v_callVw C (x_hasTime l g a A nb nl nc r b od us tk bn suf hnb hnl hnc _) ok_X0_hasTime rfl q325 rfl (Nat.le_of_ble_eq_true rfl) 0 rfl rfl rfl dX0_receiveFault_118 (roomL rfl rfl) ⟨rfl, rfl⟩ ?_
          refine v_if_eqB C 128 dX0_receiveFault_121 (by decide) (fun c121_5 => ?_) (fun c121_5 => ?_)
          · skip
            refine v_bipush (v := -5) C dX0_receiveFault_128 (by decide) ?_
            exact v_iret C dX0_receiveFault_130 (Nat.le_of_ble_eq_true rfl) (Nat.le_of_ble_eq_true rfl) (by unfold x_rF; rw [if_pos c49_1, if_pos c64_2, if_pos c72_3, if_pos c96_4, if_neg c121_5]; exact ⟨rfl, rfl⟩)
          · skip
            refine v_iconst (v := 0) C dX0_receiveFault_124 (by decide) ?_
            refine v_goto C 130 dX0_receiveFault_125 (by decide) ?_
            exact v_iret C dX0_receiveFault_130 (Nat.le_of_ble_eq_true rfl) (Nat.le_of_ble_eq_true rfl) (by unfold x_rF; rw [if_pos c49_1, if_pos c64_2, if_pos c72_3, if_pos c96_4, if_pos c121_5]; exact ⟨rfl, rfl⟩)
        · skip
          refine v_aload_n C dX0_receiveFault_99 1 rfl ?_
          refine v_iload C dX0_receiveFault_100 0 rfl ?_
          refine v_callVw C (x_refuse l g a A nb nl nc r b od us tk bn suf hnb hnl hnc _) ok_X0_refuse rfl q314 rfl (Nat.le_of_ble_eq_true rfl) 0 rfl rfl rfl dX0_receiveFault_102 (roomL rfl rfl) ⟨rfl, rfl⟩ ?_
          exact v_iret C dX0_receiveFault_105 (Nat.le_of_ble_eq_true rfl) (Nat.le_of_ble_eq_true rfl) (by unfold x_rF; rw [if_pos c49_1, if_pos c64_2, if_pos c72_3, if_neg c96_4]; exact ⟨rfl, rfl⟩)
      · skip
        refine v_bipush (v := -3) C dX0_receiveFault_75 (by decide) ?_
        exact v_iret C dX0_receiveFault_77 (Nat.le_of_ble_eq_true rfl) (Nat.le_of_ble_eq_true rfl) (by unfold x_rF; rw [if_pos c49_1, if_pos c64_2, if_neg c72_3]; exact ⟨rfl, rfl⟩)
  · skip
    refine v_bipush (v := -2) C dX0_receiveFault_52 (by decide) ?_
    exact v_iret C dX0_receiveFault_54 (Nat.le_of_ble_eq_true rfl) (Nat.le_of_ble_eq_true rfl) (by unfold x_rF; rw [if_neg c49_1]; exact ⟨rfl, rfl⟩)
def M_X0_doReceive : Md := (yX0_doReceive, cX0_doReceive, 8, (some .int), 5, 126, 0, 0)
theorem ok_X0_doReceive : MOKv M_X0_doReceive 5 := ⟨q335, qs5, q89, q336, ⟨by decide +kernel, by decide +kernel, by decide +kernel⟩⟩
set_option maxHeartbeats 4000000 in
theorem x_doReceive (l : Launch) (g : GT) (a A : Nat → Nat) (nb nl nc : Nat) (r : Nat → Int32) (b : Nat → Int64) (od : Nat → Int32) (us : Int32) (tk : Nat → Int32) (bn : Int32) (suf : va_W) (hnb : nb ≤ 8) (hnl : nl ≤ 3) (hnc : nc ≤ 6) (le : Nat) (hl : le < nl) (bi : Nat) (hb : bi < nb) (kd : Nat) (hk : kd < 4) (amt mo : Int32) (hsp : ∀ i, i < nl → ¬ r (82 + 4 * i + 0) = 0) : CtE l g M_X0_doReceive [.ref (a 0), .int (nI le), .int (nI bi), .int (nI kd), .int amt, .int mo] (cw g a A nb nl nc r b od us tk bn suf) (some (.int (s_pay (xr3 r nb le bi (nI kd) amt mo) kd amt mo).toInt32)) (cw g a A nb nl nc (xr3 r nb le bi (nI kd) amt mo) (vp_updL (vp_updL b 0 (b 0 + amt.toInt64)) 3 (b 3 + (s_pay (xr3 r nb le bi (nI kd) amt mo) kd amt mo))) od us tk bn suf) := by
  refine Ct.start2 (M := M_X0_doReceive) rfl [(0, .ref (a 0)), (1, .int (nI le)), (2, .int (nI bi)), (3, .int (nI kd)), (4, .int amt), (5, .int mo)] rfl (by decide +kernel) (Nat.le_of_ble_eq_true rfl) ?_
  intro p e s m args below meth c A9 C
  refine v_aload_n C dX0_doReceive_0 0 rfl ?_
  refine v_get C in_X0 rfl 0 rfl 0 (by decide) q483 (fun _ h => h) rfl dX0_doReceive_1 ?_
  refine v_aload_n C dX0_doReceive_4 0 rfl ?_
  refine v_get C in_X0 rfl 0 rfl 0 (by decide) q483 (fun _ h => h) rfl dX0_doReceive_5 ?_
  refine v_iload_n C dX0_doReceive_8 1 rfl ?_
  refine v_iload C dX0_doReceive_9 4 rfl ?_
  refine v_zTV (ws' := (cw g a A nb nl nc r b od us tk bn suf)) C (x_minutesOf l g A nb nl nc r b suf hnb hnl hnc le hl _ (hsp _ hl)) [_, _, _] rfl ok_X1_minutesOf rfl q318 rfl (Nat.le_of_ble_eq_true rfl) 0 rfl rfl rfl dX0_doReceive_11 (roomL rfl rfl) ⟨rfl, rfl⟩ rfl ?_
  refine v_zTVv (ws' := (cw g a A nb nl nc (xr1 r nb le amt) b od us tk bn suf)) C (x_spass l g A nb nl nc r b suf hnb hnl hnc _) [_, _, _] rfl ok_X1_pass rfl q337 rfl (Nat.le_of_ble_eq_true rfl) 0 rfl rfl rfl dX0_doReceive_14 (roomL rfl rfl) ⟨rfl, rfl⟩ rfl ?_
  refine v_aload_n C dX0_doReceive_17 0 rfl ?_
  refine v_get C in_X0 rfl 0 rfl 0 (by decide) q483 (fun _ h => h) rfl dX0_doReceive_18 ?_
  refine v_getN C in_X1 rfl 3 rfl 0 (by decide) q155 (fun _ h => h) rfl dX0_doReceive_21 ?_
  refine v_iload_n C dX0_doReceive_24 2 rfl ?_
  refine v_zMV (ws' := (cw g a A nb nl nc (xr1 r nb le amt) b od us tk bn suf)) C (j_get l g (A 1) (A 2) 8 (nI nb) nb (rfs A 10 nb) bi (A (10 + bi)) hb hnb (by decide) (rfs_at A 10 hb)) [_, _, _, _] rfl ok_J2_get rfl q359 rfl (Nat.le_of_ble_eq_true rfl) 0 rfl rfl rfl dX0_doReceive_25 (roomL rfl rfl) ⟨rfl, rfl⟩ rfl ?_
  refine v_castS (r := (RX4, TX4, 9)) C q360 (bi + 11) (cw_bin hb) rfl dX0_doReceive_28 ?_
  refine v_iload C dX0_doReceive_31 4 rfl ?_
  refine v_iload C dX0_doReceive_33 4 rfl ?_
  refine v_iload C dX0_doReceive_35 5 rfl ?_
  refine v_imul C dX0_doReceive_37 ?_
  refine v_iload_n C dX0_doReceive_38 3 rfl ?_
  refine v_zFVv (ws' := (cw g a A nb nl nc (xr2 r nb le bi (nI kd) amt mo) b od us tk bn suf)) C (x_put l g _ (bv (xr1 r nb le amt) bi) _ _ _) ok_X4_put rfl q361 rfl (Nat.le_of_ble_eq_true rfl) (bi + 11) (cw_bin hb) rfl rfl dX0_doReceive_39 (roomL rfl rfl) ⟨rfl, rfl⟩ (cw_setB hb hnb pb_in pb_out) ?_
  refine v_aload_n C dX0_doReceive_42 0 rfl ?_
  refine v_get C in_X0 rfl 0 rfl 0 (by decide) q483 (fun _ h => h) rfl dX0_doReceive_43 ?_
  refine v_getN C in_X1 rfl 3 rfl 1 (by decide) q157 (fun _ h => h) rfl dX0_doReceive_46 ?_
  refine v_iload_n C dX0_doReceive_49 1 rfl ?_
  refine v_zMV (ws' := (cw g a A nb nl nc (xr2 r nb le bi (nI kd) amt mo) b od us tk bn suf)) C (j_get l g (A 3) (A 4) 3 (nI nl) nl (rfs A 20 nl) le (A (20 + le)) hl hnl (by decide) (rfs_at A 20 hl)) [_, _, _, _, _, _] rfl ok_J2_get rfl q359 rfl (Nat.le_of_ble_eq_true rfl) 0 rfl rfl rfl dX0_doReceive_50 (roomL rfl rfl) ⟨rfl, rfl⟩ rfl ?_
  refine v_castS (r := (RX5, TX5, 4)) C q365 (nb + le + 11) (cw_leg hl) rfl dX0_doReceive_53 ?_
  refine v_iload C dX0_doReceive_56 4 rfl ?_
  refine v_iload C dX0_doReceive_58 5 rfl ?_
  refine v_zFVv (ws' := (cw g a A nb nl nc (xr3 r nb le bi (nI kd) amt mo) b od us tk bn suf)) C (x_lift l g _ (gv (xr2 r nb le bi (nI kd) amt mo) le) _ _) ok_X5_lift rfl q366 rfl (Nat.le_of_ble_eq_true rfl) (nb + le + 11) (cw_leg hl) rfl rfl dX0_doReceive_60 (roomL rfl rfl) ⟨rfl, rfl⟩ (cw_setG hl hnb hnl pg_in pg_out) ?_
  refine v_aload_n C dX0_doReceive_63 0 rfl ?_
  refine v_get C in_X0 rfl 0 rfl 0 (by decide) q483 (fun _ h => h) rfl dX0_doReceive_64 ?_
  refine v_iload_n C dX0_doReceive_67 3 rfl ?_
  refine v_iload C dX0_doReceive_68 4 rfl ?_
  refine v_iload C dX0_doReceive_70 5 rfl ?_
  refine v_zTV (ws' := (cw g a A nb nl nc (xr3 r nb le bi (nI kd) amt mo) b od us tk bn suf)) C (x_payFor l g A nb nl nc (xr3 r nb le bi (nI kd) amt mo) b suf hnb hnl hnc kd hk _ _) [_, _, _] rfl ok_X1_payFor rfl q371 rfl (Nat.le_of_ble_eq_true rfl) 0 rfl rfl rfl dX0_doReceive_72 (roomL rfl rfl) ⟨rfl, rfl⟩ rfl ?_
  refine v_lstore (lv' := [(6, _), (0, _), (1, _), (2, _), (3, _), (4, _), (5, _)]) C dX0_doReceive_75 (by decide) rfl ?_
  refine v_aload_n C dX0_doReceive_77 1 rfl ?_
  refine v_get C in_X0 rfl 0 rfl 0 (by decide) q483 (fun _ h => h) rfl dX0_doReceive_78 ?_
  refine v_dup C dX0_doReceive_81 rfl ?_
  refine v_getN C in_X1 rfl 3 rfl 7 (by decide) q169 (fun _ h => h) rfl dX0_doReceive_82 ?_
  refine v_iload C dX0_doReceive_85 5 rfl ?_
  refine v_iadd C dX0_doReceive_87 ?_
  refine v_putN (ws' := (cw g a A nb nl nc (xr3 r nb le bi (nI kd) amt mo) (vp_updL b 0 (b 0 + amt.toInt64)) od us tk bn suf)) C in_X1 tyX1 tyX1_ok nmX1 rfl 3 rfl 7 (by decide) q169 (fun _ h => h) rfl rfl rfl (Nat.le_of_ble_eq_true rfl) dX0_doReceive_88 (cw_b0 (b 0 + amt.toInt64) (toI32_add _ _)) ?_
  refine v_aload_n C dX0_doReceive_91 1 rfl ?_
  refine v_get C in_X0 rfl 0 rfl 0 (by decide) q483 (fun _ h => h) rfl dX0_doReceive_92 ?_
  refine v_dup C dX0_doReceive_95 rfl ?_
  refine v_getN C in_X1 rfl 3 rfl 10 (by decide) q175 (fun _ h => h) rfl dX0_doReceive_96 ?_
  refine v_lload C dX0_doReceive_99 0 rfl ?_
  refine v_ladd C dX0_doReceive_101 ?_
  refine v_putN (ws' := (cw g a A nb nl nc (xr3 r nb le bi (nI kd) amt mo) (vp_updL (vp_updL b 0 (b 0 + amt.toInt64)) 3 (b 3 + (s_pay (xr3 r nb le bi (nI kd) amt mo) kd amt mo))) od us tk bn suf)) C in_X1 tyX1 tyX1_ok nmX1 rfl 3 rfl 10 (by decide) q175 (fun _ h => h) rfl rfl rfl (Nat.le_of_ble_eq_true rfl) dX0_doReceive_102 (cw_b3 _) ?_
  refine v_lload C dX0_doReceive_105 0 rfl ?_
  refine v_l2i C dX0_doReceive_107 ?_
  exact v_iret C dX0_doReceive_108 (Nat.le_of_ble_eq_true rfl) (Nat.le_of_ble_eq_true rfl) ⟨rfl, rfl⟩
def M_X0_moveArguments : Md := (yX0_moveArguments, cX0_moveArguments, 5, (some .int), 3, 84, 1, 6)
theorem ok_X0_moveArguments : MOKv M_X0_moveArguments 4 := ⟨q409, qs8, q89, q410, ⟨by decide +kernel, by decide +kernel, by decide +kernel⟩⟩
set_option maxHeartbeats 4000000 in
theorem x_moveArgs (l : Launch) (g : GT) (a A : Nat → Nat) (nb nl nc : Nat) (r : Nat → Int32) (b : Nat → Int64) (od : Nat → Int32) (us : Int32) (tk : Nat → Int32) (bn : Int32) (suf : va_W) (hnb : nb ≤ 8) (hnl : nl ≤ 3) (hnc : nc ≤ 6) (le bi bj amt : Int32) : CtE l g M_X0_moveArguments [.ref (a 0), .int le, .int bi, .int bj, .int amt] (cw g a A nb nl nc r b od us tk bn suf) (some (.int (x_mA nb nl le bi bj amt))) (cw g a A nb nl nc r b od us tk bn suf) := by
  refine Ct.start2 (M := M_X0_moveArguments) rfl [(0, .ref (a 0)), (1, .int le), (2, .int bi), (3, .int bj), (4, .int amt)] rfl (by decide +kernel) (Nat.le_of_ble_eq_true rfl) ?_
  intro p e s m args below meth c A9 C
  refine v_bipush (v := 6) C dX0_moveArguments_0 (by decide) ?_
  refine v_newI (N := 6) C q207 (by decide) rfl (Nat.le_of_ble_eq_true rfl) (Nat.le_of_ble_eq_true rfl) (Nat.le_of_ble_eq_true rfl) dX0_moveArguments_2 (fun q2 => ?_)
  refine v_perm (ws' := (q2, .inl (g.2 0, 6, .inl (fun _ => 0))) :: (cw g a A nb nl nc r b od us tk bn suf)) (List.perm_append_comm (l₂ := [_])) ?_
  refine v_dup C dX0_moveArguments_4 rfl ?_
  refine v_iconst (v := 0) C dX0_moveArguments_5 (by decide) ?_
  refine v_iload_n C dX0_moveArguments_6 1 rfl ?_
  refine v_iast (ws' := ((_, .inl (_, _, .inl _)) :: (cw g a A nb nl nc r b od us tk bn suf))) C dX0_moveArguments_7 0 rfl (j := 0) (ixl rfl) rfl ?_
  refine v_dup C dX0_moveArguments_8 rfl ?_
  refine v_iconst (v := 1) C dX0_moveArguments_9 (by decide) ?_
  refine v_aload_n C dX0_moveArguments_10 0 rfl ?_
  refine v_get C in_X0 rfl 1 rfl 0 (by decide) q483 (fun _ h => h) rfl dX0_moveArguments_11 ?_
  refine v_getN C in_X1 rfl 4 rfl 1 (by decide) q157 (fun _ h => h) rfl dX0_moveArguments_14 ?_
  refine v_zMV (ws' := ((_, .inl (_, _, .inl _)) :: (cw g a A nb nl nc r b od us tk bn suf))) C (j_size l g (A 3) (A 4) 3 (nI nl) nl (rfs A 20 nl)) [_, _, _, _, _, _, _] rfl ok_J2_size rfl q269 rfl (Nat.le_of_ble_eq_true rfl) 0 rfl rfl rfl dX0_moveArguments_17 (roomL rfl rfl) ⟨rfl, rfl⟩ rfl ?_
  refine v_iast (ws' := ((_, .inl (_, _, .inl _)) :: (cw g a A nb nl nc r b od us tk bn suf))) C dX0_moveArguments_20 0 rfl (j := 1) (ixl rfl) rfl ?_
  refine v_dup C dX0_moveArguments_21 rfl ?_
  refine v_iconst (v := 2) C dX0_moveArguments_22 (by decide) ?_
  refine v_iload_n C dX0_moveArguments_23 2 rfl ?_
  refine v_iast (ws' := ((_, .inl (_, _, .inl _)) :: (cw g a A nb nl nc r b od us tk bn suf))) C dX0_moveArguments_24 0 rfl (j := 2) (ixl rfl) rfl ?_
  refine v_dup C dX0_moveArguments_25 rfl ?_
  refine v_iconst (v := 3) C dX0_moveArguments_26 (by decide) ?_
  refine v_aload_n C dX0_moveArguments_27 0 rfl ?_
  refine v_get C in_X0 rfl 1 rfl 0 (by decide) q483 (fun _ h => h) rfl dX0_moveArguments_28 ?_
  refine v_getN C in_X1 rfl 4 rfl 0 (by decide) q155 (fun _ h => h) rfl dX0_moveArguments_31 ?_
  refine v_zMV (ws' := ((_, .inl (_, _, .inl _)) :: (cw g a A nb nl nc r b od us tk bn suf))) C (j_size l g (A 1) (A 2) 8 (nI nb) nb (rfs A 10 nb)) [_, _, _, _, _] rfl ok_J2_size rfl q269 rfl (Nat.le_of_ble_eq_true rfl) 0 rfl rfl rfl dX0_moveArguments_34 (roomL rfl rfl) ⟨rfl, rfl⟩ rfl ?_
  refine v_iast (ws' := ((_, .inl (_, _, .inl _)) :: (cw g a A nb nl nc r b od us tk bn suf))) C dX0_moveArguments_37 0 rfl (j := 3) (ixl rfl) rfl ?_
  refine v_dup C dX0_moveArguments_38 rfl ?_
  refine v_iconst (v := 4) C dX0_moveArguments_39 (by decide) ?_
  refine v_iload_n C dX0_moveArguments_40 3 rfl ?_
  refine v_iast (ws' := ((_, .inl (_, _, .inl _)) :: (cw g a A nb nl nc r b od us tk bn suf))) C dX0_moveArguments_41 0 rfl (j := 4) (ixl rfl) rfl ?_
  refine v_dup C dX0_moveArguments_42 rfl ?_
  refine v_iconst (v := 5) C dX0_moveArguments_43 (by decide) ?_
  refine v_aload_n C dX0_moveArguments_44 0 rfl ?_
  refine v_get C in_X0 rfl 1 rfl 0 (by decide) q483 (fun _ h => h) rfl dX0_moveArguments_45 ?_
  refine v_getN C in_X1 rfl 4 rfl 0 (by decide) q155 (fun _ h => h) rfl dX0_moveArguments_48 ?_
  refine v_zMV (ws' := ((_, .inl (_, _, .inl _)) :: (cw g a A nb nl nc r b od us tk bn suf))) C (j_size l g (A 1) (A 2) 8 (nI nb) nb (rfs A 10 nb)) [_, _, _, _, _] rfl ok_J2_size rfl q269 rfl (Nat.le_of_ble_eq_true rfl) 0 rfl rfl rfl dX0_moveArguments_51 (roomL rfl rfl) ⟨rfl, rfl⟩ rfl ?_
  refine v_iast (ws' := ((_, .inl (_, _, .inl _)) :: (cw g a A nb nl nc r b od us tk bn suf))) C dX0_moveArguments_54 0 rfl (j := 5) (ixl rfl) rfl ?_
  refine v_zMS (ws' := ((_, .inl (_, _, .inl _)) :: (cw g a A nb nl nc r b od us tk bn suf))) C (x_areBelow l g _ 3 6 _ rfl (by decide)) [] rfl ok_X0_areBelow rfl q273 rfl (Nat.le_of_ble_eq_true rfl) dX0_moveArguments_55 (roomL rfl rfl) ⟨rfl, rfl⟩ rfl ?_
  refine v_eqi (show _ = bI ((q_n nl le ∧ q_n nb bi) ∧ q_n nb bj) from bel3 _) ?_
  refine v_drop (ws' := (cw g a A nb nl nc r b od us tk bn suf)) (wd := [(_, .inl (_, _, .inl _))]) (List.perm_append_comm (l₁ := [_])) ?_
  refine v_if_neB C 64 dX0_moveArguments_58 (by decide) (fun c58_1 => ?_) (fun c58_1 => ?_)
  · skip
    refine v_iload_n C dX0_moveArguments_64 2 rfl ?_
    refine v_iload_n C dX0_moveArguments_65 3 rfl ?_
    refine v_icmp_eq C 81 dX0_moveArguments_66 (by decide) (fun c66_2 => ?_) (fun c66_2 => ?_)
    · skip
      refine v_bipush (v := -3) C dX0_moveArguments_81 (by decide) ?_
      refine v_goto C 87 dX0_moveArguments_83 (by decide) ?_
      exact v_iret C dX0_moveArguments_87 (Nat.le_of_ble_eq_true rfl) (Nat.le_of_ble_eq_true rfl) (by unfold x_mA; rw [if_pos c58_1, if_pos c66_2]; exact ⟨rfl, rfl⟩)
    · skip
      refine v_iload C dX0_moveArguments_69 4 rfl ?_
      refine v_iconst (v := 1) C dX0_moveArguments_71 (by decide) ?_
      refine v_sipush (v := 20000) C dX0_moveArguments_72 (by decide) ?_
      refine v_callSp C (x_isIn l g _ _ _) ok_X0_isIn rfl q276 rfl (Nat.le_of_ble_eq_true rfl) dX0_moveArguments_75 (roomL rfl rfl) ⟨rfl, rfl⟩ ?_
      refine v_if_neB C 86 dX0_moveArguments_78 (by decide) (fun c78_3 => ?_) (fun c78_3 => ?_)
      · skip
        refine v_iconst (v := 0) C dX0_moveArguments_86 (by decide) ?_
        exact v_iret C dX0_moveArguments_87 (Nat.le_of_ble_eq_true rfl) (Nat.le_of_ble_eq_true rfl) (by unfold x_mA; rw [if_pos c58_1, if_neg c66_2, if_pos c78_3]; exact ⟨rfl, rfl⟩)
      · skip
        refine v_bipush (v := -3) C dX0_moveArguments_81 (by decide) ?_
        refine v_goto C 87 dX0_moveArguments_83 (by decide) ?_
        exact v_iret C dX0_moveArguments_87 (Nat.le_of_ble_eq_true rfl) (Nat.le_of_ble_eq_true rfl) (by unfold x_mA; rw [if_pos c58_1, if_neg c66_2, if_neg c78_3]; exact ⟨rfl, rfl⟩)
  · skip
    refine v_bipush (v := -2) C dX0_moveArguments_61 (by decide) ?_
    exact v_iret C dX0_moveArguments_63 (Nat.le_of_ble_eq_true rfl) (Nat.le_of_ble_eq_true rfl) (by unfold x_mA; rw [if_neg c58_1]; exact ⟨rfl, rfl⟩)
def M_X0_moveFault : Md := (yX0_moveFault, cX0_moveFault, 7, (some .int), 7, 176, 1, 6)
theorem ok_X0_moveFault : MOKv M_X0_moveFault 4 := ⟨q405, qs7, q89, q406, ⟨by decide +kernel, by decide +kernel, by decide +kernel⟩⟩
set_option maxHeartbeats 4000000 in
theorem x_moveFault (l : Launch) (g : GT) (a A : Nat → Nat) (nb nl nc : Nat) (r : Nat → Int32) (b : Nat → Int64) (od : Nat → Int32) (us : Int32) (tk : Nat → Int32) (bn : Int32) (suf : va_W) (hnb : nb ≤ 8) (hnl : nl ≤ 3) (hnc : nc ≤ 6) (le bi bj amt : Int32) (hsp : ∀ i, i < nl → ¬ r (82 + 4 * i + 0) = 0) (hz : ∀ i, i < nb → 1 ≤ amt → amt ≤ r (10 + 9 * i + 3) → ¬ amt = r (10 + 9 * i + 3) → ¬ r (10 + 9 * i + 3) = 0) : CtE l g M_X0_moveFault [.ref (a 0), .int le, .int bi, .int bj, .int amt] (cw g a A nb nl nc r b od us tk bn suf) (some (.int (x_mF r nb nl le bi bj amt).1)) (cw g a A nb nl nc (x_mF r nb nl le bi bj amt).2 b od us tk bn suf) := by
  refine Ct.start2 (M := M_X0_moveFault) rfl [(0, .ref (a 0)), (1, .int le), (2, .int bi), (3, .int bj), (4, .int amt)] rfl (by decide +kernel) (Nat.le_of_ble_eq_true rfl) ?_
  intro p e s m args below meth c A9 C
  refine v_aload_n C dX0_moveFault_0 0 rfl ?_
  refine v_iload_n C dX0_moveFault_1 1 rfl ?_
  refine v_iload_n C dX0_moveFault_2 2 rfl ?_
  refine v_iload_n C dX0_moveFault_3 3 rfl ?_
  refine v_iload C dX0_moveFault_4 4 rfl ?_
  refine v_callVE (wr := []) (ws' := (cw g a A nb nl nc r b od us tk bn suf)) C (x_moveArgs l g a A nb nl nc r b od us tk bn suf hnb hnl hnc le bi bj amt) ok_X0_moveArguments rfl q407 rfl (Nat.le_of_ble_eq_true rfl) 0 rfl rfl rfl dX0_moveFault_6 (roomL rfl rfl) (by rw [List.append_nil]) (by rw [List.append_nil]) ?_
  refine v_st (st' := [.int (x_mA nb nl le bi bj amt)]) rfl ?_
  refine v_istore (lv' := [(5, _), (0, _), (1, _), (2, _), (3, _), (4, _)]) C dX0_moveFault_9 (by decide) rfl ?_
  refine v_iload C dX0_moveFault_11 0 rfl ?_
  refine v_if_ge C 19 dX0_moveFault_13 (by decide) (fun c13_1 => ?_) (fun c13_1 => ?_)
  · skip
    obtain ⟨⟨⟨hq1, hq2⟩, hq3⟩, hqn, hqa⟩ := x_mA0 c13_1
    obtain ⟨ele, hle⟩ := isB_c (n := nl) rfl (by omega) hq1
    obtain ⟨ebi, hbi⟩ := isB_c (n := nb) rfl (by omega) hq2
    obtain ⟨ebj, hbj⟩ := isB_c (n := nb) rfl (by omega) hq3
    have hz := hz _ hbi hqa.1
    refine v_aload_n C dX0_moveFault_19 1 rfl ?_
    refine v_get C in_X0 rfl 0 rfl 0 (by decide) q483 (fun _ h => h) rfl dX0_moveFault_20 ?_
    refine v_iload_n C dX0_moveFault_23 2 rfl ?_
    refine v_eqi ele ?_
    refine v_iload_n C dX0_moveFault_24 3 rfl ?_
    refine v_eqi ebi ?_
    refine v_iload_n C dX0_moveFault_25 4 rfl ?_
    refine v_eqi ebj ?_
    refine v_iload C dX0_moveFault_26 5 rfl ?_
    refine v_zTV (ws' := (cw g a A nb nl nc r b od us tk bn suf)) C (x_moveRefusal l g A nb nl nc r b suf hnb hnl hnc le.toNatClampNeg hle bi.toNatClampNeg hbi bj.toNatClampNeg hbj _ (in1_ne hqa) hz) [_, _, _] rfl ok_X1_moveRefusal rfl q411 rfl (Nat.le_of_ble_eq_true rfl) 0 rfl rfl rfl dX0_moveFault_28 (roomL rfl rfl) ⟨rfl, rfl⟩ rfl ?_
    refine v_istore (lv' := [(6, _), (5, _), (0, _), (1, _), (2, _), (3, _), (4, _)]) C dX0_moveFault_31 (by decide) rfl ?_
    refine v_iload C dX0_moveFault_33 0 rfl ?_
    refine v_if_le C 45 dX0_moveFault_35 (by decide) (fun c35_2 => ?_) (fun c35_2 => ?_)
    · skip
      refine v_aload_n C dX0_moveFault_45 2 rfl ?_
      refine v_aload_n C dX0_moveFault_46 2 rfl ?_
      refine v_get C in_X0 rfl 0 rfl 0 (by decide) q483 (fun _ h => h) rfl dX0_moveFault_47 ?_
      refine v_iload_n C dX0_moveFault_50 3 rfl ?_
      refine v_eqi ele ?_
      refine v_iload C dX0_moveFault_51 6 rfl ?_
      refine v_zTV (ws' := (cw g a A nb nl nc r b od us tk bn suf)) C (x_minutesOf l g A nb nl nc r b suf hnb hnl hnc le.toNatClampNeg hle _ (hsp _ hle)) [_, _, _] rfl ok_X1_minutesOf rfl q318 rfl (Nat.le_of_ble_eq_true rfl) 0 rfl rfl rfl dX0_moveFault_53 (roomL rfl rfl) ⟨rfl, rfl⟩ rfl ?_
      refine v_i2l C dX0_moveFault_56 ?_
      refine v_callVw C (x_hasTime l g a A nb nl nc r b od us tk bn suf hnb hnl hnc _) ok_X0_hasTime rfl q325 rfl (Nat.le_of_ble_eq_true rfl) 0 rfl rfl rfl dX0_moveFault_57 (roomL rfl rfl) ⟨rfl, rfl⟩ ?_
      refine v_if_eqB C 67 dX0_moveFault_60 (by decide) (fun c60_3 => ?_) (fun c60_3 => ?_)
      · skip
        refine v_bipush (v := -5) C dX0_moveFault_67 (by decide) ?_
        exact v_iret C dX0_moveFault_69 (Nat.le_of_ble_eq_true rfl) (Nat.le_of_ble_eq_true rfl) (by unfold x_mF; rw [if_pos c13_1, if_pos c35_2, if_neg c60_3]; exact ⟨rfl, rfl⟩)
      · skip
        refine v_iconst (v := 0) C dX0_moveFault_63 (by decide) ?_
        refine v_goto C 69 dX0_moveFault_64 (by decide) ?_
        exact v_iret C dX0_moveFault_69 (Nat.le_of_ble_eq_true rfl) (Nat.le_of_ble_eq_true rfl) (by unfold x_mF; rw [if_pos c13_1, if_pos c35_2, if_pos c60_3]; exact ⟨rfl, rfl⟩)
    · skip
      refine v_aload_n C dX0_moveFault_38 2 rfl ?_
      refine v_iload C dX0_moveFault_39 0 rfl ?_
      refine v_callVw C (x_refuse l g a A nb nl nc r b od us tk bn suf hnb hnl hnc _) ok_X0_refuse rfl q314 rfl (Nat.le_of_ble_eq_true rfl) 0 rfl rfl rfl dX0_moveFault_41 (roomL rfl rfl) ⟨rfl, rfl⟩ ?_
      exact v_iret C dX0_moveFault_44 (Nat.le_of_ble_eq_true rfl) (Nat.le_of_ble_eq_true rfl) (by unfold x_mF; rw [if_pos c13_1, if_neg c35_2]; exact ⟨rfl, rfl⟩)
  · skip
    refine v_iload C dX0_moveFault_16 0 rfl ?_
    exact v_iret C dX0_moveFault_18 (Nat.le_of_ble_eq_true rfl) (Nat.le_of_ble_eq_true rfl) (by unfold x_mF; rw [if_neg c13_1]; exact ⟨rfl, rfl⟩)
def M_X0_whyNot : Md := (yX0_whyNot, cX0_whyNot, 6, (some .int), 7, 176, 1, 6)
theorem ok_X0_whyNot : MOKv M_X0_whyNot 4 := ⟨q818, q819, q89, q820, ⟨by decide +kernel, by decide +kernel, by decide +kernel⟩⟩
set_option maxHeartbeats 4000000 in
theorem x_whyNot (l : Launch) (g : GT) (a A : Nat → Nat) (nb nl nc : Nat) (r : Nat → Int32) (b : Nat → Int64) (od : Nat → Int32) (us : Int32) (tk : Nat → Int32) (bn : Int32) (suf : va_W) (hnb : nb ≤ 8) (hnl : nl ≤ 3) (hnc : nc ≤ 6) (le bi bj amt : Int32) (hz : ∀ i, i < nb → 1 ≤ amt → amt ≤ r (10 + 9 * i + 3) → ¬ amt = r (10 + 9 * i + 3) → ¬ r (10 + 9 * i + 3) = 0) : CtE l g M_X0_whyNot [.ref (a 0), .int le, .int bi, .int bj, .int amt] (cw g a A nb nl nc r b od us tk bn suf) (some (.int (x_wN r nb nl le bi bj amt))) (cw g a A nb nl nc r b od us tk bn suf) := by
  refine Ct.start2 (M := M_X0_whyNot) rfl [(0, .ref (a 0)), (1, .int le), (2, .int bi), (3, .int bj), (4, .int amt)] rfl (by decide +kernel) (Nat.le_of_ble_eq_true rfl) ?_
  intro p e s m args below meth c A9 C
  refine v_aload_n C dX0_whyNot_0 0 rfl ?_
  refine v_iload_n C dX0_whyNot_1 1 rfl ?_
  refine v_iload_n C dX0_whyNot_2 2 rfl ?_
  refine v_iload_n C dX0_whyNot_3 3 rfl ?_
  refine v_iload C dX0_whyNot_4 4 rfl ?_
  refine v_callVE (wr := []) (ws' := (cw g a A nb nl nc r b od us tk bn suf)) C (x_moveArgs l g a A nb nl nc r b od us tk bn suf hnb hnl hnc le bi bj amt) ok_X0_moveArguments rfl q407 rfl (Nat.le_of_ble_eq_true rfl) 0 rfl rfl rfl dX0_whyNot_6 (roomL rfl rfl) (by rw [List.append_nil]) (by rw [List.append_nil]) ?_
  refine v_st (st' := [.int (x_mA nb nl le bi bj amt)]) rfl ?_
  refine v_istore (lv' := [(5, _), (0, _), (1, _), (2, _), (3, _), (4, _)]) C dX0_whyNot_9 (by decide) rfl ?_
  refine v_iload C dX0_whyNot_11 0 rfl ?_
  refine v_if_ge C 21 dX0_whyNot_13 (by decide) (fun c13_1 => ?_) (fun c13_1 => ?_)
  · skip
    obtain ⟨⟨⟨hq1, hq2⟩, hq3⟩, hqn, hqa⟩ := x_mA0 c13_1
    obtain ⟨ele, hle⟩ := isB_c (n := nl) rfl (by omega) hq1
    obtain ⟨ebi, hbi⟩ := isB_c (n := nb) rfl (by omega) hq2
    obtain ⟨ebj, hbj⟩ := isB_c (n := nb) rfl (by omega) hq3
    have hz := hz _ hbi hqa.1
    refine v_aload_n C dX0_whyNot_21 1 rfl ?_
    refine v_get C in_X0 rfl 0 rfl 0 (by decide) q483 (fun _ h => h) rfl dX0_whyNot_22 ?_
    refine v_iload_n C dX0_whyNot_25 2 rfl ?_
    refine v_eqi ele ?_
    refine v_iload_n C dX0_whyNot_26 3 rfl ?_
    refine v_eqi ebi ?_
    refine v_iload_n C dX0_whyNot_27 4 rfl ?_
    refine v_eqi ebj ?_
    refine v_iload C dX0_whyNot_28 5 rfl ?_
    refine v_zTV (ws' := (cw g a A nb nl nc r b od us tk bn suf)) C (x_moveRefusal l g A nb nl nc r b suf hnb hnl hnc le.toNatClampNeg hle bi.toNatClampNeg hbi bj.toNatClampNeg hbj _ (in1_ne hqa) hz) [_, _, _] rfl ok_X1_moveRefusal rfl q411 rfl (Nat.le_of_ble_eq_true rfl) 0 rfl rfl rfl dX0_whyNot_30 (roomL rfl rfl) ⟨rfl, rfl⟩ rfl ?_
    exact v_iret C dX0_whyNot_33 (Nat.le_of_ble_eq_true rfl) (Nat.le_of_ble_eq_true rfl) (by unfold x_wN; rw [if_pos c13_1]; exact ⟨rfl, rfl⟩)
  · skip
    refine v_iload C dX0_whyNot_16 0 rfl ?_
    refine v_goto C 33 dX0_whyNot_18 (by decide) ?_
    exact v_iret C dX0_whyNot_33 (Nat.le_of_ble_eq_true rfl) (Nat.le_of_ble_eq_true rfl) (by unfold x_wN; rw [if_neg c13_1]; exact ⟨rfl, rfl⟩)
def M_X0_doMove : Md := (yX0_doMove, cX0_doMove, 7, (some .int), 5, 126, 0, 0)
theorem ok_X0_doMove : MOKv M_X0_doMove 4 := ⟨q425, qs10, q89, q426, ⟨by decide +kernel, by decide +kernel, by decide +kernel⟩⟩
set_option maxHeartbeats 4000000 in
theorem x_doMove (l : Launch) (g : GT) (a A : Nat → Nat) (nb nl nc : Nat) (r : Nat → Int32) (b : Nat → Int64) (od : Nat → Int32) (us : Int32) (tk : Nat → Int32) (bn : Int32) (suf : va_W) (hnb : nb ≤ 8) (hnl : nl ≤ 3) (hnc : nc ≤ 6) (le : Nat) (hl : le < nl) (bi : Nat) (hb : bi < nb) (bj : Nat) (hj : bj < nb) (amt : Int32) (ha : ¬ amt = 0) (hsp : ∀ i, i < nl → ¬ r (82 + 4 * i + 0) = 0) (hz : ¬ amt = xr1 r nb le amt (10 + 9 * bi + 3) → ¬ xr1 r nb le amt (10 + 9 * bi + 3) = 0) : CtE l g M_X0_doMove [.ref (a 0), .int (nI le), .int (nI bi), .int (nI bj), .int amt] (cw g a A nb nl nc r b od us tk bn suf) (some (.int (xmP r nb le bi amt))) (cw g a A nb nl nc (xm4 r nb le bi bj amt) b od us tk bn suf) := by
  refine Ct.start2 (M := M_X0_doMove) rfl [(0, .ref (a 0)), (1, .int (nI le)), (2, .int (nI bi)), (3, .int (nI bj)), (4, .int amt)] rfl (by decide +kernel) (Nat.le_of_ble_eq_true rfl) ?_
  intro p e s m args below meth c A9 C
  refine v_aload_n C dX0_doMove_0 0 rfl ?_
  refine v_get C in_X0 rfl 0 rfl 0 (by decide) q483 (fun _ h => h) rfl dX0_doMove_1 ?_
  refine v_aload_n C dX0_doMove_4 0 rfl ?_
  refine v_get C in_X0 rfl 0 rfl 0 (by decide) q483 (fun _ h => h) rfl dX0_doMove_5 ?_
  refine v_iload_n C dX0_doMove_8 1 rfl ?_
  refine v_iload C dX0_doMove_9 4 rfl ?_
  refine v_zTV (ws' := (cw g a A nb nl nc r b od us tk bn suf)) C (x_minutesOf l g A nb nl nc r b suf hnb hnl hnc le hl _ (hsp _ hl)) [_, _, _] rfl ok_X1_minutesOf rfl q318 rfl (Nat.le_of_ble_eq_true rfl) 0 rfl rfl rfl dX0_doMove_11 (roomL rfl rfl) ⟨rfl, rfl⟩ rfl ?_
  refine v_zTVv (ws' := (cw g a A nb nl nc (xr1 r nb le amt) b od us tk bn suf)) C (x_spass l g A nb nl nc r b suf hnb hnl hnc _) [_, _, _] rfl ok_X1_pass rfl q337 rfl (Nat.le_of_ble_eq_true rfl) 0 rfl rfl rfl dX0_doMove_14 (roomL rfl rfl) ⟨rfl, rfl⟩ rfl ?_
  refine v_aload_n C dX0_doMove_17 0 rfl ?_
  refine v_get C in_X0 rfl 0 rfl 0 (by decide) q483 (fun _ h => h) rfl dX0_doMove_18 ?_
  refine v_getN C in_X1 rfl 3 rfl 0 (by decide) q155 (fun _ h => h) rfl dX0_doMove_21 ?_
  refine v_iload_n C dX0_doMove_24 2 rfl ?_
  refine v_zMV (ws' := (cw g a A nb nl nc (xr1 r nb le amt) b od us tk bn suf)) C (j_get l g (A 1) (A 2) 8 (nI nb) nb (rfs A 10 nb) bi (A (10 + bi)) hb hnb (by decide) (rfs_at A 10 hb)) [_, _, _, _] rfl ok_J2_get rfl q359 rfl (Nat.le_of_ble_eq_true rfl) 0 rfl rfl rfl dX0_doMove_25 (roomL rfl rfl) ⟨rfl, rfl⟩ rfl ?_
  refine v_castS (r := (RX4, TX4, 9)) C q360 (bi + 11) (cw_bin hb) rfl dX0_doMove_28 ?_
  refine v_getN C in_X4 rfl (bi + 11) (cw_bin hb) 5 (by decide) q610 (fun _ h => h) rfl dX0_doMove_31 ?_
  refine v_eqi (show _ = (xr1 r nb le amt) (10 + 9 * bi + 5) from rfl) ?_
  refine v_istore (lv' := [(5, _), (0, _), (1, _), (2, _), (3, _), (4, _)]) C dX0_doMove_34 (by decide) rfl ?_
  refine v_aload_n C dX0_doMove_36 1 rfl ?_
  refine v_get C in_X0 rfl 0 rfl 0 (by decide) q483 (fun _ h => h) rfl dX0_doMove_37 ?_
  refine v_getN C in_X1 rfl 3 rfl 0 (by decide) q155 (fun _ h => h) rfl dX0_doMove_40 ?_
  refine v_iload_n C dX0_doMove_43 3 rfl ?_
  refine v_zMV (ws' := (cw g a A nb nl nc (xr1 r nb le amt) b od us tk bn suf)) C (j_get l g (A 1) (A 2) 8 (nI nb) nb (rfs A 10 nb) bi (A (10 + bi)) hb hnb (by decide) (rfs_at A 10 hb)) [_, _, _, _] rfl ok_J2_get rfl q359 rfl (Nat.le_of_ble_eq_true rfl) 0 rfl rfl rfl dX0_doMove_44 (roomL rfl rfl) ⟨rfl, rfl⟩ rfl ?_
  refine v_castS (r := (RX4, TX4, 9)) C q360 (bi + 11) (cw_bin hb) rfl dX0_doMove_47 ?_
  refine v_iload C dX0_doMove_50 5 rfl ?_
  refine v_zFV (ws' := (cw g a A nb nl nc (xm2 r nb le bi amt) b od us tk bn suf)) C (x_take l g _ (bv (xr1 r nb le amt) bi) _ hz) ok_X4_take rfl q427 rfl (Nat.le_of_ble_eq_true rfl) (bi + 11) (cw_bin hb) rfl rfl dX0_doMove_52 (roomL rfl rfl) ⟨rfl, rfl⟩ (cw_setB hb hnb pb_in pb_out) ?_
  refine v_istore (lv' := [(6, _), (5, _), (0, _), (1, _), (2, _), (3, _), (4, _)]) C dX0_doMove_55 (by decide) rfl ?_
  refine v_aload_n C dX0_doMove_57 2 rfl ?_
  refine v_get C in_X0 rfl 0 rfl 0 (by decide) q483 (fun _ h => h) rfl dX0_doMove_58 ?_
  refine v_getN C in_X1 rfl 3 rfl 0 (by decide) q155 (fun _ h => h) rfl dX0_doMove_61 ?_
  refine v_iload_n C dX0_doMove_64 5 rfl ?_
  refine v_zMV (ws' := (cw g a A nb nl nc (xm2 r nb le bi amt) b od us tk bn suf)) C (j_get l g (A 1) (A 2) 8 (nI nb) nb (rfs A 10 nb) bj (A (10 + bj)) hj hnb (by decide) (rfs_at A 10 hj)) [_, _, _, _] rfl ok_J2_get rfl q359 rfl (Nat.le_of_ble_eq_true rfl) 0 rfl rfl rfl dX0_doMove_65 (roomL rfl rfl) ⟨rfl, rfl⟩ rfl ?_
  refine v_castS (r := (RX4, TX4, 9)) C q360 (bj + 11) (cw_bin hj) rfl dX0_doMove_68 ?_
  refine v_iload C dX0_doMove_71 6 rfl ?_
  refine v_iload C dX0_doMove_73 0 rfl ?_
  refine v_iload C dX0_doMove_75 1 rfl ?_
  refine v_zFVv (ws' := (cw g a A nb nl nc (xm3 r nb le bi bj amt) b od us tk bn suf)) C (x_put l g _ (bv (xm2 r nb le bi amt) bj) _ _ _) ok_X4_put rfl q361 rfl (Nat.le_of_ble_eq_true rfl) (bj + 11) (cw_bin hj) rfl rfl dX0_doMove_77 (roomL rfl rfl) ⟨rfl, rfl⟩ (cw_setB hj hnb pb_in pb_out) ?_
  refine v_aload_n C dX0_doMove_80 2 rfl ?_
  refine v_get C in_X0 rfl 0 rfl 0 (by decide) q483 (fun _ h => h) rfl dX0_doMove_81 ?_
  refine v_getN C in_X1 rfl 3 rfl 1 (by decide) q157 (fun _ h => h) rfl dX0_doMove_84 ?_
  refine v_iload_n C dX0_doMove_87 3 rfl ?_
  refine v_zMV (ws' := (cw g a A nb nl nc (xm3 r nb le bi bj amt) b od us tk bn suf)) C (j_get l g (A 3) (A 4) 3 (nI nl) nl (rfs A 20 nl) le (A (20 + le)) hl hnl (by decide) (rfs_at A 20 hl)) [_, _, _, _, _, _] rfl ok_J2_get rfl q359 rfl (Nat.le_of_ble_eq_true rfl) 0 rfl rfl rfl dX0_doMove_88 (roomL rfl rfl) ⟨rfl, rfl⟩ rfl ?_
  refine v_castS (r := (RX5, TX5, 4)) C q365 (nb + le + 11) (cw_leg hl) rfl dX0_doMove_91 ?_
  refine v_iload C dX0_doMove_94 6 rfl ?_
  refine v_iload C dX0_doMove_96 0 rfl ?_
  refine v_iload C dX0_doMove_98 6 rfl ?_
  refine v_idiv C dX0_doMove_100 ha ?_
  refine v_zFVv (ws' := (cw g a A nb nl nc (xm4 r nb le bi bj amt) b od us tk bn suf)) C (x_lift l g _ (gv (xm3 r nb le bi bj amt) le) _ _) ok_X5_lift rfl q366 rfl (Nat.le_of_ble_eq_true rfl) (nb + le + 11) (cw_leg hl) rfl rfl dX0_doMove_101 (roomL rfl rfl) ⟨rfl, rfl⟩ (cw_setG hl hnb hnl pg_in pg_out) ?_
  refine v_iload C dX0_doMove_104 0 rfl ?_
  exact v_iret C dX0_doMove_106 (Nat.le_of_ble_eq_true rfl) (Nat.le_of_ble_eq_true rfl) ⟨rfl, rfl⟩
def M_X0_cleanFault : Md := (yX0_cleanFault, cX0_cleanFault, 3, (some .int), 3, 83, 0, 0)
theorem ok_X0_cleanFault : MOKv M_X0_cleanFault 2 := ⟨q442, qs13, q89, q443, ⟨by decide +kernel, by decide +kernel, by decide +kernel⟩⟩
set_option maxHeartbeats 4000000 in
theorem x_cleanFault (l : Launch) (g : GT) (a A : Nat → Nat) (nb nl nc : Nat) (r : Nat → Int32) (b : Nat → Int64) (od : Nat → Int32) (us : Int32) (tk : Nat → Int32) (bn : Int32) (suf : va_W) (hnb : nb ≤ 8) (hnl : nl ≤ 3) (hnc : nc ≤ 6) (le mi : Int32) : CtE l g M_X0_cleanFault [.ref (a 0), .int le, .int mi] (cw g a A nb nl nc r b od us tk bn suf) (some (.int (x_cF r nl le mi))) (cw g a A nb nl nc r b od us tk bn suf) := by
  refine Ct.start2 (M := M_X0_cleanFault) rfl [(0, .ref (a 0)), (1, .int le), (2, .int mi)] rfl (by decide +kernel) (Nat.le_of_ble_eq_true rfl) ?_
  intro p e s m args below meth c A9 C
  refine v_aload_n C dX0_cleanFault_0 0 rfl ?_
  refine v_iload_n C dX0_cleanFault_1 1 rfl ?_
  refine v_callVw C (x_isLeg l g a A nb nl nc r b od us tk bn suf hnb hnl hnc _) ok_X0_isLeg rfl q444 rfl (Nat.le_of_ble_eq_true rfl) 0 rfl rfl rfl dX0_cleanFault_2 (roomL rfl rfl) ⟨rfl, rfl⟩ ?_
  refine v_if_neB C 11 dX0_cleanFault_5 (by decide) (fun c5_1 => ?_) (fun c5_1 => ?_)
  · skip
    refine v_iload_n C dX0_cleanFault_11 2 rfl ?_
    refine v_iconst (v := 1) C dX0_cleanFault_12 (by decide) ?_
    refine v_sipush (v := 1000) C dX0_cleanFault_13 (by decide) ?_
    refine v_callSp C (x_isIn l g _ _ _) ok_X0_isIn rfl q276 rfl (Nat.le_of_ble_eq_true rfl) dX0_cleanFault_16 (roomL rfl rfl) ⟨rfl, rfl⟩ ?_
    refine v_if_neB C 25 dX0_cleanFault_19 (by decide) (fun c19_2 => ?_) (fun c19_2 => ?_)
    · skip
      refine v_aload_n C dX0_cleanFault_25 0 rfl ?_
      refine v_iload_n C dX0_cleanFault_26 2 rfl ?_
      refine v_i2l C dX0_cleanFault_27 ?_
      refine v_callVw C (x_hasTime l g a A nb nl nc r b od us tk bn suf hnb hnl hnc _) ok_X0_hasTime rfl q325 rfl (Nat.le_of_ble_eq_true rfl) 0 rfl rfl rfl dX0_cleanFault_28 (roomL rfl rfl) ⟨rfl, rfl⟩ ?_
      refine v_if_eqB C 38 dX0_cleanFault_31 (by decide) (fun c31_3 => ?_) (fun c31_3 => ?_)
      · skip
        refine v_bipush (v := -5) C dX0_cleanFault_38 (by decide) ?_
        exact v_iret C dX0_cleanFault_40 (Nat.le_of_ble_eq_true rfl) (Nat.le_of_ble_eq_true rfl) (by unfold x_cF; rw [if_pos c5_1, if_pos c19_2, if_neg c31_3]; exact ⟨rfl, rfl⟩)
      · skip
        refine v_iconst (v := 0) C dX0_cleanFault_34 (by decide) ?_
        refine v_goto C 40 dX0_cleanFault_35 (by decide) ?_
        exact v_iret C dX0_cleanFault_40 (Nat.le_of_ble_eq_true rfl) (Nat.le_of_ble_eq_true rfl) (by unfold x_cF; rw [if_pos c5_1, if_pos c19_2, if_pos c31_3]; exact ⟨rfl, rfl⟩)
    · skip
      refine v_bipush (v := -3) C dX0_cleanFault_22 (by decide) ?_
      exact v_iret C dX0_cleanFault_24 (Nat.le_of_ble_eq_true rfl) (Nat.le_of_ble_eq_true rfl) (by unfold x_cF; rw [if_pos c5_1, if_neg c19_2]; exact ⟨rfl, rfl⟩)
  · skip
    refine v_bipush (v := -2) C dX0_cleanFault_8 (by decide) ?_
    exact v_iret C dX0_cleanFault_10 (Nat.le_of_ble_eq_true rfl) (Nat.le_of_ble_eq_true rfl) (by unfold x_cF; rw [if_neg c5_1]; exact ⟨rfl, rfl⟩)
def M_X0_doClean : Md := (yX0_doClean, cX0_doClean, 4, (some .int), 5, 126, 0, 0)
theorem ok_X0_doClean : MOKv M_X0_doClean 2 := ⟨q453, qs16, q89, q454, ⟨by decide +kernel, by decide +kernel, by decide +kernel⟩⟩
set_option maxHeartbeats 4000000 in
theorem x_doClean (l : Launch) (g : GT) (a A : Nat → Nat) (nb nl nc : Nat) (r : Nat → Int32) (b : Nat → Int64) (od : Nat → Int32) (us : Int32) (tk : Nat → Int32) (bn : Int32) (suf : va_W) (hnb : nb ≤ 8) (hnl : nl ≤ 3) (hnc : nc ≤ 6) (le : Nat) (hl : le < nl) (mi : Int32) : CtE l g M_X0_doClean [.ref (a 0), .int (nI le), .int mi] (cw g a A nb nl nc r b od us tk bn suf) (some (.int (x_cl r nb le mi (82 + 4 * le + 2)))) (cw g a A nb nl nc (x_cl r nb le mi) b od us tk bn suf) := by
  refine Ct.start2 (M := M_X0_doClean) rfl [(0, .ref (a 0)), (1, .int (nI le)), (2, .int mi)] rfl (by decide +kernel) (Nat.le_of_ble_eq_true rfl) ?_
  intro p e s m args below meth c A9 C
  refine v_aload_n C dX0_doClean_0 0 rfl ?_
  refine v_get C in_X0 rfl 0 rfl 0 (by decide) q483 (fun _ h => h) rfl dX0_doClean_1 ?_
  refine v_iload_n C dX0_doClean_4 2 rfl ?_
  refine v_zTVv (ws' := (cw g a A nb nl nc (s_passes mi r nb) b od us tk bn suf)) C (x_spass l g A nb nl nc r b suf hnb hnl hnc _) [_, _, _] rfl ok_X1_pass rfl q337 rfl (Nat.le_of_ble_eq_true rfl) 0 rfl rfl rfl dX0_doClean_5 (roomL rfl rfl) ⟨rfl, rfl⟩ rfl ?_
  refine v_aload_n C dX0_doClean_8 0 rfl ?_
  refine v_get C in_X0 rfl 0 rfl 0 (by decide) q483 (fun _ h => h) rfl dX0_doClean_9 ?_
  refine v_getN C in_X1 rfl 3 rfl 1 (by decide) q157 (fun _ h => h) rfl dX0_doClean_12 ?_
  refine v_iload_n C dX0_doClean_15 1 rfl ?_
  refine v_zMV (ws' := (cw g a A nb nl nc (s_passes mi r nb) b od us tk bn suf)) C (j_get l g (A 3) (A 4) 3 (nI nl) nl (rfs A 20 nl) le (A (20 + le)) hl hnl (by decide) (rfs_at A 20 hl)) [_, _, _, _, _, _] rfl ok_J2_get rfl q359 rfl (Nat.le_of_ble_eq_true rfl) 0 rfl rfl rfl dX0_doClean_16 (roomL rfl rfl) ⟨rfl, rfl⟩ rfl ?_
  refine v_castS (r := (RX5, TX5, 4)) C q365 (nb + le + 11) (cw_leg hl) rfl dX0_doClean_19 ?_
  refine v_astore_n (lv' := [(3, _), (0, _), (1, _), (2, _)]) C dX0_doClean_22 rfl (by decide) rfl ?_
  refine v_aload_n C dX0_doClean_23 0 rfl ?_
  refine v_iconst (v := 0) C dX0_doClean_24 (by decide) ?_
  refine v_aload_n C dX0_doClean_25 0 rfl ?_
  refine v_getN C in_X5 rfl (nb + le + 11) (cw_leg hl) 2 (by decide) q680 (fun _ h => h) rfl dX0_doClean_26 ?_
  refine v_eqi (show _ = (s_passes mi r nb) (82 + 4 * le + 2) from rfl) ?_
  refine v_bipush (v := 50) C dX0_doClean_29 (by decide) ?_
  refine v_iload_n C dX0_doClean_31 3 rfl ?_
  refine v_imul C dX0_doClean_32 ?_
  refine v_isub C dX0_doClean_33 ?_
  refine v_mmax C q455 q376 q102 q377 dX0_doClean_34 (Nat.le_of_ble_eq_true rfl) (Nat.le_of_ble_eq_true rfl) (Nat.le_of_ble_eq_true rfl) (Nat.le_of_ble_eq_true rfl) ?_
  refine v_putN (ws' := (cw g a A nb nl nc (x_cl r nb le mi) b od us tk bn suf)) C in_X5 tyX5 tyX5_ok nmX5 rfl (nb + le + 11) (cw_leg hl) 2 (by decide) q680 (fun _ h => h) rfl rfl rfl (Nat.le_of_ble_eq_true rfl) dX0_doClean_37 (cw_setG1 (k := 2) hl hnb hnl (by decide) _) ?_
  refine v_aload_n C dX0_doClean_40 0 rfl ?_
  refine v_getN C in_X5 rfl (nb + le + 11) (cw_leg hl) 2 (by decide) q680 (fun _ h => h) rfl dX0_doClean_41 ?_
  refine v_eqi (show _ = (x_cl r nb le mi) (82 + 4 * le + 2) from rfl) ?_
  exact v_iret C dX0_doClean_44 (Nat.le_of_ble_eq_true rfl) (Nat.le_of_ble_eq_true rfl) ⟨rfl, rfl⟩
def M_X0_dryFault : Md := (yX0_dryFault, cX0_dryFault, 3, (some .int), 4, 104, 0, 0)
theorem ok_X0_dryFault : MOKv M_X0_dryFault 2 := ⟨q461, qs18, q89, q462, ⟨by decide +kernel, by decide +kernel, by decide +kernel⟩⟩
set_option maxHeartbeats 4000000 in
theorem x_dryFault (l : Launch) (g : GT) (a A : Nat → Nat) (nb nl nc : Nat) (r : Nat → Int32) (b : Nat → Int64) (od : Nat → Int32) (us : Int32) (tk : Nat → Int32) (bn : Int32) (suf : va_W) (hnb : nb ≤ 8) (hnl : nl ≤ 3) (hnc : nc ≤ 6) (bi st : Int32) : CtE l g M_X0_dryFault [.ref (a 0), .int bi, .int st] (cw g a A nb nl nc r b od us tk bn suf) (some (.int (x_dF r nb bi st))) (cw g a A nb nl nc r b od us tk bn suf) := by
  refine Ct.start2 (M := M_X0_dryFault) rfl [(0, .ref (a 0)), (1, .int bi), (2, .int st)] rfl (by decide +kernel) (Nat.le_of_ble_eq_true rfl) ?_
  intro p e s m args below meth c A9 C
  refine v_aload_n C dX0_dryFault_0 0 rfl ?_
  refine v_iload_n C dX0_dryFault_1 1 rfl ?_
  refine v_callVw C (x_isBin l g a A nb nl nc r b od us tk bn suf hnb hnl hnc _) ok_X0_isBin rfl q463 rfl (Nat.le_of_ble_eq_true rfl) 0 rfl rfl rfl dX0_dryFault_2 (roomL rfl rfl) ⟨rfl, rfl⟩ ?_
  refine v_if_neB C 11 dX0_dryFault_5 (by decide) (fun c5_1 => ?_) (fun c5_1 => ?_)
  · skip
    obtain ⟨ebi, hbi⟩ := isB_c (n := nb) rfl (by omega) c5_1
    refine v_iload_n C dX0_dryFault_11 2 rfl ?_
    refine v_iconst (v := 1) C dX0_dryFault_12 (by decide) ?_
    refine v_sipush (v := 200) C dX0_dryFault_13 (by decide) ?_
    refine v_callSp C (x_isIn l g _ _ _) ok_X0_isIn rfl q276 rfl (Nat.le_of_ble_eq_true rfl) dX0_dryFault_16 (roomL rfl rfl) ⟨rfl, rfl⟩ ?_
    refine v_if_neB C 25 dX0_dryFault_19 (by decide) (fun c19_2 => ?_) (fun c19_2 => ?_)
    · skip
      refine v_aload_n C dX0_dryFault_25 0 rfl ?_
      refine v_get C in_X0 rfl 0 rfl 0 (by decide) q483 (fun _ h => h) rfl dX0_dryFault_26 ?_
      refine v_getN C in_X1 rfl 3 rfl 0 (by decide) q155 (fun _ h => h) rfl dX0_dryFault_29 ?_
      refine v_iload_n C dX0_dryFault_32 1 rfl ?_
      refine v_eqi ebi ?_
      refine v_zMV (ws' := (cw g a A nb nl nc r b od us tk bn suf)) C (j_get l g (A 1) (A 2) 8 (nI nb) nb (rfs A 10 nb) bi.toNatClampNeg (A (10 + bi.toNatClampNeg)) hbi hnb (by decide) (rfs_at A 10 hbi)) [_, _, _, _] rfl ok_J2_get rfl q359 rfl (Nat.le_of_ble_eq_true rfl) 0 rfl rfl rfl dX0_dryFault_33 (roomL rfl rfl) ⟨rfl, rfl⟩ rfl ?_
      refine v_castS (r := (RX4, TX4, 9)) C q360 (bi.toNatClampNeg + 11) (cw_bin hbi) rfl dX0_dryFault_36 ?_
      refine v_getN C in_X4 rfl (bi.toNatClampNeg + 11) (cw_bin hbi) 3 (by decide) q605 (fun _ h => h) rfl dX0_dryFault_39 ?_
      refine v_eqi (show _ = r (10 + 9 * bi.toNatClampNeg + 3) from rfl) ?_
      refine v_if_ne C 48 dX0_dryFault_42 (by decide) (fun c42_3 => ?_) (fun c42_3 => ?_)
      · skip
        refine v_aload_n C dX0_dryFault_48 0 rfl ?_
        refine v_bipush (v := 10) C dX0_dryFault_49 (by decide) ?_
        refine v_iload_n C dX0_dryFault_51 2 rfl ?_
        refine v_imul C dX0_dryFault_52 ?_
        refine v_i2l C dX0_dryFault_53 ?_
        refine v_callVw C (x_hasTime l g a A nb nl nc r b od us tk bn suf hnb hnl hnc _) ok_X0_hasTime rfl q325 rfl (Nat.le_of_ble_eq_true rfl) 0 rfl rfl rfl dX0_dryFault_54 (roomL rfl rfl) ⟨rfl, rfl⟩ ?_
        refine v_if_eqB C 64 dX0_dryFault_57 (by decide) (fun c57_4 => ?_) (fun c57_4 => ?_)
        · skip
          refine v_bipush (v := -5) C dX0_dryFault_64 (by decide) ?_
          exact v_iret C dX0_dryFault_66 (Nat.le_of_ble_eq_true rfl) (Nat.le_of_ble_eq_true rfl) (by unfold x_dF; rw [if_pos c5_1, if_pos c19_2, if_neg c42_3, if_neg c57_4]; exact ⟨rfl, rfl⟩)
        · skip
          refine v_iconst (v := 0) C dX0_dryFault_60 (by decide) ?_
          refine v_goto C 66 dX0_dryFault_61 (by decide) ?_
          exact v_iret C dX0_dryFault_66 (Nat.le_of_ble_eq_true rfl) (Nat.le_of_ble_eq_true rfl) (by unfold x_dF; rw [if_pos c5_1, if_pos c19_2, if_neg c42_3, if_pos c57_4]; exact ⟨rfl, rfl⟩)
      · skip
        refine v_bipush (v := -4) C dX0_dryFault_45 (by decide) ?_
        exact v_iret C dX0_dryFault_47 (Nat.le_of_ble_eq_true rfl) (Nat.le_of_ble_eq_true rfl) (by unfold x_dF; rw [if_pos c5_1, if_pos c19_2, if_pos c42_3]; exact ⟨rfl, rfl⟩)
    · skip
      refine v_bipush (v := -3) C dX0_dryFault_22 (by decide) ?_
      exact v_iret C dX0_dryFault_24 (Nat.le_of_ble_eq_true rfl) (Nat.le_of_ble_eq_true rfl) (by unfold x_dF; rw [if_pos c5_1, if_neg c19_2]; exact ⟨rfl, rfl⟩)
  · skip
    refine v_bipush (v := -2) C dX0_dryFault_8 (by decide) ?_
    exact v_iret C dX0_dryFault_10 (Nat.le_of_ble_eq_true rfl) (Nat.le_of_ble_eq_true rfl) (by unfold x_dF; rw [if_neg c5_1]; exact ⟨rfl, rfl⟩)
def M_X0_doDry : Md := (yX0_doDry, cX0_doDry, 5, (some .int), 5, 126, 0, 0)
theorem ok_X0_doDry : MOKv M_X0_doDry 2 := ⟨q472, qs21, q89, q473, ⟨by decide +kernel, by decide +kernel, by decide +kernel⟩⟩
set_option maxHeartbeats 4000000 in
theorem x_doDry (l : Launch) (g : GT) (a A : Nat → Nat) (nb nl nc : Nat) (r : Nat → Int32) (b : Nat → Int64) (od : Nat → Int32) (us : Int32) (tk : Nat → Int32) (bn : Int32) (suf : va_W) (hnb : nb ≤ 8) (hnl : nl ≤ 3) (hnc : nc ≤ 6) (bi : Nat) (hb : bi < nb) (st : Nat) (hs : st ≤ 200) : CtE l g M_X0_doDry [.ref (a 0), .int (nI bi), .int (nI st)] (cw g a A nb nl nc r b od us tk bn suf) (some (.int (nI (x_dries bi nb st 0 (r, b)).1))) (cw g a A nb nl nc (x_dries bi nb st 0 (r, b)).2.1 (x_dries bi nb st 0 (r, b)).2.2 od us tk bn suf) := by
  refine Ct.start2 (M := M_X0_doDry) rfl [(0, .ref (a 0)), (1, .int (nI bi)), (2, .int (nI st))] rfl (by decide +kernel) (Nat.le_of_ble_eq_true rfl) ?_
  intro p e s m args below meth c A9 C
  refine v_aload_n C dX0_doDry_0 0 rfl ?_
  refine v_get C in_X0 rfl 0 rfl 0 (by decide) q483 (fun _ h => h) rfl dX0_doDry_1 ?_
  refine v_getN C in_X1 rfl 3 rfl 0 (by decide) q155 (fun _ h => h) rfl dX0_doDry_4 ?_
  refine v_iload_n C dX0_doDry_7 1 rfl ?_
  refine v_zMV (ws' := (cw g a A nb nl nc r b od us tk bn suf)) C (j_get l g (A 1) (A 2) 8 (nI nb) nb (rfs A 10 nb) bi (A (10 + bi)) hb hnb (by decide) (rfs_at A 10 hb)) [_, _, _, _] rfl ok_J2_get rfl q359 rfl (Nat.le_of_ble_eq_true rfl) 0 rfl rfl rfl dX0_doDry_8 (roomL rfl rfl) ⟨rfl, rfl⟩ rfl ?_
  refine v_castS (r := (RX4, TX4, 9)) C q360 (bi + 11) (cw_bin hb) rfl dX0_doDry_11 ?_
  refine v_astore_n (lv' := [(3, _), (0, _), (1, _), (2, _)]) C dX0_doDry_14 rfl (by decide) rfl ?_
  refine v_iconst (v := 0) C dX0_doDry_15 (by decide) ?_
  refine v_istore (lv' := [(4, _), (3, _), (0, _), (1, _), (2, _)]) C dX0_doDry_16 (by decide) rfl ?_
  refine v_while (α := Nat × Nat × (Nat → Int32) × (Nat → Int64)) (fun x => x.1) (fun x => x.1 + x.2.1 = st ∧ x_dries bi nb st 0 (r, b) = x_dries bi nb x.1 x.2.1 x.2.2) (fun x => [(4, .int (nI x.2.1)), (3, .ref (A (10 + bi))), (0, .ref (a 0)), (1, .int (nI bi)), (2, .int (nI st))]) (fun x => cw g a A nb nl nc x.2.2.1 x.2.2.2 od us tk bn suf) (st, 0, r, b) rfl rfl ⟨rfl, rfl⟩ ?_
  rintro ⟨f, n9, r9, b9⟩ ⟨h1, h2⟩ ih
  dsimp only at h1 h2 ih ⊢
  refine v_iload C dX0_doDry_18 0 rfl ?_
  refine v_iload_n C dX0_doDry_20 4 rfl ?_
  refine v_icmp_ge C 79 dX0_doDry_21 (by decide) (fun c21_1 => ?_) (fun c21_1 => ?_)
  · skip
    have hf0 : f = 0 := by have := (nI_leI (by omega) (by omega)).mp c21_1; omega
    subst hf0
    have hx := h2
    rw [x_dries] at hx
    refine v_iload C dX0_doDry_79 0 rfl ?_
    exact v_iret C dX0_doDry_81 (Nat.le_of_ble_eq_true rfl) (Nat.le_of_ble_eq_true rfl) (by rw [hx]; exact ⟨rfl, rfl⟩)
  · skip
    obtain ⟨f, rfl⟩ : ∃ y, f = y + 1 := ⟨f - 1, by rcases Nat.eq_zero_or_pos f with q | q; exact absurd ((nI_leI (by omega) (by omega)).mpr (by omega)) c21_1; omega⟩
    refine v_aload_n C dX0_doDry_24 1 rfl ?_
    refine v_zFV (ws' := (cw g a A nb nl nc r9 b9 od us tk bn suf)) C (x_moisture l g _ (bv r9 bi)) ok_X4_moisture rfl q474 rfl (Nat.le_of_ble_eq_true rfl) (bi + 11) (cw_bin hb) rfl rfl dX0_doDry_25 (roomL rfl rfl) ⟨rfl, rfl⟩ (set_same (cw_bin hb)) ?_
    refine v_bipush (v := 50) C dX0_doDry_28 (by decide) ?_
    refine v_icmp_le C 79 dX0_doDry_30 (by decide) (fun c30_2 => ?_) (fun c30_2 => ?_)
    · skip
      have hx := h2
      rw [x_dries, if_pos c30_2] at hx
      refine v_iload C dX0_doDry_79 0 rfl ?_
      exact v_iret C dX0_doDry_81 (Nat.le_of_ble_eq_true rfl) (Nat.le_of_ble_eq_true rfl) (by rw [hx]; exact ⟨rfl, rfl⟩)
    · skip
      refine v_aload_n C dX0_doDry_33 2 rfl ?_
      refine v_get C in_X0 rfl 0 rfl 0 (by decide) q483 (fun _ h => h) rfl dX0_doDry_34 ?_
      refine v_bipush (v := 10) C dX0_doDry_37 (by decide) ?_
      refine v_zTVv (ws' := (cw g a A nb nl nc (s_passes 10 r9 nb) b9 od us tk bn suf)) C (x_spass l g A nb nl nc r9 b9 suf hnb hnl hnc _) [_, _, _] rfl ok_X1_pass rfl q337 rfl (Nat.le_of_ble_eq_true rfl) 0 rfl rfl rfl dX0_doDry_39 (roomL rfl rfl) ⟨rfl, rfl⟩ rfl ?_
      refine v_aload_n C dX0_doDry_42 2 rfl ?_
      refine v_get C in_X0 rfl 0 rfl 0 (by decide) q483 (fun _ h => h) rfl dX0_doDry_43 ?_
      refine v_dup C dX0_doDry_46 rfl ?_
      refine v_getN C in_X1 rfl 3 rfl 9 (by decide) q173 (fun _ h => h) rfl dX0_doDry_47 ?_
      refine v_aload_n C dX0_doDry_50 1 rfl ?_
      refine v_zFV (ws' := (cw g a A nb nl nc (xd1 bi nb r9) b9 od us tk bn suf)) C (x_dry l g _ (bv (s_passes 10 r9 nb) bi)) ok_X4_dry rfl q475 rfl (Nat.le_of_ble_eq_true rfl) (bi + 11) (cw_bin hb) rfl rfl dX0_doDry_51 (roomL rfl rfl) ⟨rfl, rfl⟩ (cw_setB hb hnb pb_in pb_out) ?_
      refine v_iadd C dX0_doDry_54 ?_
      refine v_putN (ws' := (cw g a A nb nl nc (xd1 bi nb r9) (vp_updL b9 2 (b9 2 + (xdL bi nb r9).toInt64)) od us tk bn suf)) C in_X1 tyX1 tyX1_ok nmX1 rfl 3 rfl 9 (by decide) q173 (fun _ h => h) rfl rfl rfl (Nat.le_of_ble_eq_true rfl) dX0_doDry_55 (cw_b2 (b9 2 + (xdL bi nb r9).toInt64) (toI32_add _ _)) ?_
      refine v_aload_n C dX0_doDry_58 2 rfl ?_
      refine v_get C in_X0 rfl 0 rfl 0 (by decide) q483 (fun _ h => h) rfl dX0_doDry_59 ?_
      refine v_dup C dX0_doDry_62 rfl ?_
      refine v_getN C in_X1 rfl 3 rfl 12 (by decide) q179 (fun _ h => h) rfl dX0_doDry_63 ?_
      refine v_ldc2 C dX0_doDry_66 q482 ?_
      refine v_ladd C dX0_doDry_69 ?_
      refine v_putN (ws' := (cw g a A nb nl nc (xd1 bi nb r9) (vp_updL (vp_updL b9 2 (b9 2 + (xdL bi nb r9).toInt64)) 5 (b9 5 + 3)) od us tk bn suf)) C in_X1 tyX1 tyX1_ok nmX1 rfl 3 rfl 12 (by decide) q179 (fun _ h => h) rfl rfl rfl (Nat.le_of_ble_eq_true rfl) dX0_doDry_70 (cw_b5 _) ?_
      refine v_iinc (lv' := [(4, _), (3, _), (0, _), (1, _), (2, _)]) C dX0_doDry_73 0 rfl (nI_1 n9) (by decide) rfl ?_
      refine v_goto C 18 dX0_doDry_76 (by decide) ?_
      exact ih (f, n9 + 1, xd1 bi nb r9, xdB bi nb r9 b9) ⟨by dsimp only; omega, by dsimp only; rw [h2, x_dries, if_neg c30_2]⟩ (by dsimp only; omega)
