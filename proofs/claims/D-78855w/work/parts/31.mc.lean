/-! the reference: the whole text -/
set_option maxRecDepth 100000
theorem bB_0 {b : Bool} (h : bB b = 0) : b = false := by cases b; rfl; exact absurd h (by decide)
theorem bB_1 {b : Bool} (h : ¬ bB b = 0) : b = true := by cases b; exact absurd rfl h; rfl
theorem bB_nar (b : Bool) : narrow .boolean (.int (bB b)) = .int (bB b) := by cases b <;> rfl
theorem ordX_le (rl : Bool) (t : Nat → Int32) (ln nb k : Nat) (x : XT) (h : k ≤ ln) : k ≤ (ordX rl t ln nb k x).2.1 ∧ (ordX rl t ln nb k x).2.1 ≤ ln := by
  rw [ordX_pos]; exact ro_pos t ln k _ _ h
theorem ordX_keep (t : Nat → Int32) (ln nb k : Nat) (x : XT) : (ordX false t ln nb k x).2.2.1 = x.1 ∧ (ordX false t ln nb k x).2.2.2.1 = x.2.1 := by
  unfold ordX
  dsimp only
  rw [if_neg Bool.false_ne_true]
  split <;> exact ⟨rfl, rfl⟩
theorem rtL_keep (t : Nat → Int32) (ln nb f : Nat) : ∀ (ok : Bool) (q : Nat) (x : XT), (rtL false t ln nb f ok q x).2.2.1 = x.1 ∧ (rtL false t ln nb f ok q x).2.2.2.1 = x.2.1 := by
  induction f with
  | zero => intro ok q x; exact ⟨rfl, rfl⟩
  | succ f ih =>
    intro ok q x
    unfold rtL
    have hk := ordX_keep t ln nb (q + 1) x
    have h2 := ih (ordX false t ln nb (q + 1) x).1 (sk t ln (ordX false t ln nb (q + 1) x).2.1) (ordX false t ln nb (q + 1) x).2.2
    repeat' split
    all_goals first | exact ⟨rfl, rfl⟩ | exact ⟨h2.1.trans hk.1, h2.2.trans hk.2⟩
theorem rt_keep (t : Nat → Int32) (ln nb : Nat) (r : Nat → Int32) (bk : Nat → Int64) (num : Int32) (td : Nat → Int32) : (rt false t ln nb r bk num td).2.2.1 = r ∧ (rt false t ln nb r bk num td).2.2.2.1 = bk := by
  unfold rt
  have hk := ordX_keep t ln nb 0 (r, bk, num, td, 0, 1)
  have h2 := rtL_keep t ln nb (ln + 2) (ordX false t ln nb 0 (r, bk, num, td, 0, 1)).1 (sk t ln (ordX false t ln nb 0 (r, bk, num, td, 0, 1)).2.1) (ordX false t ln nb 0 (r, bk, num, td, 0, 1)).2.2
  exact ⟨h2.1.trans hk.1, h2.2.trans hk.2⟩
def M_X3_readsText : Md := (yX3_readsText, cX3_readsText, 4, (some .boolean), 8, 207, 0, 0)
theorem ok_X3_readsText : MOKv M_X3_readsText 1 := ⟨q1521, qs82, q103, q1522, ⟨by decide +kernel, by decide +kernel, by decide +kernel⟩⟩
set_option maxHeartbeats 4000000 in
theorem m_readsText (l : Launch) (g : GT) (a : Nat → Nat) (row : Nat → Int32) (books : Nat → Int64) (S : Int32 × (Nat → Int32)) (B : (Nat → Int32) × Int32 × (Nat → Int32)) (T : (Nat → Int32) × Int32) (P : Int32 × Int32 × (Nat → Int32) × Int32 × Int32) (h : Int64) (rl : Bool) (nb nl : Nat) (hR : RowOk row nb nl) (ln : Nat) (hT : T.2 = nI ln) (h120 : ln ≤ 120) (hch : ∀ j, j < ln → 0 ≤ T.1 j) : CtE l g M_X3_readsText [.ref (a 0), .int (bB rl)] (mw g a row books S B T P h) (some (.int (bB (rt rl T.1 ln nb row books P.2.1 P.2.2.1).1))) (mw g a (rt rl T.1 ln nb row books P.2.1 P.2.2.1).2.2.1 (rt rl T.1 ln nb row books P.2.1 P.2.2.1).2.2.2.1 S B T (nI (rt rl T.1 ln nb row books P.2.1 P.2.2.1).2.1, (rt rl T.1 ln nb row books P.2.1 P.2.2.1).2.2.2.2) h) := by
  refine Ct.start2 (M := M_X3_readsText) rfl [(0, .ref (a 0)), (1, .int (bB rl))] rfl (by decide +kernel) (Nat.le_of_ble_eq_true rfl) ?_
  intro p e s m args below meth c A C
  obtain ⟨t, lnI⟩ := T
  obtain ⟨at0, num, td, dn, gs⟩ := P
  dsimp only at hT hch ⊢
  subst hT
  refine v_aload_n C dX3_readsText_0 0 rfl ?_
  refine v_iconst (v := 0) C dX3_readsText_1 (by decide) ?_
  refine v_put (ws' := mw g a _ _ _ _ _ ((0 : Int32), num, td, dn, gs) _) C in_X3 tyX3 tyX3_ok nmX3 rfl 0 rfl 9 (by decide) q1175 (fun _ h => h) rfl rfl rfl (Nat.le_of_ble_eq_true rfl) dX3_readsText_2 rfl ?_
  refine v_aload_n C dX3_readsText_5 0 rfl ?_
  refine v_iconst (v := 0) C dX3_readsText_6 (by decide) ?_
  refine v_put (ws' := mw g a _ _ _ _ _ ((0 : Int32), num, td, (0 : Int32), gs) _) C in_X3 tyX3 tyX3_ok nmX3 rfl 0 rfl 12 (by decide) q1178 (fun _ h => h) rfl rfl rfl (Nat.le_of_ble_eq_true rfl) dX3_readsText_7 rfl ?_
  refine v_aload_n C dX3_readsText_10 0 rfl ?_
  refine v_iconst (v := 1) C dX3_readsText_11 (by decide) ?_
  refine v_put (ws' := mw g a _ _ _ _ _ ((0 : Int32), num, td, (0 : Int32), (1 : Int32)) _) C in_X3 tyX3 tyX3_ok nmX3 rfl 0 rfl 13 (by decide) q1179 (fun _ h => h) rfl rfl rfl (Nat.le_of_ble_eq_true rfl) dX3_readsText_12 rfl ?_
  refine v_aload_n C dX3_readsText_15 0 rfl ?_
  refine v_iload_n C dX3_readsText_16 1 rfl ?_
  refine v_callVw C (m_readsOrder l g a _ _ _ _ _ _ _ rl nb nl hR ln 0 rfl rfl h120 (by omega) hch) ok_X3_readsOrder rfl q1523 rfl (Nat.le_of_ble_eq_true rfl) 0 rfl rfl rfl dX3_readsText_17 (roomL rfl rfl) ⟨rfl, rfl⟩ ?_
  obtain ⟨hp1, hp2⟩ := ordX_le rl t ln nb 0 (row, books, num, td, 0, 1) (by omega)
  refine v_istore_n (lv' := [(2, _), (0, _), (1, _)]) C dX3_readsText_20 rfl (by decide) rfl ?_
  refine v_aload_n C dX3_readsText_21 1 rfl ?_
  refine v_callVw C (m_here l g a _ _ _ _ _ _ _ ln (ordX rl t ln nb 0 (row, books, num, td, 0, 1)).2.1 rfl rfl h120 hp2) ok_X3_here rfl q1527 rfl (Nat.le_of_ble_eq_true rfl) 0 rfl rfl rfl dX3_readsText_22 (roomL rfl rfl) ⟨rfl, rfl⟩ ?_
  obtain ⟨hh1, hh2⟩ := sk_le (t := t) hp2
  refine v_istore_n (lv' := [(3, _), (2, _), (0, _), (1, _)]) C dX3_readsText_25 rfl (by decide) rfl ?_
  refine v_while (α := Nat × Bool × Nat × XT) (fun x => 2 * (ln + 1 - x.2.2.1) + (if x.2.1 = true then 1 else 0)) (fun x => RowOk x.2.2.2.1 nb nl ∧ x.2.2.1 ≤ ln ∧ ln + 1 ≤ x.1 + x.2.2.1 ∧ (rt rl t ln nb row books num td) = rtL rl t ln nb x.1 x.2.1 x.2.2.1 x.2.2.2) (fun x => [(3, .int (hv t ln x.2.2.1)), (2, .int (bB x.2.1)), (0, .ref (a 0)), (1, .int (bB rl))]) (fun x => mw g a x.2.2.2.1 x.2.2.2.2.1 S B (t, nI ln) (nI x.2.2.1, x.2.2.2.2.2) h) (ln + 2, (ordX rl t ln nb 0 (row, books, num, td, 0, 1)).1, sk t ln (ordX rl t ln nb 0 (row, books, num, td, 0, 1)).2.1, (ordX rl t ln nb 0 (row, books, num, td, 0, 1)).2.2) rfl rfl ⟨ordX_ok hR, hh2, by dsimp only; omega, rfl⟩ ?_
  rintro ⟨f, ok, q, r, bk, nm, tt, dd, gg⟩ ⟨hRx, hq, hfu, hfin⟩ ih
  dsimp only at hRx hq hfu hfin ih ⊢
  refine v_iload_n C dX3_readsText_26 1 rfl ?_
  refine v_if_eq C 75 dX3_readsText_27 (by decide) (fun c27_1 => ?_) (fun c27_1 => ?_)
  · skip
    try dsimp only at c27_1
    have hok := bB_0 c27_1
    subst hok
    refine v_iload_n C dX3_readsText_75 1 rfl ?_
    exact v_zret C (bB_nar _) dX3_readsText_76 (Nat.le_of_ble_eq_true rfl) (Nat.le_of_ble_eq_true rfl) (by rw [hfin, rtL_f]; exact ⟨rfl, rfl⟩)
  · skip
    try dsimp only at c27_1
    have hok := bB_1 c27_1
    subst hok
    obtain ⟨f, rfl⟩ : ∃ y, f = y + 1 := ⟨f - 1, by omega⟩
    refine v_iload_n C dX3_readsText_30 0 rfl ?_
    refine v_iconst (v := -1) C dX3_readsText_31 (by decide) ?_
    refine v_icmp_eq C 75 dX3_readsText_32 (by decide) (fun c32_2 => ?_) (fun c32_2 => ?_)
    · skip
      try dsimp only at c32_2
      refine v_iload_n C dX3_readsText_75 1 rfl ?_
      exact v_zret C (bB_nar _) dX3_readsText_76 (Nat.le_of_ble_eq_true rfl) (Nat.le_of_ble_eq_true rfl) (by rw [hfin, rtL, if_pos rfl, if_pos c32_2]; exact ⟨rfl, rfl⟩)
    · skip
      try dsimp only at c32_2
      refine v_iload_n C dX3_readsText_35 0 rfl ?_
      refine v_bipush (v := 59) C dX3_readsText_36 (by decide) ?_
      refine v_icmp_ne C 45 dX3_readsText_38 (by decide) (fun c38_3 => ?_) (fun c38_3 => ?_)
      · skip
        try dsimp only at c38_3
        refine v_iconst (v := 0) C dX3_readsText_45 (by decide) ?_
        refine v_istore_n (lv' := [(2, _), (3, _), (0, _), (1, _)]) C dX3_readsText_46 rfl (by decide) rfl ?_
        refine v_iload_n C dX3_readsText_47 0 rfl ?_
        refine v_if_eq C 26 dX3_readsText_48 (by decide) (fun c48_4 => ?_) (fun c48_4 => ?_)
        · skip
          try dsimp only at c48_4
          refine v_lvp (lv' := [(3, _), (2, _), (0, _), (1, _)]) [1, 0, 2, 3] rfl ?_
          exact ih (f + 1, false, q, (r, bk, nm, tt, dd, gg)) ⟨hRx, hq, hfu, by dsimp only; rw [hfin, rtL, if_pos rfl, if_neg c32_2, if_neg c38_3, rtL_f]⟩ (by dsimp only; rw [if_neg Bool.false_ne_true, if_pos rfl]; omega)
        · exact absurd (by decide) c48_4
      · skip
        try dsimp only at c38_3
        have hlq := hv_lt c38_3 (by decide)
        refine v_iconst (v := 1) C dX3_readsText_41 (by decide) ?_
        refine v_goto C 46 dX3_readsText_42 (by decide) ?_
        refine v_istore_n (lv' := [(2, _), (3, _), (0, _), (1, _)]) C dX3_readsText_46 rfl (by decide) rfl ?_
        refine v_iload_n C dX3_readsText_47 0 rfl ?_
        refine v_if_eq C 26 dX3_readsText_48 (by decide) (fun c48_5 => ?_) (fun c48_5 => ?_)
        · exact absurd c48_5 (by decide)
        · skip
          try dsimp only at c48_5
          refine v_aload_n C dX3_readsText_51 2 rfl ?_
          refine v_dup C dX3_readsText_52 rfl ?_
          refine v_get C in_X3 rfl 0 rfl 9 (by decide) q1175 (fun _ h => h) rfl dX3_readsText_53 ?_
          refine v_eqi (show _ = (nI q) from rfl) ?_
          refine v_iconst (v := 1) C dX3_readsText_56 (by decide) ?_
          refine v_iadd C dX3_readsText_57 ?_
          refine v_eqi (nI_add q 1) ?_
          refine v_put (ws' := mw g a _ _ _ _ _ ((nI (q + 1)), nm, tt, dd, gg) _) C in_X3 tyX3 tyX3_ok nmX3 rfl 0 rfl 9 (by decide) q1175 (fun _ h => h) rfl rfl rfl (Nat.le_of_ble_eq_true rfl) dX3_readsText_58 rfl ?_
          refine v_aload_n C dX3_readsText_61 2 rfl ?_
          refine v_iload_n C dX3_readsText_62 3 rfl ?_
          refine v_callVw C (m_readsOrder l g a _ _ _ _ _ _ _ rl nb nl hRx ln (q + 1) rfl rfl h120 (by omega) hch) ok_X3_readsOrder rfl q1523 rfl (Nat.le_of_ble_eq_true rfl) 0 rfl rfl rfl dX3_readsText_63 (roomL rfl rfl) ⟨rfl, rfl⟩ ?_
          obtain ⟨hp1, hp2⟩ := ordX_le rl t ln nb (q + 1) (r, bk, nm, tt, dd, gg) (by omega)
          refine v_istore_n (lv' := [(2, _), (3, _), (0, _), (1, _)]) C dX3_readsText_66 rfl (by decide) rfl ?_
          refine v_aload_n C dX3_readsText_67 2 rfl ?_
          refine v_callVw C (m_here l g a _ _ _ _ _ _ _ ln (ordX rl t ln nb (q + 1) (r, bk, nm, tt, dd, gg)).2.1 rfl rfl h120 hp2) ok_X3_here rfl q1527 rfl (Nat.le_of_ble_eq_true rfl) 0 rfl rfl rfl dX3_readsText_68 (roomL rfl rfl) ⟨rfl, rfl⟩ ?_
          obtain ⟨hh1, hh2⟩ := sk_le (t := t) hp2
          refine v_istore_n (lv' := [(3, _), (2, _), (0, _), (1, _)]) C dX3_readsText_71 rfl (by decide) rfl ?_
          refine v_goto C 26 dX3_readsText_72 (by decide) ?_
          exact ih (f, (ordX rl t ln nb (q + 1) (r, bk, nm, tt, dd, gg)).1, sk t ln (ordX rl t ln nb (q + 1) (r, bk, nm, tt, dd, gg)).2.1, (ordX rl t ln nb (q + 1) (r, bk, nm, tt, dd, gg)).2.2) ⟨ordX_ok hRx, hh2, by dsimp only; omega, by dsimp only; rw [hfin, rtL, if_pos rfl, if_neg c32_2, if_pos c38_3]⟩ (by dsimp only; rw [if_pos (rfl : true = true)]; split <;> omega)
def M_X3_textFault : Md := (yX3_textFault, cX3_textFault, 1, (some .int), 9, 230, 0, 0)
theorem ok_X3_textFault : MOKv M_X3_textFault 0 := ⟨q1516, q1517, q103, q1518, ⟨by decide +kernel, by decide +kernel, by decide +kernel⟩⟩
set_option maxHeartbeats 4000000 in
theorem m_textFault (l : Launch) (g : GT) (a : Nat → Nat) (row : Nat → Int32) (books : Nat → Int64) (S : Int32 × (Nat → Int32)) (B : (Nat → Int32) × Int32 × (Nat → Int32)) (T : (Nat → Int32) × Int32) (P : Int32 × Int32 × (Nat → Int32) × Int32 × Int32) (h : Int64) (nb nl : Nat) (hR : RowOk row nb nl) (ln : Nat) (hT : T.2 = nI ln) (h120 : ln ≤ 120) (hch : ∀ j, j < ln → 0 ≤ T.1 j) : Ct l g M_X3_textFault [.ref (a 0)] (mw g a row books S B T P h) (fun rv w => rv = some (.int (if bB (rt false T.1 ln nb row books P.2.1 P.2.2.1).1 = 0 then nI (rt false T.1 ln nb row books P.2.1 P.2.2.1).2.1 else -1)) ∧ ∃ P', w = mw g a row books S B T P' h) := by
  refine Ct.start2 (M := M_X3_textFault) rfl [(0, .ref (a 0))] rfl (by decide +kernel) (Nat.le_of_ble_eq_true rfl) ?_
  intro p e s m args below meth c A C
  refine v_aload_n C dX3_textFault_0 0 rfl ?_
  refine v_iconst (v := 0) C dX3_textFault_1 (by decide) ?_
  refine v_callVw C (m_readsText l g a _ _ _ _ _ _ _ false nb nl hR ln hT h120 hch) ok_X3_readsText rfl q1519 rfl (Nat.le_of_ble_eq_true rfl) 0 rfl rfl rfl dX3_textFault_2 (roomL rfl rfl) ⟨rfl, rfl⟩ ?_
  refine v_if_eq C 12 dX3_textFault_5 (by decide) (fun c5_1 => ?_) (fun c5_1 => ?_)
  · skip
    refine v_aload_n C dX3_textFault_12 0 rfl ?_
    refine v_get C in_X3 rfl 0 rfl 9 (by decide) q1175 (fun _ h => h) rfl dX3_textFault_13 ?_
    exact v_iret C dX3_textFault_16 (Nat.le_of_ble_eq_true rfl) (Nat.le_of_ble_eq_true rfl) (by rw [if_pos c5_1]; exact ⟨rfl, _, by rw [(rt_keep T.1 ln nb row books P.2.1 P.2.2.1).1, (rt_keep T.1 ln nb row books P.2.1 P.2.2.1).2]⟩)
  · skip
    refine v_iconst (v := -1) C dX3_textFault_8 (by decide) ?_
    refine v_goto C 16 dX3_textFault_9 (by decide) ?_
    exact v_iret C dX3_textFault_16 (Nat.le_of_ble_eq_true rfl) (Nat.le_of_ble_eq_true rfl) (by rw [if_neg c5_1]; exact ⟨rfl, _, by rw [(rt_keep T.1 ln nb row books P.2.1 P.2.2.1).1, (rt_keep T.1 ln nb row books P.2.1 P.2.2.1).2]⟩)
def M_X3_orders : Md := (yX3_orders, cX3_orders, 2, (some .int), 9, 230, 0, 0)
theorem ok_X3_orders : MOKv M_X3_orders 0 := ⟨q1540, q1541, q103, q1542, ⟨by decide +kernel, by decide +kernel, by decide +kernel⟩⟩
def p_orders (T : (Nat → Int32) × Int32) (ln : Nat) (K : KT) (P : Int32 × Int32 × (Nat → Int32) × Int32 × Int32) : Int32 × KT :=
  if bB (rt false T.1 ln (nbK K) K.1 K.2.1 P.2.1 P.2.2.1).1 = 0 then (-4, K) else ((rt true T.1 ln (nbK K) (svK K).1 (svK K).2.1 (rt false T.1 ln (nbK K) K.1 K.2.1 P.2.1 P.2.2.1).2.2.2.2.1 (rt false T.1 ln (nbK K) K.1 K.2.1 P.2.1 P.2.2.1).2.2.2.2.2.1).2.2.2.2.2.2.1, ((rt true T.1 ln (nbK K) (svK K).1 (svK K).2.1 (rt false T.1 ln (nbK K) K.1 K.2.1 P.2.1 P.2.2.1).2.2.2.2.1 (rt false T.1 ln (nbK K) K.1 K.2.1 P.2.1 P.2.2.1).2.2.2.2.2.1).2.2.1, (rt true T.1 ln (nbK K) (svK K).1 (svK K).2.1 (rt false T.1 ln (nbK K) K.1 K.2.1 P.2.1 P.2.2.1).2.2.2.2.1 (rt false T.1 ln (nbK K) K.1 K.2.1 P.2.1 P.2.2.1).2.2.2.2.2.1).2.2.2.1, (svK K).2.2))
set_option maxHeartbeats 4000000 in
theorem m_orders (l : Launch) (g : GT) (a : Nat → Nat) (K : KT) (B : (Nat → Int32) × Int32 × (Nat → Int32)) (T : (Nat → Int32) × Int32) (P : Int32 × Int32 × (Nat → Int32) × Int32 × Int32) (h : Int64) (hK : KOk K) (hsp : ∀ l, l < nlK K → ¬ K.1 (82 + 4 * l + 0) = 0) (ln : Nat) (hT : T.2 = nI ln) (h120 : ln ≤ 120) (hch : ∀ j, j < ln → 0 ≤ T.1 j) : Ct l g M_X3_orders [.ref (a 0)] (mw g a K.1 K.2.1 K.2.2 B T P h) (fun rv w => rv = some (.int (p_orders T ln K P).1) ∧ ∃ P', w = mw g a (p_orders T ln K P).2.1 (p_orders T ln K P).2.2.1 (p_orders T ln K P).2.2.2 B T P' h) := by
  refine Ct.start2 (M := M_X3_orders) rfl [(0, .ref (a 0))] rfl (by decide +kernel) (Nat.le_of_ble_eq_true rfl) ?_
  intro p e s m args below meth c A C
  obtain ⟨⟨hnb, hb8⟩, ⟨hnl, hl3⟩, ⟨hnc, hc6⟩, hsv, hs5⟩ := id hK
  have hR : RowOk K.1 (nbK K) (nlK K) := ⟨hnb, hb8, hnl, hl3, hsp⟩
  have hR1 : RowOk (svK K).1 (nbK K) (nlK K) := ⟨svK_2 hK, hb8, svK_3 hK, hl3, fun l hl => by rw [svK_lo _ (by omega)]; exact hsp l hl⟩
  refine v_aload_n C dX3_orders_0 0 rfl ?_
  refine v_iconst (v := 0) C dX3_orders_1 (by decide) ?_
  refine v_callVw C (m_readsText l g a _ _ _ _ _ _ _ false (nbK K) (nlK K) hR ln hT h120 hch) ok_X3_readsText rfl q1519 rfl (Nat.le_of_ble_eq_true rfl) 0 rfl rfl rfl dX3_orders_2 (roomL rfl rfl) ⟨rfl, rfl⟩ ?_
  refine v_ws (ws' := mw g a K.1 K.2.1 K.2.2 B T (nI (rt false T.1 ln (nbK K) K.1 K.2.1 P.2.1 P.2.2.1).2.1, (rt false T.1 ln (nbK K) K.1 K.2.1 P.2.1 P.2.2.1).2.2.2.2) h) (by rw [(rt_keep T.1 ln (nbK K) K.1 K.2.1 P.2.1 P.2.2.1).1, (rt_keep T.1 ln (nbK K) K.1 K.2.1 P.2.1 P.2.2.1).2]) ?_
  refine v_if_ne C 11 dX3_orders_5 (by decide) (fun c5_1 => ?_) (fun c5_1 => ?_)
  · skip
    refine v_aload_n C dX3_orders_11 0 rfl ?_
    refine v_callVv C (m_saves l g a _ _ _ _ _ hK.2.2.2.1 hK.2.2.2.2) ok_X3_saves rfl q1221 rfl (Nat.le_of_ble_eq_true rfl) 0 rfl rfl rfl dX3_orders_12 (roomL rfl rfl) ⟨rfl, rfl⟩ ?_
    refine v_aload_n C dX3_orders_15 0 rfl ?_
    refine v_iconst (v := 1) C dX3_orders_16 (by decide) ?_
    refine v_callVw C (m_readsText l g a _ _ _ _ _ _ _ true (nbK K) (nlK K) hR1 ln hT h120 hch) ok_X3_readsText rfl q1519 rfl (Nat.le_of_ble_eq_true rfl) 0 rfl rfl rfl dX3_orders_17 (roomL rfl rfl) ⟨rfl, rfl⟩ ?_
    refine v_istore_n (lv' := [(1, _), (0, _)]) C dX3_orders_20 rfl (by decide) rfl ?_
    refine v_aload_n C dX3_orders_21 1 rfl ?_
    refine v_get C in_X3 rfl 0 rfl 12 (by decide) q1178 (fun _ h => h) rfl dX3_orders_22 ?_
    exact v_iret C dX3_orders_25 (Nat.le_of_ble_eq_true rfl) (Nat.le_of_ble_eq_true rfl) (by unfold p_orders; rw [if_neg c5_1]; exact ⟨rfl, _, rfl⟩)
  · skip
    refine v_bipush (v := -4) C dX3_orders_8 (by decide) ?_
    exact v_iret C dX3_orders_10 (Nat.le_of_ble_eq_true rfl) (Nat.le_of_ble_eq_true rfl) (by unfold p_orders; rw [if_pos c5_1]; exact ⟨rfl, _, rfl⟩)
