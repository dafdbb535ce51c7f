/-! the reference: reading orders -/
set_option maxRecDepth 100000
section OX
variable {rl : Bool} {t : Nat → Int32} {ln nb k q : Nat} {x : XT} {nm : Int32} {tt : Nat → Int32}
theorem ordX_f (ho : ro t ln k x.2.2.1 x.2.2.2.1 = (false, q, nm, tt)) : ordX rl t ln nb k x = (false, q, (x.1, x.2.1, nm, tt, x.2.2.2.2.1, x.2.2.2.2.2)) := by
  unfold ordX; dsimp only; rw [ho]; dsimp only; rw [if_neg Bool.false_ne_true]
theorem ordX_0 (ho : ro t ln k x.2.2.1 x.2.2.2.1 = (true, q, nm, tt)) : ordX false t ln nb k x = (true, q, (x.1, x.2.1, nm, tt, x.2.2.2.2.1, x.2.2.2.2.2)) := by
  unfold ordX; dsimp only; rw [ho]; dsimp only; rw [if_pos rfl, if_neg Bool.false_ne_true]
theorem ordX_1 (ho : ro t ln k x.2.2.1 x.2.2.2.1 = (true, q, nm, tt)) (hg : x.2.2.2.2.2 = 0) : ordX true t ln nb k x = (true, q, (x.1, x.2.1, nm, tt, x.2.2.2.2.1, x.2.2.2.2.2)) := by
  unfold ordX; dsimp only; rw [ho]; dsimp only; rw [if_pos rfl, if_pos rfl, if_pos hg]
theorem ordX_2 (ho : ro t ln k x.2.2.1 x.2.2.2.1 = (true, q, nm, tt)) (hg : ¬ x.2.2.2.2.2 = 0) : ordX true t ln nb k x = (true, q, ((p_carries x.1 x.2.1 nb (hv t ln (sk t ln k)) tt).2.1, (p_carries x.1 x.2.1 nb (hv t ln (sk t ln k)) tt).2.2, nm, tt, x.2.2.2.2.1 + bI (¬ (p_carries x.1 x.2.1 nb (hv t ln (sk t ln k)) tt).1 = 0), (p_carries x.1 x.2.1 nb (hv t ln (sk t ln k)) tt).1)) := by
  unfold ordX; dsimp only; rw [ho]; dsimp only; rw [if_pos rfl, if_pos rfl, if_neg hg]
end OX
theorem roL_pos (t : Nat → Int32) (ln : Nat) (f : Nat) : ∀ (i q : Nat) (num : Int32) (td : Nat → Int32), q ≤ ln → q ≤ (roL t ln f i q num td).2.1 ∧ (roL t ln f i q num td).2.1 ≤ ln := by
  induction f with
  | zero => intro i q num td hq; exact ⟨Nat.le_refl _, hq⟩
  | succ f ih =>
    intro i q num td hq
    have h1 := sk_le (t := t) hq
    have h2 := dgs_le t ln 5 (sk t ln q) 0 h1.2
    unfold roL
    by_cases c1 : i = 0
    · rw [if_pos c1]
      by_cases c2 : sk t ln q < (dgs t ln 5 (sk t ln q) 0).1
      · rw [if_pos c2]
        have h3 := ih (i + 1) (dgs t ln 5 (sk t ln q) 0).1 (dgs t ln 5 (sk t ln q) 0).2 (upd td i (dgs t ln 5 (sk t ln q) 0).2) h2.2
        omega
      · rw [if_neg c2]; dsimp only; omega
    · rw [if_neg c1]
      by_cases c3 : hv t ln (sk t ln q) = 44
      · rw [if_pos c3]
        have hl := hv_lt c3 (by decide)
        have h4 := sk_le (t := t) (show sk t ln q + 1 ≤ ln by omega)
        have h5 := dgs_le t ln 5 (sk t ln (sk t ln q + 1)) 0 h4.2
        by_cases c2 : sk t ln (sk t ln q + 1) < (dgs t ln 5 (sk t ln (sk t ln q + 1)) 0).1
        · rw [if_pos c2]
          have h3 := ih (i + 1) (dgs t ln 5 (sk t ln (sk t ln q + 1)) 0).1 (dgs t ln 5 (sk t ln (sk t ln q + 1)) 0).2 (upd td i (dgs t ln 5 (sk t ln (sk t ln q + 1)) 0).2) h5.2
          omega
        · rw [if_neg c2]; dsimp only; omega
      · rw [if_neg c3]; dsimp only; omega
theorem mny_lt {t : Nat → Int32} {ln k : Nat} (h : ¬ mny (hv t ln k) = 0) : k < ln := by
  unfold hv at h
  split at h
  · assumption
  · exact absurd (by decide) h
theorem ro_pos (t : Nat → Int32) (ln k : Nat) (num : Int32) (td : Nat → Int32) (h : k ≤ ln) : k ≤ (ro t ln k num td).2.1 ∧ (ro t ln k num td).2.1 ≤ ln := by
  have h1 := sk_le (t := t) h
  unfold ro
  by_cases c : mny (hv t ln (sk t ln k)) = 0
  · rw [if_pos c]; exact h1
  · rw [if_neg c]
    have h2 := mny_lt c
    have h3 := roL_pos t ln (mny (hv t ln (sk t ln k))) 0 (sk t ln k + 1) num td (by omega)
    omega
theorem ordX_pos (rl : Bool) (t : Nat → Int32) (ln nb k : Nat) (x : XT) : (ordX rl t ln nb k x).2.1 = (ro t ln k x.2.2.1 x.2.2.2.1).2.1 := by
  unfold ordX
  dsimp only
  repeat' split
  all_goals rfl
theorem ordX_ok {rl : Bool} {t : Nat → Int32} {ln nb nl k : Nat} {x : XT} (hR : RowOk x.1 nb nl) : RowOk (ordX rl t ln nb k x).2.2.1 nb nl := by
  unfold ordX
  dsimp only
  repeat' split
  all_goals first | exact hR | exact carr_ok hR _ _
def rtL (rl : Bool) (t : Nat → Int32) (ln nb : Nat) : Nat → Bool → Nat → XT → Bool × Nat × XT
  | 0, ok, q, x => (ok, q, x)
  | f + 1, ok, q, x => if ok = true then if hv t ln q = -1 then (true, q, x) else if hv t ln q = 59 then rtL rl t ln nb f (ordX rl t ln nb (q + 1) x).1 (sk t ln (ordX rl t ln nb (q + 1) x).2.1) (ordX rl t ln nb (q + 1) x).2.2 else (false, q, x) else (false, q, x)
def rt (rl : Bool) (t : Nat → Int32) (ln nb : Nat) (r : Nat → Int32) (bk : Nat → Int64) (num : Int32) (td : Nat → Int32) : Bool × Nat × XT :=
  rtL rl t ln nb (ln + 2) (ordX rl t ln nb 0 (r, bk, num, td, 0, 1)).1 (sk t ln (ordX rl t ln nb 0 (r, bk, num, td, 0, 1)).2.1) (ordX rl t ln nb 0 (r, bk, num, td, 0, 1)).2.2
theorem rtL_f (rl : Bool) (t : Nat → Int32) (ln nb f q : Nat) (x : XT) : rtL rl t ln nb f false q x = (false, q, x) := by
  cases f with
  | zero => rfl
  | succ f => rw [rtL, if_neg Bool.false_ne_true]
def M_X3_readsOrder : Md := (yX3_readsOrder, cX3_readsOrder, 5, (some .boolean), 7, 183, 0, 0)
theorem ok_X3_readsOrder : MOKv M_X3_readsOrder 1 := ⟨q1525, qs83, q103, q1526, ⟨by decide +kernel, by decide +kernel, by decide +kernel⟩⟩
set_option maxHeartbeats 4000000 in
theorem m_readsOrder (l : Launch) (g : GT) (a : Nat → Nat) (row : Nat → Int32) (books : Nat → Int64) (S : Int32 × (Nat → Int32)) (B : (Nat → Int32) × Int32 × (Nat → Int32)) (T : (Nat → Int32) × Int32) (P : Int32 × Int32 × (Nat → Int32) × Int32 × Int32) (h : Int64) (rl : Bool) (nb nl : Nat) (hR : RowOk row nb nl) (ln k : Nat) (hT : T.2 = nI ln) (hP : P.1 = nI k) (h120 : ln ≤ 120) (hk : k ≤ ln) (hch : ∀ j, j < ln → 0 ≤ T.1 j) : CtE l g M_X3_readsOrder [.ref (a 0), .int (bB rl)] (mw g a row books S B T P h) (some (.int (bB (ordX rl T.1 ln nb k (row, books, P.2)).1))) (mw g a (ordX rl T.1 ln nb k (row, books, P.2)).2.2.1 (ordX rl T.1 ln nb k (row, books, P.2)).2.2.2.1 S B T (nI (ordX rl T.1 ln nb k (row, books, P.2)).2.1, (ordX rl T.1 ln nb k (row, books, P.2)).2.2.2.2) h) := by
  refine Ct.start2 (M := M_X3_readsOrder) rfl [(0, .ref (a 0)), (1, .int (bB rl))] rfl (by decide +kernel) (Nat.le_of_ble_eq_true rfl) ?_
  intro p e s m args below meth c A C
  obtain ⟨hnb, hb8, hnl, hl3, hsp⟩ := id hR
  obtain ⟨t, lnI⟩ := T
  obtain ⟨at0, num, td, dn, gs⟩ := P
  dsimp only at hT hP hch ⊢
  subst hT; subst hP
  cases rl with
  | false =>
    refine v_aload_n C dX3_readsOrder_0 0 rfl ?_
    refine v_callVw C (m_here l g a _ _ _ _ _ _ _ ln k rfl rfl h120 (by omega)) ok_X3_here rfl q1527 rfl (Nat.le_of_ble_eq_true rfl) 0 rfl rfl rfl dX3_readsOrder_1 (roomL rfl rfl) ⟨rfl, rfl⟩ ?_
    obtain ⟨hs1, hs2⟩ := sk_le (t := t) hk
    refine v_istore_n (lv' := [(2, _), (0, _), (1, _)]) C dX3_readsOrder_4 rfl (by decide) rfl ?_
    refine v_iload_n C dX3_readsOrder_5 0 rfl ?_
    refine v_bipush (v := 114) C dX3_readsOrder_6 (by decide) ?_
    refine v_icmp_ne C 15 dX3_readsOrder_8 (by decide) (fun c8_1 => ?_) (fun c8_1 => ?_)
    · skip
      try dsimp only at c8_1
      refine v_iload_n C dX3_readsOrder_15 0 rfl ?_
      refine v_bipush (v := 109) C dX3_readsOrder_16 (by decide) ?_
      refine v_icmp_ne C 25 dX3_readsOrder_18 (by decide) (fun c18_2 => ?_) (fun c18_2 => ?_)
      · skip
        try dsimp only at c18_2
        refine v_iload_n C dX3_readsOrder_25 0 rfl ?_
        refine v_bipush (v := 99) C dX3_readsOrder_26 (by decide) ?_
        refine v_icmp_eq C 37 dX3_readsOrder_28 (by decide) (fun c28_3 => ?_) (fun c28_3 => ?_)
        · skip
          try dsimp only at c28_3
          refine v_iconst (v := 2) C dX3_readsOrder_37 (by decide) ?_
          refine v_goto C 42 dX3_readsOrder_38 (by decide) ?_
          refine v_istore_n (lv' := [(3, _), (2, _), (0, _), (1, _)]) C dX3_readsOrder_42 rfl (by decide) rfl ?_
          have hm : mny (hv t ln (sk t ln k)) = 2 := by unfold mny; rw [if_neg c8_1, if_neg c18_2, if_pos c28_3]
          have hlt : (sk t ln k) < ln := hv_lt c28_3 (by decide)
          refine v_iload_n C dX3_readsOrder_43 0 rfl ?_
          refine v_if_ne C 49 dX3_readsOrder_44 (by decide) (fun c44_4 => ?_) (fun c44_4 => ?_)
          · skip
            try dsimp only at c44_4
            refine v_aload_n C dX3_readsOrder_49 2 rfl ?_
            refine v_dup C dX3_readsOrder_50 rfl ?_
            refine v_get C in_X3 rfl 0 rfl 9 (by decide) q1175 (fun _ h => h) rfl dX3_readsOrder_51 ?_
            refine v_eqi (show _ = (nI (sk t ln k)) from rfl) ?_
            refine v_iconst (v := 1) C dX3_readsOrder_54 (by decide) ?_
            refine v_iadd C dX3_readsOrder_55 ?_
            refine v_eqi (nI_add ((sk t ln k)) 1) ?_
            refine v_put (ws' := mw g a _ _ _ _ _ ((nI (((sk t ln k)) + 1)), num, td, dn, gs) _) C in_X3 tyX3 tyX3_ok nmX3 rfl 0 rfl 9 (by decide) q1175 (fun _ h => h) rfl rfl rfl (Nat.le_of_ble_eq_true rfl) dX3_readsOrder_56 rfl ?_
            refine v_iconst (v := 0) C dX3_readsOrder_59 (by decide) ?_
            refine v_istore (lv' := [(4, _), (3, _), (2, _), (0, _), (1, _)]) C dX3_readsOrder_60 (by decide) rfl ?_
            refine v_lvp (lv' := [(4, _), (3, _), (2, _), (1, _), (0, _)]) [0, 1, 2, 4, 3] rfl ?_
            refine v_while (α := Nat × Nat × Nat × Int32 × (Nat → Int32)) (fun x => x.1) (fun x => x.1 + x.2.1 = 2 ∧ x.2.2.1 ≤ ln ∧ roL t ln 2 0 ((sk t ln k) + 1) num td = roL t ln x.1 x.2.1 x.2.2.1 x.2.2.2.1 x.2.2.2.2) (fun x => [(4, .int (nI x.2.1)), (3, .int 2), (2, .int (hv t ln (sk t ln k))), (1, .int (bB false)), (0, .ref (a 0))]) (fun x => mw g a row books S B (t, nI ln) (nI x.2.2.1, x.2.2.2.1, x.2.2.2.2, dn, gs) h) (2, 0, (sk t ln k) + 1, num, td) rfl rfl ⟨rfl, hlt, rfl⟩ ?_
            rintro ⟨f, i, q, nm, tt⟩ ⟨h1, hq, hfin⟩ ih
            dsimp only at h1 hq hfin ih ⊢
            refine v_iload C dX3_readsOrder_62 0 rfl ?_
            refine v_iload_n C dX3_readsOrder_64 1 rfl ?_
            refine v_icmp_ge C 129 dX3_readsOrder_65 (by decide) (fun c65_5 => ?_) (fun c65_5 => ?_)
            · skip
              try dsimp only at c65_5
              have hge : 2 ≤ i := (nI_leI (a := 2) (b := i) (by decide) (by omega)).mp c65_5
              refine v_iload_n C dX3_readsOrder_129 3 rfl ?_
              refine v_if_eq C 170 dX3_readsOrder_130 (by decide) (fun c130_6 => ?_) (fun c130_6 => ?_)
              · skip
                try dsimp only at c130_6
                refine v_iconst (v := 1) C dX3_readsOrder_170 (by decide) ?_
                exact v_zret C rfl dX3_readsOrder_171 (Nat.le_of_ble_eq_true rfl) (Nat.le_of_ble_eq_true rfl) (by have ho : ro t ln k num td = (true, q, nm, tt) := (by unfold ro; rw [if_neg (by rw [hm]; decide), hm, hfin, show f = 0 by omega, roL]); rw [ordX_0 (x := (row, books, num, td, dn, gs)) ho]; exact ⟨rfl, rfl⟩)
              · exact absurd (by decide) c130_6
            · skip
              try dsimp only at c65_5
              have hil : i < 2 := Nat.lt_of_not_le (fun z => c65_5 ((nI_leI (a := 2) (b := i) (by decide) (by omega)).mpr z))
              obtain ⟨f, rfl⟩ : ∃ y, f = y + 1 := ⟨f - 1, by omega⟩
              refine v_iload C dX3_readsOrder_68 0 rfl ?_
              refine v_if_le C 84 dX3_readsOrder_70 (by decide) (fun c70_7 => ?_) (fun c70_7 => ?_)
              · skip
                try dsimp only at c70_7
                have hi0 : i = 0 := Nat.le_zero.mp ((nI_leI (b := 0) (by omega) (by decide)).mp c70_7)
                refine v_aload_n C dX3_readsOrder_84 4 rfl ?_
                refine v_dup C dX3_readsOrder_85 rfl ?_
                refine v_get C in_X3 rfl 0 rfl 9 (by decide) q1175 (fun _ h => h) rfl dX3_readsOrder_86 ?_
                refine v_eqi (show _ = (nI q) from rfl) ?_
                refine v_iload C dX3_readsOrder_89 0 rfl ?_
                refine v_if_le C 98 dX3_readsOrder_91 (by decide) (fun c91_8 => ?_) (fun c91_8 => ?_)
                · skip
                  try dsimp only at c91_8
                  refine v_iconst (v := 0) C dX3_readsOrder_98 (by decide) ?_
                  refine v_iadd C dX3_readsOrder_99 ?_
                  refine v_eqi (show _ = nI q from nI_add q 0) ?_
                  refine v_put (ws' := mw g a _ _ _ _ _ ((nI q), nm, tt, dn, gs) _) C in_X3 tyX3 tyX3_ok nmX3 rfl 0 rfl 9 (by decide) q1175 (fun _ h => h) rfl rfl rfl (Nat.le_of_ble_eq_true rfl) dX3_readsOrder_100 rfl ?_
                  refine v_aload_n C dX3_readsOrder_103 4 rfl ?_
                  refine v_callVw C (m_reads l g a _ _ _ _ _ _ _ ln q rfl rfl h120 (by omega) hch) ok_X3_reads rfl q1531 rfl (Nat.le_of_ble_eq_true rfl) 0 rfl rfl rfl dX3_readsOrder_104 (roomL rfl rfl) ⟨rfl, rfl⟩ ?_
                  obtain ⟨hd1, hd2⟩ := dgs_le t ln 5 (sk t ln q) 0 (sk_le (t := t) (show q ≤ ln by omega)).2
                  refine v_if_neB C 112 dX3_readsOrder_107 (by decide) (fun c107_9 => ?_) (fun c107_9 => ?_)
                  · skip
                    try dsimp only at c107_9
                    refine v_aload_n C dX3_readsOrder_112 4 rfl ?_
                    refine v_get C in_X3 rfl 0 rfl 11 (by decide) q1177 (fun _ h => h) rfl dX3_readsOrder_113 ?_
                    refine v_iload C dX3_readsOrder_116 0 rfl ?_
                    refine v_aload_n C dX3_readsOrder_118 4 rfl ?_
                    refine v_get C in_X3 rfl 0 rfl 10 (by decide) q1176 (fun _ h => h) rfl dX3_readsOrder_119 ?_
                    refine v_eqi (show _ = (dgs t ln 5 (sk t ln q) 0).2 from rfl) ?_
                    refine v_iast (ws' := mw g a _ _ _ _ _ ((nI (dgs t ln 5 (sk t ln q) 0).1), (dgs t ln 5 (sk t ln q) 0).2, (upd tt _ _), dn, gs) _) C dX3_readsOrder_122 7 rfl (ixn (by omega) (by decide)) rfl ?_
                    refine v_iinc (lv' := [(4, _), (3, _), (2, _), (1, _), (0, _)]) C dX3_readsOrder_123 0 rfl (nI_1 i) (by decide) rfl ?_
                    refine v_goto C 62 dX3_readsOrder_126 (by decide) ?_
                    exact ih (f, i + 1, (dgs t ln 5 (sk t ln q) 0).1, (dgs t ln 5 (sk t ln q) 0).2, upd tt i (dgs t ln 5 (sk t ln q) 0).2) ⟨by dsimp only; omega, hd2, by dsimp only; rw [hfin, roL, if_pos hi0, if_pos c107_9]⟩ (by dsimp only; omega)
                  · skip
                    try dsimp only at c107_9
                    refine v_iconst (v := 0) C dX3_readsOrder_110 (by decide) ?_
                    exact v_zret C rfl dX3_readsOrder_111 (Nat.le_of_ble_eq_true rfl) (Nat.le_of_ble_eq_true rfl) (by have ho : ro t ln k num td = (false, (dgs t ln 5 (sk t ln q) 0).1, (dgs t ln 5 (sk t ln q) 0).2, tt) := (by unfold ro; rw [if_neg (by rw [hm]; decide), hm, hfin, roL, if_pos hi0, if_neg c107_9]); rw [ordX_f (x := (row, books, num, td, dn, gs)) ho]; exact ⟨rfl, rfl⟩)
                · exact absurd c70_7 c91_8
              · skip
                try dsimp only at c70_7
                have hi0 : ¬ i = 0 := fun z => c70_7 (by rw [z]; exact Int32.le_refl _)
                refine v_aload_n C dX3_readsOrder_73 4 rfl ?_
                refine v_callVw C (m_here l g a _ _ _ _ _ _ _ ln q rfl rfl h120 (by omega)) ok_X3_here rfl q1527 rfl (Nat.le_of_ble_eq_true rfl) 0 rfl rfl rfl dX3_readsOrder_74 (roomL rfl rfl) ⟨rfl, rfl⟩ ?_
                obtain ⟨hq1, hq2⟩ := sk_le (t := t) hq
                refine v_bipush (v := 44) C dX3_readsOrder_77 (by decide) ?_
                refine v_icmp_eq C 84 dX3_readsOrder_79 (by decide) (fun c79_10 => ?_) (fun c79_10 => ?_)
                · skip
                  try dsimp only at c79_10
                  have hlq := hv_lt c79_10 (by decide)
                  refine v_aload_n C dX3_readsOrder_84 4 rfl ?_
                  refine v_dup C dX3_readsOrder_85 rfl ?_
                  refine v_get C in_X3 rfl 0 rfl 9 (by decide) q1175 (fun _ h => h) rfl dX3_readsOrder_86 ?_
                  refine v_eqi (show _ = (nI (sk t ln q)) from rfl) ?_
                  refine v_iload C dX3_readsOrder_89 0 rfl ?_
                  refine v_if_le C 98 dX3_readsOrder_91 (by decide) (fun c91_11 => ?_) (fun c91_11 => ?_)
                  · exact absurd c91_11 c70_7
                  · skip
                    try dsimp only at c91_11
                    refine v_iconst (v := 1) C dX3_readsOrder_94 (by decide) ?_
                    refine v_goto C 99 dX3_readsOrder_95 (by decide) ?_
                    refine v_iadd C dX3_readsOrder_99 ?_
                    refine v_eqi (nI_add ((sk t ln q)) 1) ?_
                    refine v_put (ws' := mw g a _ _ _ _ _ ((nI (((sk t ln q)) + 1)), nm, tt, dn, gs) _) C in_X3 tyX3 tyX3_ok nmX3 rfl 0 rfl 9 (by decide) q1175 (fun _ h => h) rfl rfl rfl (Nat.le_of_ble_eq_true rfl) dX3_readsOrder_100 rfl ?_
                    refine v_aload_n C dX3_readsOrder_103 4 rfl ?_
                    refine v_callVw C (m_reads l g a _ _ _ _ _ _ _ ln ((((sk t ln q)) + 1)) rfl rfl h120 (by omega) hch) ok_X3_reads rfl q1531 rfl (Nat.le_of_ble_eq_true rfl) 0 rfl rfl rfl dX3_readsOrder_104 (roomL rfl rfl) ⟨rfl, rfl⟩ ?_
                    obtain ⟨hd1, hd2⟩ := dgs_le t ln 5 (sk t ln ((((sk t ln q)) + 1))) 0 (sk_le (t := t) (show (((sk t ln q)) + 1) ≤ ln by omega)).2
                    refine v_if_neB C 112 dX3_readsOrder_107 (by decide) (fun c107_12 => ?_) (fun c107_12 => ?_)
                    · skip
                      try dsimp only at c107_12
                      refine v_aload_n C dX3_readsOrder_112 4 rfl ?_
                      refine v_get C in_X3 rfl 0 rfl 11 (by decide) q1177 (fun _ h => h) rfl dX3_readsOrder_113 ?_
                      refine v_iload C dX3_readsOrder_116 0 rfl ?_
                      refine v_aload_n C dX3_readsOrder_118 4 rfl ?_
                      refine v_get C in_X3 rfl 0 rfl 10 (by decide) q1176 (fun _ h => h) rfl dX3_readsOrder_119 ?_
                      refine v_eqi (show _ = (dgs t ln 5 (sk t ln ((((sk t ln q)) + 1))) 0).2 from rfl) ?_
                      refine v_iast (ws' := mw g a _ _ _ _ _ ((nI (dgs t ln 5 (sk t ln ((((sk t ln q)) + 1))) 0).1), (dgs t ln 5 (sk t ln ((((sk t ln q)) + 1))) 0).2, (upd tt _ _), dn, gs) _) C dX3_readsOrder_122 7 rfl (ixn (by omega) (by decide)) rfl ?_
                      refine v_iinc (lv' := [(4, _), (3, _), (2, _), (1, _), (0, _)]) C dX3_readsOrder_123 0 rfl (nI_1 i) (by decide) rfl ?_
                      refine v_goto C 62 dX3_readsOrder_126 (by decide) ?_
                      exact ih (f, i + 1, (dgs t ln 5 (sk t ln ((((sk t ln q)) + 1))) 0).1, (dgs t ln 5 (sk t ln ((((sk t ln q)) + 1))) 0).2, upd tt i (dgs t ln 5 (sk t ln ((((sk t ln q)) + 1))) 0).2) ⟨by dsimp only; omega, hd2, by dsimp only; rw [hfin, roL, if_neg hi0, if_pos c79_10, if_pos c107_12]⟩ (by dsimp only; omega)
                    · skip
                      try dsimp only at c107_12
                      refine v_iconst (v := 0) C dX3_readsOrder_110 (by decide) ?_
                      exact v_zret C rfl dX3_readsOrder_111 (Nat.le_of_ble_eq_true rfl) (Nat.le_of_ble_eq_true rfl) (by have ho : ro t ln k num td = (false, (dgs t ln 5 (sk t ln ((((sk t ln q)) + 1))) 0).1, (dgs t ln 5 (sk t ln ((((sk t ln q)) + 1))) 0).2, tt) := (by unfold ro; rw [if_neg (by rw [hm]; decide), hm, hfin, roL, if_neg hi0, if_pos c79_10, if_neg c107_12]); rw [ordX_f (x := (row, books, num, td, dn, gs)) ho]; exact ⟨rfl, rfl⟩)
                · skip
                  try dsimp only at c79_10
                  refine v_iconst (v := 0) C dX3_readsOrder_82 (by decide) ?_
                  exact v_zret C rfl dX3_readsOrder_83 (Nat.le_of_ble_eq_true rfl) (Nat.le_of_ble_eq_true rfl) (by have ho : ro t ln k num td = (false, sk t ln q, nm, tt) := (by unfold ro; rw [if_neg (by rw [hm]; decide), hm, hfin, roL, if_neg hi0, if_neg c79_10]); rw [ordX_f (x := (row, books, num, td, dn, gs)) ho]; exact ⟨rfl, rfl⟩)
          · exact absurd c44_4 (by decide)
        · skip
          try dsimp only at c28_3
          refine v_iload_n C dX3_readsOrder_31 0 rfl ?_
          refine v_bipush (v := 100) C dX3_readsOrder_32 (by decide) ?_
          refine v_icmp_ne C 41 dX3_readsOrder_34 (by decide) (fun c34_13 => ?_) (fun c34_13 => ?_)
          · skip
            try dsimp only at c34_13
            refine v_iconst (v := 0) C dX3_readsOrder_41 (by decide) ?_
            refine v_istore_n (lv' := [(3, _), (2, _), (0, _), (1, _)]) C dX3_readsOrder_42 rfl (by decide) rfl ?_
            have hm : mny (hv t ln (sk t ln k)) = 0 := by unfold mny; rw [if_neg c8_1, if_neg c18_2, if_neg c28_3, if_neg c34_13]
            refine v_iload_n C dX3_readsOrder_43 0 rfl ?_
            refine v_if_ne C 49 dX3_readsOrder_44 (by decide) (fun c44_14 => ?_) (fun c44_14 => ?_)
            · exact absurd (by decide) c44_14
            · skip
              try dsimp only at c44_14
              refine v_iconst (v := 0) C dX3_readsOrder_47 (by decide) ?_
              exact v_zret C rfl dX3_readsOrder_48 (Nat.le_of_ble_eq_true rfl) (Nat.le_of_ble_eq_true rfl) (by have ho : ro t ln k num td = (false, sk t ln k, num, td) := (by unfold ro; rw [if_pos hm]); rw [ordX_f (x := (row, books, num, td, dn, gs)) ho]; exact ⟨rfl, rfl⟩)
          · skip
            try dsimp only at c34_13
            refine v_iconst (v := 2) C dX3_readsOrder_37 (by decide) ?_
            refine v_goto C 42 dX3_readsOrder_38 (by decide) ?_
            refine v_istore_n (lv' := [(3, _), (2, _), (0, _), (1, _)]) C dX3_readsOrder_42 rfl (by decide) rfl ?_
            have hm : mny (hv t ln (sk t ln k)) = 2 := by unfold mny; rw [if_neg c8_1, if_neg c18_2, if_neg c28_3, if_pos c34_13]
            have hlt : (sk t ln k) < ln := hv_lt c34_13 (by decide)
            refine v_iload_n C dX3_readsOrder_43 0 rfl ?_
            refine v_if_ne C 49 dX3_readsOrder_44 (by decide) (fun c44_15 => ?_) (fun c44_15 => ?_)
            · skip
              try dsimp only at c44_15
              refine v_aload_n C dX3_readsOrder_49 2 rfl ?_
              refine v_dup C dX3_readsOrder_50 rfl ?_
              refine v_get C in_X3 rfl 0 rfl 9 (by decide) q1175 (fun _ h => h) rfl dX3_readsOrder_51 ?_
              refine v_eqi (show _ = (nI (sk t ln k)) from rfl) ?_
              refine v_iconst (v := 1) C dX3_readsOrder_54 (by decide) ?_
              refine v_iadd C dX3_readsOrder_55 ?_
              refine v_eqi (nI_add ((sk t ln k)) 1) ?_
              refine v_put (ws' := mw g a _ _ _ _ _ ((nI (((sk t ln k)) + 1)), num, td, dn, gs) _) C in_X3 tyX3 tyX3_ok nmX3 rfl 0 rfl 9 (by decide) q1175 (fun _ h => h) rfl rfl rfl (Nat.le_of_ble_eq_true rfl) dX3_readsOrder_56 rfl ?_
              refine v_iconst (v := 0) C dX3_readsOrder_59 (by decide) ?_
              refine v_istore (lv' := [(4, _), (3, _), (2, _), (0, _), (1, _)]) C dX3_readsOrder_60 (by decide) rfl ?_
              refine v_lvp (lv' := [(4, _), (3, _), (2, _), (1, _), (0, _)]) [0, 1, 2, 4, 3] rfl ?_
              refine v_while (α := Nat × Nat × Nat × Int32 × (Nat → Int32)) (fun x => x.1) (fun x => x.1 + x.2.1 = 2 ∧ x.2.2.1 ≤ ln ∧ roL t ln 2 0 ((sk t ln k) + 1) num td = roL t ln x.1 x.2.1 x.2.2.1 x.2.2.2.1 x.2.2.2.2) (fun x => [(4, .int (nI x.2.1)), (3, .int 2), (2, .int (hv t ln (sk t ln k))), (1, .int (bB false)), (0, .ref (a 0))]) (fun x => mw g a row books S B (t, nI ln) (nI x.2.2.1, x.2.2.2.1, x.2.2.2.2, dn, gs) h) (2, 0, (sk t ln k) + 1, num, td) rfl rfl ⟨rfl, hlt, rfl⟩ ?_
              rintro ⟨f, i, q, nm, tt⟩ ⟨h1, hq, hfin⟩ ih
              dsimp only at h1 hq hfin ih ⊢
              refine v_iload C dX3_readsOrder_62 0 rfl ?_
              refine v_iload_n C dX3_readsOrder_64 1 rfl ?_
              refine v_icmp_ge C 129 dX3_readsOrder_65 (by decide) (fun c65_16 => ?_) (fun c65_16 => ?_)
              · skip
                try dsimp only at c65_16
                have hge : 2 ≤ i := (nI_leI (a := 2) (b := i) (by decide) (by omega)).mp c65_16
                refine v_iload_n C dX3_readsOrder_129 3 rfl ?_
                refine v_if_eq C 170 dX3_readsOrder_130 (by decide) (fun c130_17 => ?_) (fun c130_17 => ?_)
                · skip
                  try dsimp only at c130_17
                  refine v_iconst (v := 1) C dX3_readsOrder_170 (by decide) ?_
                  exact v_zret C rfl dX3_readsOrder_171 (Nat.le_of_ble_eq_true rfl) (Nat.le_of_ble_eq_true rfl) (by have ho : ro t ln k num td = (true, q, nm, tt) := (by unfold ro; rw [if_neg (by rw [hm]; decide), hm, hfin, show f = 0 by omega, roL]); rw [ordX_0 (x := (row, books, num, td, dn, gs)) ho]; exact ⟨rfl, rfl⟩)
                · exact absurd (by decide) c130_17
              · skip
                try dsimp only at c65_16
                have hil : i < 2 := Nat.lt_of_not_le (fun z => c65_16 ((nI_leI (a := 2) (b := i) (by decide) (by omega)).mpr z))
                obtain ⟨f, rfl⟩ : ∃ y, f = y + 1 := ⟨f - 1, by omega⟩
                refine v_iload C dX3_readsOrder_68 0 rfl ?_
                refine v_if_le C 84 dX3_readsOrder_70 (by decide) (fun c70_18 => ?_) (fun c70_18 => ?_)
                · skip
                  try dsimp only at c70_18
                  have hi0 : i = 0 := Nat.le_zero.mp ((nI_leI (b := 0) (by omega) (by decide)).mp c70_18)
                  refine v_aload_n C dX3_readsOrder_84 4 rfl ?_
                  refine v_dup C dX3_readsOrder_85 rfl ?_
                  refine v_get C in_X3 rfl 0 rfl 9 (by decide) q1175 (fun _ h => h) rfl dX3_readsOrder_86 ?_
                  refine v_eqi (show _ = (nI q) from rfl) ?_
                  refine v_iload C dX3_readsOrder_89 0 rfl ?_
                  refine v_if_le C 98 dX3_readsOrder_91 (by decide) (fun c91_19 => ?_) (fun c91_19 => ?_)
                  · skip
                    try dsimp only at c91_19
                    refine v_iconst (v := 0) C dX3_readsOrder_98 (by decide) ?_
                    refine v_iadd C dX3_readsOrder_99 ?_
                    refine v_eqi (show _ = nI q from nI_add q 0) ?_
                    refine v_put (ws' := mw g a _ _ _ _ _ ((nI q), nm, tt, dn, gs) _) C in_X3 tyX3 tyX3_ok nmX3 rfl 0 rfl 9 (by decide) q1175 (fun _ h => h) rfl rfl rfl (Nat.le_of_ble_eq_true rfl) dX3_readsOrder_100 rfl ?_
                    refine v_aload_n C dX3_readsOrder_103 4 rfl ?_
                    refine v_callVw C (m_reads l g a _ _ _ _ _ _ _ ln q rfl rfl h120 (by omega) hch) ok_X3_reads rfl q1531 rfl (Nat.le_of_ble_eq_true rfl) 0 rfl rfl rfl dX3_readsOrder_104 (roomL rfl rfl) ⟨rfl, rfl⟩ ?_
                    obtain ⟨hd1, hd2⟩ := dgs_le t ln 5 (sk t ln q) 0 (sk_le (t := t) (show q ≤ ln by omega)).2
                    refine v_if_neB C 112 dX3_readsOrder_107 (by decide) (fun c107_20 => ?_) (fun c107_20 => ?_)
                    · skip
                      try dsimp only at c107_20
                      refine v_aload_n C dX3_readsOrder_112 4 rfl ?_
                      refine v_get C in_X3 rfl 0 rfl 11 (by decide) q1177 (fun _ h => h) rfl dX3_readsOrder_113 ?_
                      refine v_iload C dX3_readsOrder_116 0 rfl ?_
                      refine v_aload_n C dX3_readsOrder_118 4 rfl ?_
                      refine v_get C in_X3 rfl 0 rfl 10 (by decide) q1176 (fun _ h => h) rfl dX3_readsOrder_119 ?_
                      refine v_eqi (show _ = (dgs t ln 5 (sk t ln q) 0).2 from rfl) ?_
                      refine v_iast (ws' := mw g a _ _ _ _ _ ((nI (dgs t ln 5 (sk t ln q) 0).1), (dgs t ln 5 (sk t ln q) 0).2, (upd tt _ _), dn, gs) _) C dX3_readsOrder_122 7 rfl (ixn (by omega) (by decide)) rfl ?_
                      refine v_iinc (lv' := [(4, _), (3, _), (2, _), (1, _), (0, _)]) C dX3_readsOrder_123 0 rfl (nI_1 i) (by decide) rfl ?_
                      refine v_goto C 62 dX3_readsOrder_126 (by decide) ?_
                      exact ih (f, i + 1, (dgs t ln 5 (sk t ln q) 0).1, (dgs t ln 5 (sk t ln q) 0).2, upd tt i (dgs t ln 5 (sk t ln q) 0).2) ⟨by dsimp only; omega, hd2, by dsimp only; rw [hfin, roL, if_pos hi0, if_pos c107_20]⟩ (by dsimp only; omega)
                    · skip
                      try dsimp only at c107_20
                      refine v_iconst (v := 0) C dX3_readsOrder_110 (by decide) ?_
                      exact v_zret C rfl dX3_readsOrder_111 (Nat.le_of_ble_eq_true rfl) (Nat.le_of_ble_eq_true rfl) (by have ho : ro t ln k num td = (false, (dgs t ln 5 (sk t ln q) 0).1, (dgs t ln 5 (sk t ln q) 0).2, tt) := (by unfold ro; rw [if_neg (by rw [hm]; decide), hm, hfin, roL, if_pos hi0, if_neg c107_20]); rw [ordX_f (x := (row, books, num, td, dn, gs)) ho]; exact ⟨rfl, rfl⟩)
                  · exact absurd c70_18 c91_19
                · skip
                  try dsimp only at c70_18
                  have hi0 : ¬ i = 0 := fun z => c70_18 (by rw [z]; exact Int32.le_refl _)
                  refine v_aload_n C dX3_readsOrder_73 4 rfl ?_
                  refine v_callVw C (m_here l g a _ _ _ _ _ _ _ ln q rfl rfl h120 (by omega)) ok_X3_here rfl q1527 rfl (Nat.le_of_ble_eq_true rfl) 0 rfl rfl rfl dX3_readsOrder_74 (roomL rfl rfl) ⟨rfl, rfl⟩ ?_
                  obtain ⟨hq1, hq2⟩ := sk_le (t := t) hq
                  refine v_bipush (v := 44) C dX3_readsOrder_77 (by decide) ?_
                  refine v_icmp_eq C 84 dX3_readsOrder_79 (by decide) (fun c79_21 => ?_) (fun c79_21 => ?_)
                  · skip
                    try dsimp only at c79_21
                    have hlq := hv_lt c79_21 (by decide)
                    refine v_aload_n C dX3_readsOrder_84 4 rfl ?_
                    refine v_dup C dX3_readsOrder_85 rfl ?_
                    refine v_get C in_X3 rfl 0 rfl 9 (by decide) q1175 (fun _ h => h) rfl dX3_readsOrder_86 ?_
                    refine v_eqi (show _ = (nI (sk t ln q)) from rfl) ?_
                    refine v_iload C dX3_readsOrder_89 0 rfl ?_
                    refine v_if_le C 98 dX3_readsOrder_91 (by decide) (fun c91_22 => ?_) (fun c91_22 => ?_)
                    · exact absurd c91_22 c70_18
                    · skip
                      try dsimp only at c91_22
                      refine v_iconst (v := 1) C dX3_readsOrder_94 (by decide) ?_
                      refine v_goto C 99 dX3_readsOrder_95 (by decide) ?_
                      refine v_iadd C dX3_readsOrder_99 ?_
                      refine v_eqi (nI_add ((sk t ln q)) 1) ?_
                      refine v_put (ws' := mw g a _ _ _ _ _ ((nI (((sk t ln q)) + 1)), nm, tt, dn, gs) _) C in_X3 tyX3 tyX3_ok nmX3 rfl 0 rfl 9 (by decide) q1175 (fun _ h => h) rfl rfl rfl (Nat.le_of_ble_eq_true rfl) dX3_readsOrder_100 rfl ?_
                      refine v_aload_n C dX3_readsOrder_103 4 rfl ?_
                      refine v_callVw C (m_reads l g a _ _ _ _ _ _ _ ln ((((sk t ln q)) + 1)) rfl rfl h120 (by omega) hch) ok_X3_reads rfl q1531 rfl (Nat.le_of_ble_eq_true rfl) 0 rfl rfl rfl dX3_readsOrder_104 (roomL rfl rfl) ⟨rfl, rfl⟩ ?_
                      obtain ⟨hd1, hd2⟩ := dgs_le t ln 5 (sk t ln ((((sk t ln q)) + 1))) 0 (sk_le (t := t) (show (((sk t ln q)) + 1) ≤ ln by omega)).2
                      refine v_if_neB C 112 dX3_readsOrder_107 (by decide) (fun c107_23 => ?_) (fun c107_23 => ?_)
                      · skip
                        try dsimp only at c107_23
                        refine v_aload_n C dX3_readsOrder_112 4 rfl ?_
                        refine v_get C in_X3 rfl 0 rfl 11 (by decide) q1177 (fun _ h => h) rfl dX3_readsOrder_113 ?_
                        refine v_iload C dX3_readsOrder_116 0 rfl ?_
                        refine v_aload_n C dX3_readsOrder_118 4 rfl ?_
                        refine v_get C in_X3 rfl 0 rfl 10 (by decide) q1176 (fun _ h => h) rfl dX3_readsOrder_119 ?_
                        refine v_eqi (show _ = (dgs t ln 5 (sk t ln ((((sk t ln q)) + 1))) 0).2 from rfl) ?_
                        refine v_iast (ws' := mw g a _ _ _ _ _ ((nI (dgs t ln 5 (sk t ln ((((sk t ln q)) + 1))) 0).1), (dgs t ln 5 (sk t ln ((((sk t ln q)) + 1))) 0).2, (upd tt _ _), dn, gs) _) C dX3_readsOrder_122 7 rfl (ixn (by omega) (by decide)) rfl ?_
                        refine v_iinc (lv' := [(4, _), (3, _), (2, _), (1, _), (0, _)]) C dX3_readsOrder_123 0 rfl (nI_1 i) (by decide) rfl ?_
                        refine v_goto C 62 dX3_readsOrder_126 (by decide) ?_
                        exact ih (f, i + 1, (dgs t ln 5 (sk t ln ((((sk t ln q)) + 1))) 0).1, (dgs t ln 5 (sk t ln ((((sk t ln q)) + 1))) 0).2, upd tt i (dgs t ln 5 (sk t ln ((((sk t ln q)) + 1))) 0).2) ⟨by dsimp only; omega, hd2, by dsimp only; rw [hfin, roL, if_neg hi0, if_pos c79_21, if_pos c107_23]⟩ (by dsimp only; omega)
                      · skip
                        try dsimp only at c107_23
                        refine v_iconst (v := 0) C dX3_readsOrder_110 (by decide) ?_
                        exact v_zret C rfl dX3_readsOrder_111 (Nat.le_of_ble_eq_true rfl) (Nat.le_of_ble_eq_true rfl) (by have ho : ro t ln k num td = (false, (dgs t ln 5 (sk t ln ((((sk t ln q)) + 1))) 0).1, (dgs t ln 5 (sk t ln ((((sk t ln q)) + 1))) 0).2, tt) := (by unfold ro; rw [if_neg (by rw [hm]; decide), hm, hfin, roL, if_neg hi0, if_pos c79_21, if_neg c107_23]); rw [ordX_f (x := (row, books, num, td, dn, gs)) ho]; exact ⟨rfl, rfl⟩)
                  · skip
                    try dsimp only at c79_21
                    refine v_iconst (v := 0) C dX3_readsOrder_82 (by decide) ?_
                    exact v_zret C rfl dX3_readsOrder_83 (Nat.le_of_ble_eq_true rfl) (Nat.le_of_ble_eq_true rfl) (by have ho : ro t ln k num td = (false, sk t ln q, nm, tt) := (by unfold ro; rw [if_neg (by rw [hm]; decide), hm, hfin, roL, if_neg hi0, if_neg c79_21]); rw [ordX_f (x := (row, books, num, td, dn, gs)) ho]; exact ⟨rfl, rfl⟩)
            · exact absurd c44_15 (by decide)
      · skip
        try dsimp only at c18_2
        refine v_iconst (v := 4) C dX3_readsOrder_21 (by decide) ?_
        refine v_goto C 42 dX3_readsOrder_22 (by decide) ?_
        refine v_istore_n (lv' := [(3, _), (2, _), (0, _), (1, _)]) C dX3_readsOrder_42 rfl (by decide) rfl ?_
        have hm : mny (hv t ln (sk t ln k)) = 4 := by unfold mny; rw [if_neg c8_1, if_pos c18_2]
        have hlt : (sk t ln k) < ln := hv_lt c18_2 (by decide)
        refine v_iload_n C dX3_readsOrder_43 0 rfl ?_
        refine v_if_ne C 49 dX3_readsOrder_44 (by decide) (fun c44_24 => ?_) (fun c44_24 => ?_)
        · skip
          try dsimp only at c44_24
          refine v_aload_n C dX3_readsOrder_49 2 rfl ?_
          refine v_dup C dX3_readsOrder_50 rfl ?_
          refine v_get C in_X3 rfl 0 rfl 9 (by decide) q1175 (fun _ h => h) rfl dX3_readsOrder_51 ?_
          refine v_eqi (show _ = (nI (sk t ln k)) from rfl) ?_
          refine v_iconst (v := 1) C dX3_readsOrder_54 (by decide) ?_
          refine v_iadd C dX3_readsOrder_55 ?_
          refine v_eqi (nI_add ((sk t ln k)) 1) ?_
          refine v_put (ws' := mw g a _ _ _ _ _ ((nI (((sk t ln k)) + 1)), num, td, dn, gs) _) C in_X3 tyX3 tyX3_ok nmX3 rfl 0 rfl 9 (by decide) q1175 (fun _ h => h) rfl rfl rfl (Nat.le_of_ble_eq_true rfl) dX3_readsOrder_56 rfl ?_
          refine v_iconst (v := 0) C dX3_readsOrder_59 (by decide) ?_
          refine v_istore (lv' := [(4, _), (3, _), (2, _), (0, _), (1, _)]) C dX3_readsOrder_60 (by decide) rfl ?_
          refine v_lvp (lv' := [(4, _), (3, _), (2, _), (1, _), (0, _)]) [0, 1, 2, 4, 3] rfl ?_
          refine v_while (α := Nat × Nat × Nat × Int32 × (Nat → Int32)) (fun x => x.1) (fun x => x.1 + x.2.1 = 4 ∧ x.2.2.1 ≤ ln ∧ roL t ln 4 0 ((sk t ln k) + 1) num td = roL t ln x.1 x.2.1 x.2.2.1 x.2.2.2.1 x.2.2.2.2) (fun x => [(4, .int (nI x.2.1)), (3, .int 4), (2, .int (hv t ln (sk t ln k))), (1, .int (bB false)), (0, .ref (a 0))]) (fun x => mw g a row books S B (t, nI ln) (nI x.2.2.1, x.2.2.2.1, x.2.2.2.2, dn, gs) h) (4, 0, (sk t ln k) + 1, num, td) rfl rfl ⟨rfl, hlt, rfl⟩ ?_
          rintro ⟨f, i, q, nm, tt⟩ ⟨h1, hq, hfin⟩ ih
          dsimp only at h1 hq hfin ih ⊢
          refine v_iload C dX3_readsOrder_62 0 rfl ?_
          refine v_iload_n C dX3_readsOrder_64 1 rfl ?_
          refine v_icmp_ge C 129 dX3_readsOrder_65 (by decide) (fun c65_25 => ?_) (fun c65_25 => ?_)
          · skip
            try dsimp only at c65_25
            have hge : 4 ≤ i := (nI_leI (a := 4) (b := i) (by decide) (by omega)).mp c65_25
            refine v_iload_n C dX3_readsOrder_129 3 rfl ?_
            refine v_if_eq C 170 dX3_readsOrder_130 (by decide) (fun c130_26 => ?_) (fun c130_26 => ?_)
            · skip
              try dsimp only at c130_26
              refine v_iconst (v := 1) C dX3_readsOrder_170 (by decide) ?_
              exact v_zret C rfl dX3_readsOrder_171 (Nat.le_of_ble_eq_true rfl) (Nat.le_of_ble_eq_true rfl) (by have ho : ro t ln k num td = (true, q, nm, tt) := (by unfold ro; rw [if_neg (by rw [hm]; decide), hm, hfin, show f = 0 by omega, roL]); rw [ordX_0 (x := (row, books, num, td, dn, gs)) ho]; exact ⟨rfl, rfl⟩)
            · exact absurd (by decide) c130_26
          · skip
            try dsimp only at c65_25
            have hil : i < 4 := Nat.lt_of_not_le (fun z => c65_25 ((nI_leI (a := 4) (b := i) (by decide) (by omega)).mpr z))
            obtain ⟨f, rfl⟩ : ∃ y, f = y + 1 := ⟨f - 1, by omega⟩
            refine v_iload C dX3_readsOrder_68 0 rfl ?_
            refine v_if_le C 84 dX3_readsOrder_70 (by decide) (fun c70_27 => ?_) (fun c70_27 => ?_)
            · skip
              try dsimp only at c70_27
              have hi0 : i = 0 := Nat.le_zero.mp ((nI_leI (b := 0) (by omega) (by decide)).mp c70_27)
              refine v_aload_n C dX3_readsOrder_84 4 rfl ?_
              refine v_dup C dX3_readsOrder_85 rfl ?_
              refine v_get C in_X3 rfl 0 rfl 9 (by decide) q1175 (fun _ h => h) rfl dX3_readsOrder_86 ?_
              refine v_eqi (show _ = (nI q) from rfl) ?_
              refine v_iload C dX3_readsOrder_89 0 rfl ?_
              refine v_if_le C 98 dX3_readsOrder_91 (by decide) (fun c91_28 => ?_) (fun c91_28 => ?_)
              · skip
                try dsimp only at c91_28
                refine v_iconst (v := 0) C dX3_readsOrder_98 (by decide) ?_
                refine v_iadd C dX3_readsOrder_99 ?_
                refine v_eqi (show _ = nI q from nI_add q 0) ?_
                refine v_put (ws' := mw g a _ _ _ _ _ ((nI q), nm, tt, dn, gs) _) C in_X3 tyX3 tyX3_ok nmX3 rfl 0 rfl 9 (by decide) q1175 (fun _ h => h) rfl rfl rfl (Nat.le_of_ble_eq_true rfl) dX3_readsOrder_100 rfl ?_
                refine v_aload_n C dX3_readsOrder_103 4 rfl ?_
                refine v_callVw C (m_reads l g a _ _ _ _ _ _ _ ln q rfl rfl h120 (by omega) hch) ok_X3_reads rfl q1531 rfl (Nat.le_of_ble_eq_true rfl) 0 rfl rfl rfl dX3_readsOrder_104 (roomL rfl rfl) ⟨rfl, rfl⟩ ?_
                obtain ⟨hd1, hd2⟩ := dgs_le t ln 5 (sk t ln q) 0 (sk_le (t := t) (show q ≤ ln by omega)).2
                refine v_if_neB C 112 dX3_readsOrder_107 (by decide) (fun c107_29 => ?_) (fun c107_29 => ?_)
                · skip
                  try dsimp only at c107_29
                  refine v_aload_n C dX3_readsOrder_112 4 rfl ?_
                  refine v_get C in_X3 rfl 0 rfl 11 (by decide) q1177 (fun _ h => h) rfl dX3_readsOrder_113 ?_
                  refine v_iload C dX3_readsOrder_116 0 rfl ?_
                  refine v_aload_n C dX3_readsOrder_118 4 rfl ?_
                  refine v_get C in_X3 rfl 0 rfl 10 (by decide) q1176 (fun _ h => h) rfl dX3_readsOrder_119 ?_
                  refine v_eqi (show _ = (dgs t ln 5 (sk t ln q) 0).2 from rfl) ?_
                  refine v_iast (ws' := mw g a _ _ _ _ _ ((nI (dgs t ln 5 (sk t ln q) 0).1), (dgs t ln 5 (sk t ln q) 0).2, (upd tt _ _), dn, gs) _) C dX3_readsOrder_122 7 rfl (ixn (by omega) (by decide)) rfl ?_
                  refine v_iinc (lv' := [(4, _), (3, _), (2, _), (1, _), (0, _)]) C dX3_readsOrder_123 0 rfl (nI_1 i) (by decide) rfl ?_
                  refine v_goto C 62 dX3_readsOrder_126 (by decide) ?_
                  exact ih (f, i + 1, (dgs t ln 5 (sk t ln q) 0).1, (dgs t ln 5 (sk t ln q) 0).2, upd tt i (dgs t ln 5 (sk t ln q) 0).2) ⟨by dsimp only; omega, hd2, by dsimp only; rw [hfin, roL, if_pos hi0, if_pos c107_29]⟩ (by dsimp only; omega)
                · skip
                  try dsimp only at c107_29
                  refine v_iconst (v := 0) C dX3_readsOrder_110 (by decide) ?_
                  exact v_zret C rfl dX3_readsOrder_111 (Nat.le_of_ble_eq_true rfl) (Nat.le_of_ble_eq_true rfl) (by have ho : ro t ln k num td = (false, (dgs t ln 5 (sk t ln q) 0).1, (dgs t ln 5 (sk t ln q) 0).2, tt) := (by unfold ro; rw [if_neg (by rw [hm]; decide), hm, hfin, roL, if_pos hi0, if_neg c107_29]); rw [ordX_f (x := (row, books, num, td, dn, gs)) ho]; exact ⟨rfl, rfl⟩)
              · exact absurd c70_27 c91_28
            · skip
              try dsimp only at c70_27
              have hi0 : ¬ i = 0 := fun z => c70_27 (by rw [z]; exact Int32.le_refl _)
              refine v_aload_n C dX3_readsOrder_73 4 rfl ?_
              refine v_callVw C (m_here l g a _ _ _ _ _ _ _ ln q rfl rfl h120 (by omega)) ok_X3_here rfl q1527 rfl (Nat.le_of_ble_eq_true rfl) 0 rfl rfl rfl dX3_readsOrder_74 (roomL rfl rfl) ⟨rfl, rfl⟩ ?_
              obtain ⟨hq1, hq2⟩ := sk_le (t := t) hq
              refine v_bipush (v := 44) C dX3_readsOrder_77 (by decide) ?_
              refine v_icmp_eq C 84 dX3_readsOrder_79 (by decide) (fun c79_30 => ?_) (fun c79_30 => ?_)
              · skip
                try dsimp only at c79_30
                have hlq := hv_lt c79_30 (by decide)
                refine v_aload_n C dX3_readsOrder_84 4 rfl ?_
                refine v_dup C dX3_readsOrder_85 rfl ?_
                refine v_get C in_X3 rfl 0 rfl 9 (by decide) q1175 (fun _ h => h) rfl dX3_readsOrder_86 ?_
                refine v_eqi (show _ = (nI (sk t ln q)) from rfl) ?_
                refine v_iload C dX3_readsOrder_89 0 rfl ?_
                refine v_if_le C 98 dX3_readsOrder_91 (by decide) (fun c91_31 => ?_) (fun c91_31 => ?_)
                · exact absurd c91_31 c70_27
                · skip
                  try dsimp only at c91_31
                  refine v_iconst (v := 1) C dX3_readsOrder_94 (by decide) ?_
                  refine v_goto C 99 dX3_readsOrder_95 (by decide) ?_
                  refine v_iadd C dX3_readsOrder_99 ?_
                  refine v_eqi (nI_add ((sk t ln q)) 1) ?_
                  refine v_put (ws' := mw g a _ _ _ _ _ ((nI (((sk t ln q)) + 1)), nm, tt, dn, gs) _) C in_X3 tyX3 tyX3_ok nmX3 rfl 0 rfl 9 (by decide) q1175 (fun _ h => h) rfl rfl rfl (Nat.le_of_ble_eq_true rfl) dX3_readsOrder_100 rfl ?_
                  refine v_aload_n C dX3_readsOrder_103 4 rfl ?_
                  refine v_callVw C (m_reads l g a _ _ _ _ _ _ _ ln ((((sk t ln q)) + 1)) rfl rfl h120 (by omega) hch) ok_X3_reads rfl q1531 rfl (Nat.le_of_ble_eq_true rfl) 0 rfl rfl rfl dX3_readsOrder_104 (roomL rfl rfl) ⟨rfl, rfl⟩ ?_
                  obtain ⟨hd1, hd2⟩ := dgs_le t ln 5 (sk t ln ((((sk t ln q)) + 1))) 0 (sk_le (t := t) (show (((sk t ln q)) + 1) ≤ ln by omega)).2
                  refine v_if_neB C 112 dX3_readsOrder_107 (by decide) (fun c107_32 => ?_) (fun c107_32 => ?_)
                  · skip
                    try dsimp only at c107_32
                    refine v_aload_n C dX3_readsOrder_112 4 rfl ?_
                    refine v_get C in_X3 rfl 0 rfl 11 (by decide) q1177 (fun _ h => h) rfl dX3_readsOrder_113 ?_
                    refine v_iload C dX3_readsOrder_116 0 rfl ?_
                    refine v_aload_n C dX3_readsOrder_118 4 rfl ?_
                    refine v_get C in_X3 rfl 0 rfl 10 (by decide) q1176 (fun _ h => h) rfl dX3_readsOrder_119 ?_
                    refine v_eqi (show _ = (dgs t ln 5 (sk t ln ((((sk t ln q)) + 1))) 0).2 from rfl) ?_
                    refine v_iast (ws' := mw g a _ _ _ _ _ ((nI (dgs t ln 5 (sk t ln ((((sk t ln q)) + 1))) 0).1), (dgs t ln 5 (sk t ln ((((sk t ln q)) + 1))) 0).2, (upd tt _ _), dn, gs) _) C dX3_readsOrder_122 7 rfl (ixn (by omega) (by decide)) rfl ?_
                    refine v_iinc (lv' := [(4, _), (3, _), (2, _), (1, _), (0, _)]) C dX3_readsOrder_123 0 rfl (nI_1 i) (by decide) rfl ?_
                    refine v_goto C 62 dX3_readsOrder_126 (by decide) ?_
                    exact ih (f, i + 1, (dgs t ln 5 (sk t ln ((((sk t ln q)) + 1))) 0).1, (dgs t ln 5 (sk t ln ((((sk t ln q)) + 1))) 0).2, upd tt i (dgs t ln 5 (sk t ln ((((sk t ln q)) + 1))) 0).2) ⟨by dsimp only; omega, hd2, by dsimp only; rw [hfin, roL, if_neg hi0, if_pos c79_30, if_pos c107_32]⟩ (by dsimp only; omega)
                  · skip
                    try dsimp only at c107_32
                    refine v_iconst (v := 0) C dX3_readsOrder_110 (by decide) ?_
                    exact v_zret C rfl dX3_readsOrder_111 (Nat.le_of_ble_eq_true rfl) (Nat.le_of_ble_eq_true rfl) (by have ho : ro t ln k num td = (false, (dgs t ln 5 (sk t ln ((((sk t ln q)) + 1))) 0).1, (dgs t ln 5 (sk t ln ((((sk t ln q)) + 1))) 0).2, tt) := (by unfold ro; rw [if_neg (by rw [hm]; decide), hm, hfin, roL, if_neg hi0, if_pos c79_30, if_neg c107_32]); rw [ordX_f (x := (row, books, num, td, dn, gs)) ho]; exact ⟨rfl, rfl⟩)
              · skip
                try dsimp only at c79_30
                refine v_iconst (v := 0) C dX3_readsOrder_82 (by decide) ?_
                exact v_zret C rfl dX3_readsOrder_83 (Nat.le_of_ble_eq_true rfl) (Nat.le_of_ble_eq_true rfl) (by have ho : ro t ln k num td = (false, sk t ln q, nm, tt) := (by unfold ro; rw [if_neg (by rw [hm]; decide), hm, hfin, roL, if_neg hi0, if_neg c79_30]); rw [ordX_f (x := (row, books, num, td, dn, gs)) ho]; exact ⟨rfl, rfl⟩)
        · exact absurd c44_24 (by decide)
    · skip
      try dsimp only at c8_1
      refine v_iconst (v := 5) C dX3_readsOrder_11 (by decide) ?_
      refine v_goto C 42 dX3_readsOrder_12 (by decide) ?_
      refine v_istore_n (lv' := [(3, _), (2, _), (0, _), (1, _)]) C dX3_readsOrder_42 rfl (by decide) rfl ?_
      have hm : mny (hv t ln (sk t ln k)) = 5 := by unfold mny; rw [if_pos c8_1]
      have hlt : (sk t ln k) < ln := hv_lt c8_1 (by decide)
      refine v_iload_n C dX3_readsOrder_43 0 rfl ?_
      refine v_if_ne C 49 dX3_readsOrder_44 (by decide) (fun c44_33 => ?_) (fun c44_33 => ?_)
      · skip
        try dsimp only at c44_33
        refine v_aload_n C dX3_readsOrder_49 2 rfl ?_
        refine v_dup C dX3_readsOrder_50 rfl ?_
        refine v_get C in_X3 rfl 0 rfl 9 (by decide) q1175 (fun _ h => h) rfl dX3_readsOrder_51 ?_
        refine v_eqi (show _ = (nI (sk t ln k)) from rfl) ?_
        refine v_iconst (v := 1) C dX3_readsOrder_54 (by decide) ?_
        refine v_iadd C dX3_readsOrder_55 ?_
        refine v_eqi (nI_add ((sk t ln k)) 1) ?_
        refine v_put (ws' := mw g a _ _ _ _ _ ((nI (((sk t ln k)) + 1)), num, td, dn, gs) _) C in_X3 tyX3 tyX3_ok nmX3 rfl 0 rfl 9 (by decide) q1175 (fun _ h => h) rfl rfl rfl (Nat.le_of_ble_eq_true rfl) dX3_readsOrder_56 rfl ?_
        refine v_iconst (v := 0) C dX3_readsOrder_59 (by decide) ?_
        refine v_istore (lv' := [(4, _), (3, _), (2, _), (0, _), (1, _)]) C dX3_readsOrder_60 (by decide) rfl ?_
        refine v_lvp (lv' := [(4, _), (3, _), (2, _), (1, _), (0, _)]) [0, 1, 2, 4, 3] rfl ?_
        refine v_while (α := Nat × Nat × Nat × Int32 × (Nat → Int32)) (fun x => x.1) (fun x => x.1 + x.2.1 = 5 ∧ x.2.2.1 ≤ ln ∧ roL t ln 5 0 ((sk t ln k) + 1) num td = roL t ln x.1 x.2.1 x.2.2.1 x.2.2.2.1 x.2.2.2.2) (fun x => [(4, .int (nI x.2.1)), (3, .int 5), (2, .int (hv t ln (sk t ln k))), (1, .int (bB false)), (0, .ref (a 0))]) (fun x => mw g a row books S B (t, nI ln) (nI x.2.2.1, x.2.2.2.1, x.2.2.2.2, dn, gs) h) (5, 0, (sk t ln k) + 1, num, td) rfl rfl ⟨rfl, hlt, rfl⟩ ?_
        rintro ⟨f, i, q, nm, tt⟩ ⟨h1, hq, hfin⟩ ih
        dsimp only at h1 hq hfin ih ⊢
        refine v_iload C dX3_readsOrder_62 0 rfl ?_
        refine v_iload_n C dX3_readsOrder_64 1 rfl ?_
        refine v_icmp_ge C 129 dX3_readsOrder_65 (by decide) (fun c65_34 => ?_) (fun c65_34 => ?_)
        · skip
          try dsimp only at c65_34
          have hge : 5 ≤ i := (nI_leI (a := 5) (b := i) (by decide) (by omega)).mp c65_34
          refine v_iload_n C dX3_readsOrder_129 3 rfl ?_
          refine v_if_eq C 170 dX3_readsOrder_130 (by decide) (fun c130_35 => ?_) (fun c130_35 => ?_)
          · skip
            try dsimp only at c130_35
            refine v_iconst (v := 1) C dX3_readsOrder_170 (by decide) ?_
            exact v_zret C rfl dX3_readsOrder_171 (Nat.le_of_ble_eq_true rfl) (Nat.le_of_ble_eq_true rfl) (by have ho : ro t ln k num td = (true, q, nm, tt) := (by unfold ro; rw [if_neg (by rw [hm]; decide), hm, hfin, show f = 0 by omega, roL]); rw [ordX_0 (x := (row, books, num, td, dn, gs)) ho]; exact ⟨rfl, rfl⟩)
          · exact absurd (by decide) c130_35
        · skip
          try dsimp only at c65_34
          have hil : i < 5 := Nat.lt_of_not_le (fun z => c65_34 ((nI_leI (a := 5) (b := i) (by decide) (by omega)).mpr z))
          obtain ⟨f, rfl⟩ : ∃ y, f = y + 1 := ⟨f - 1, by omega⟩
          refine v_iload C dX3_readsOrder_68 0 rfl ?_
          refine v_if_le C 84 dX3_readsOrder_70 (by decide) (fun c70_36 => ?_) (fun c70_36 => ?_)
          · skip
            try dsimp only at c70_36
            have hi0 : i = 0 := Nat.le_zero.mp ((nI_leI (b := 0) (by omega) (by decide)).mp c70_36)
            refine v_aload_n C dX3_readsOrder_84 4 rfl ?_
            refine v_dup C dX3_readsOrder_85 rfl ?_
            refine v_get C in_X3 rfl 0 rfl 9 (by decide) q1175 (fun _ h => h) rfl dX3_readsOrder_86 ?_
            refine v_eqi (show _ = (nI q) from rfl) ?_
            refine v_iload C dX3_readsOrder_89 0 rfl ?_
            refine v_if_le C 98 dX3_readsOrder_91 (by decide) (fun c91_37 => ?_) (fun c91_37 => ?_)
            · skip
              try dsimp only at c91_37
              refine v_iconst (v := 0) C dX3_readsOrder_98 (by decide) ?_
              refine v_iadd C dX3_readsOrder_99 ?_
              refine v_eqi (show _ = nI q from nI_add q 0) ?_
              refine v_put (ws' := mw g a _ _ _ _ _ ((nI q), nm, tt, dn, gs) _) C in_X3 tyX3 tyX3_ok nmX3 rfl 0 rfl 9 (by decide) q1175 (fun _ h => h) rfl rfl rfl (Nat.le_of_ble_eq_true rfl) dX3_readsOrder_100 rfl ?_
              refine v_aload_n C dX3_readsOrder_103 4 rfl ?_
              refine v_callVw C (m_reads l g a _ _ _ _ _ _ _ ln q rfl rfl h120 (by omega) hch) ok_X3_reads rfl q1531 rfl (Nat.le_of_ble_eq_true rfl) 0 rfl rfl rfl dX3_readsOrder_104 (roomL rfl rfl) ⟨rfl, rfl⟩ ?_
              obtain ⟨hd1, hd2⟩ := dgs_le t ln 5 (sk t ln q) 0 (sk_le (t := t) (show q ≤ ln by omega)).2
              refine v_if_neB C 112 dX3_readsOrder_107 (by decide) (fun c107_38 => ?_) (fun c107_38 => ?_)
              · skip
                try dsimp only at c107_38
                refine v_aload_n C dX3_readsOrder_112 4 rfl ?_
                refine v_get C in_X3 rfl 0 rfl 11 (by decide) q1177 (fun _ h => h) rfl dX3_readsOrder_113 ?_
                refine v_iload C dX3_readsOrder_116 0 rfl ?_
                refine v_aload_n C dX3_readsOrder_118 4 rfl ?_
                refine v_get C in_X3 rfl 0 rfl 10 (by decide) q1176 (fun _ h => h) rfl dX3_readsOrder_119 ?_
                refine v_eqi (show _ = (dgs t ln 5 (sk t ln q) 0).2 from rfl) ?_
                refine v_iast (ws' := mw g a _ _ _ _ _ ((nI (dgs t ln 5 (sk t ln q) 0).1), (dgs t ln 5 (sk t ln q) 0).2, (upd tt _ _), dn, gs) _) C dX3_readsOrder_122 7 rfl (ixn (by omega) (by decide)) rfl ?_
                refine v_iinc (lv' := [(4, _), (3, _), (2, _), (1, _), (0, _)]) C dX3_readsOrder_123 0 rfl (nI_1 i) (by decide) rfl ?_
                refine v_goto C 62 dX3_readsOrder_126 (by decide) ?_
                exact ih (f, i + 1, (dgs t ln 5 (sk t ln q) 0).1, (dgs t ln 5 (sk t ln q) 0).2, upd tt i (dgs t ln 5 (sk t ln q) 0).2) ⟨by dsimp only; omega, hd2, by dsimp only; rw [hfin, roL, if_pos hi0, if_pos c107_38]⟩ (by dsimp only; omega)
              · skip
                try dsimp only at c107_38
                refine v_iconst (v := 0) C dX3_readsOrder_110 (by decide) ?_
                exact v_zret C rfl dX3_readsOrder_111 (Nat.le_of_ble_eq_true rfl) (Nat.le_of_ble_eq_true rfl) (by have ho : ro t ln k num td = (false, (dgs t ln 5 (sk t ln q) 0).1, (dgs t ln 5 (sk t ln q) 0).2, tt) := (by unfold ro; rw [if_neg (by rw [hm]; decide), hm, hfin, roL, if_pos hi0, if_neg c107_38]); rw [ordX_f (x := (row, books, num, td, dn, gs)) ho]; exact ⟨rfl, rfl⟩)
            · exact absurd c70_36 c91_37
          · skip
            try dsimp only at c70_36
            have hi0 : ¬ i = 0 := fun z => c70_36 (by rw [z]; exact Int32.le_refl _)
            refine v_aload_n C dX3_readsOrder_73 4 rfl ?_
            refine v_callVw C (m_here l g a _ _ _ _ _ _ _ ln q rfl rfl h120 (by omega)) ok_X3_here rfl q1527 rfl (Nat.le_of_ble_eq_true rfl) 0 rfl rfl rfl dX3_readsOrder_74 (roomL rfl rfl) ⟨rfl, rfl⟩ ?_
            obtain ⟨hq1, hq2⟩ := sk_le (t := t) hq
            refine v_bipush (v := 44) C dX3_readsOrder_77 (by decide) ?_
            refine v_icmp_eq C 84 dX3_readsOrder_79 (by decide) (fun c79_39 => ?_) (fun c79_39 => ?_)
            · skip
              try dsimp only at c79_39
              have hlq := hv_lt c79_39 (by decide)
              refine v_aload_n C dX3_readsOrder_84 4 rfl ?_
              refine v_dup C dX3_readsOrder_85 rfl ?_
              refine v_get C in_X3 rfl 0 rfl 9 (by decide) q1175 (fun _ h => h) rfl dX3_readsOrder_86 ?_
              refine v_eqi (show _ = (nI (sk t ln q)) from rfl) ?_
              refine v_iload C dX3_readsOrder_89 0 rfl ?_
              refine v_if_le C 98 dX3_readsOrder_91 (by decide) (fun c91_40 => ?_) (fun c91_40 => ?_)
              · exact absurd c91_40 c70_36
              · skip
                try dsimp only at c91_40
                refine v_iconst (v := 1) C dX3_readsOrder_94 (by decide) ?_
                refine v_goto C 99 dX3_readsOrder_95 (by decide) ?_
                refine v_iadd C dX3_readsOrder_99 ?_
                refine v_eqi (nI_add ((sk t ln q)) 1) ?_
                refine v_put (ws' := mw g a _ _ _ _ _ ((nI (((sk t ln q)) + 1)), nm, tt, dn, gs) _) C in_X3 tyX3 tyX3_ok nmX3 rfl 0 rfl 9 (by decide) q1175 (fun _ h => h) rfl rfl rfl (Nat.le_of_ble_eq_true rfl) dX3_readsOrder_100 rfl ?_
                refine v_aload_n C dX3_readsOrder_103 4 rfl ?_
                refine v_callVw C (m_reads l g a _ _ _ _ _ _ _ ln ((((sk t ln q)) + 1)) rfl rfl h120 (by omega) hch) ok_X3_reads rfl q1531 rfl (Nat.le_of_ble_eq_true rfl) 0 rfl rfl rfl dX3_readsOrder_104 (roomL rfl rfl) ⟨rfl, rfl⟩ ?_
                obtain ⟨hd1, hd2⟩ := dgs_le t ln 5 (sk t ln ((((sk t ln q)) + 1))) 0 (sk_le (t := t) (show (((sk t ln q)) + 1) ≤ ln by omega)).2
                refine v_if_neB C 112 dX3_readsOrder_107 (by decide) (fun c107_41 => ?_) (fun c107_41 => ?_)
                · skip
                  try dsimp only at c107_41
                  refine v_aload_n C dX3_readsOrder_112 4 rfl ?_
                  refine v_get C in_X3 rfl 0 rfl 11 (by decide) q1177 (fun _ h => h) rfl dX3_readsOrder_113 ?_
                  refine v_iload C dX3_readsOrder_116 0 rfl ?_
                  refine v_aload_n C dX3_readsOrder_118 4 rfl ?_
                  refine v_get C in_X3 rfl 0 rfl 10 (by decide) q1176 (fun _ h => h) rfl dX3_readsOrder_119 ?_
                  refine v_eqi (show _ = (dgs t ln 5 (sk t ln ((((sk t ln q)) + 1))) 0).2 from rfl) ?_
                  refine v_iast (ws' := mw g a _ _ _ _ _ ((nI (dgs t ln 5 (sk t ln ((((sk t ln q)) + 1))) 0).1), (dgs t ln 5 (sk t ln ((((sk t ln q)) + 1))) 0).2, (upd tt _ _), dn, gs) _) C dX3_readsOrder_122 7 rfl (ixn (by omega) (by decide)) rfl ?_
                  refine v_iinc (lv' := [(4, _), (3, _), (2, _), (1, _), (0, _)]) C dX3_readsOrder_123 0 rfl (nI_1 i) (by decide) rfl ?_
                  refine v_goto C 62 dX3_readsOrder_126 (by decide) ?_
                  exact ih (f, i + 1, (dgs t ln 5 (sk t ln ((((sk t ln q)) + 1))) 0).1, (dgs t ln 5 (sk t ln ((((sk t ln q)) + 1))) 0).2, upd tt i (dgs t ln 5 (sk t ln ((((sk t ln q)) + 1))) 0).2) ⟨by dsimp only; omega, hd2, by dsimp only; rw [hfin, roL, if_neg hi0, if_pos c79_39, if_pos c107_41]⟩ (by dsimp only; omega)
                · skip
                  try dsimp only at c107_41
                  refine v_iconst (v := 0) C dX3_readsOrder_110 (by decide) ?_
                  exact v_zret C rfl dX3_readsOrder_111 (Nat.le_of_ble_eq_true rfl) (Nat.le_of_ble_eq_true rfl) (by have ho : ro t ln k num td = (false, (dgs t ln 5 (sk t ln ((((sk t ln q)) + 1))) 0).1, (dgs t ln 5 (sk t ln ((((sk t ln q)) + 1))) 0).2, tt) := (by unfold ro; rw [if_neg (by rw [hm]; decide), hm, hfin, roL, if_neg hi0, if_pos c79_39, if_neg c107_41]); rw [ordX_f (x := (row, books, num, td, dn, gs)) ho]; exact ⟨rfl, rfl⟩)
            · skip
              try dsimp only at c79_39
              refine v_iconst (v := 0) C dX3_readsOrder_82 (by decide) ?_
              exact v_zret C rfl dX3_readsOrder_83 (Nat.le_of_ble_eq_true rfl) (Nat.le_of_ble_eq_true rfl) (by have ho : ro t ln k num td = (false, sk t ln q, nm, tt) := (by unfold ro; rw [if_neg (by rw [hm]; decide), hm, hfin, roL, if_neg hi0, if_neg c79_39]); rw [ordX_f (x := (row, books, num, td, dn, gs)) ho]; exact ⟨rfl, rfl⟩)
      · exact absurd c44_33 (by decide)
  | true =>
    refine v_aload_n C dX3_readsOrder_0 0 rfl ?_
    refine v_callVw C (m_here l g a _ _ _ _ _ _ _ ln k rfl rfl h120 (by omega)) ok_X3_here rfl q1527 rfl (Nat.le_of_ble_eq_true rfl) 0 rfl rfl rfl dX3_readsOrder_1 (roomL rfl rfl) ⟨rfl, rfl⟩ ?_
    obtain ⟨hs1, hs2⟩ := sk_le (t := t) hk
    refine v_istore_n (lv' := [(2, _), (0, _), (1, _)]) C dX3_readsOrder_4 rfl (by decide) rfl ?_
    refine v_iload_n C dX3_readsOrder_5 0 rfl ?_
    refine v_bipush (v := 114) C dX3_readsOrder_6 (by decide) ?_
    refine v_icmp_ne C 15 dX3_readsOrder_8 (by decide) (fun c8_1 => ?_) (fun c8_1 => ?_)
    · skip
      try dsimp only at c8_1
      refine v_iload_n C dX3_readsOrder_15 0 rfl ?_
      refine v_bipush (v := 109) C dX3_readsOrder_16 (by decide) ?_
      refine v_icmp_ne C 25 dX3_readsOrder_18 (by decide) (fun c18_2 => ?_) (fun c18_2 => ?_)
      · skip
        try dsimp only at c18_2
        refine v_iload_n C dX3_readsOrder_25 0 rfl ?_
        refine v_bipush (v := 99) C dX3_readsOrder_26 (by decide) ?_
        refine v_icmp_eq C 37 dX3_readsOrder_28 (by decide) (fun c28_3 => ?_) (fun c28_3 => ?_)
        · skip
          try dsimp only at c28_3
          refine v_iconst (v := 2) C dX3_readsOrder_37 (by decide) ?_
          refine v_goto C 42 dX3_readsOrder_38 (by decide) ?_
          refine v_istore_n (lv' := [(3, _), (2, _), (0, _), (1, _)]) C dX3_readsOrder_42 rfl (by decide) rfl ?_
          have hm : mny (hv t ln (sk t ln k)) = 2 := by unfold mny; rw [if_neg c8_1, if_neg c18_2, if_pos c28_3]
          have hlt : (sk t ln k) < ln := hv_lt c28_3 (by decide)
          refine v_iload_n C dX3_readsOrder_43 0 rfl ?_
          refine v_if_ne C 49 dX3_readsOrder_44 (by decide) (fun c44_4 => ?_) (fun c44_4 => ?_)
          · skip
            try dsimp only at c44_4
            refine v_aload_n C dX3_readsOrder_49 2 rfl ?_
            refine v_dup C dX3_readsOrder_50 rfl ?_
            refine v_get C in_X3 rfl 0 rfl 9 (by decide) q1175 (fun _ h => h) rfl dX3_readsOrder_51 ?_
            refine v_eqi (show _ = (nI (sk t ln k)) from rfl) ?_
            refine v_iconst (v := 1) C dX3_readsOrder_54 (by decide) ?_
            refine v_iadd C dX3_readsOrder_55 ?_
            refine v_eqi (nI_add ((sk t ln k)) 1) ?_
            refine v_put (ws' := mw g a _ _ _ _ _ ((nI (((sk t ln k)) + 1)), num, td, dn, gs) _) C in_X3 tyX3 tyX3_ok nmX3 rfl 0 rfl 9 (by decide) q1175 (fun _ h => h) rfl rfl rfl (Nat.le_of_ble_eq_true rfl) dX3_readsOrder_56 rfl ?_
            refine v_iconst (v := 0) C dX3_readsOrder_59 (by decide) ?_
            refine v_istore (lv' := [(4, _), (3, _), (2, _), (0, _), (1, _)]) C dX3_readsOrder_60 (by decide) rfl ?_
            refine v_lvp (lv' := [(4, _), (3, _), (2, _), (1, _), (0, _)]) [0, 1, 2, 4, 3] rfl ?_
            refine v_while (α := Nat × Nat × Nat × Int32 × (Nat → Int32)) (fun x => x.1) (fun x => x.1 + x.2.1 = 2 ∧ x.2.2.1 ≤ ln ∧ roL t ln 2 0 ((sk t ln k) + 1) num td = roL t ln x.1 x.2.1 x.2.2.1 x.2.2.2.1 x.2.2.2.2) (fun x => [(4, .int (nI x.2.1)), (3, .int 2), (2, .int (hv t ln (sk t ln k))), (1, .int (bB true)), (0, .ref (a 0))]) (fun x => mw g a row books S B (t, nI ln) (nI x.2.2.1, x.2.2.2.1, x.2.2.2.2, dn, gs) h) (2, 0, (sk t ln k) + 1, num, td) rfl rfl ⟨rfl, hlt, rfl⟩ ?_
            rintro ⟨f, i, q, nm, tt⟩ ⟨h1, hq, hfin⟩ ih
            dsimp only at h1 hq hfin ih ⊢
            refine v_iload C dX3_readsOrder_62 0 rfl ?_
            refine v_iload_n C dX3_readsOrder_64 1 rfl ?_
            refine v_icmp_ge C 129 dX3_readsOrder_65 (by decide) (fun c65_5 => ?_) (fun c65_5 => ?_)
            · skip
              try dsimp only at c65_5
              have hge : 2 ≤ i := (nI_leI (a := 2) (b := i) (by decide) (by omega)).mp c65_5
              refine v_iload_n C dX3_readsOrder_129 3 rfl ?_
              refine v_if_eq C 170 dX3_readsOrder_130 (by decide) (fun c130_6 => ?_) (fun c130_6 => ?_)
              · exact absurd c130_6 (by decide)
              · skip
                try dsimp only at c130_6
                refine v_aload_n C dX3_readsOrder_133 4 rfl ?_
                refine v_get C in_X3 rfl 0 rfl 13 (by decide) q1179 (fun _ h => h) rfl dX3_readsOrder_134 ?_
                refine v_eqi (show _ = gs from rfl) ?_
                refine v_if_eq C 170 dX3_readsOrder_137 (by decide) (fun c137_7 => ?_) (fun c137_7 => ?_)
                · skip
                  try dsimp only at c137_7
                  refine v_iconst (v := 1) C dX3_readsOrder_170 (by decide) ?_
                  exact v_zret C rfl dX3_readsOrder_171 (Nat.le_of_ble_eq_true rfl) (Nat.le_of_ble_eq_true rfl) (by have ho : ro t ln k num td = (true, q, nm, tt) := (by unfold ro; rw [if_neg (by rw [hm]; decide), hm, hfin, show f = 0 by omega, roL]); rw [ordX_1 (x := (row, books, num, td, dn, gs)) ho c137_7]; exact ⟨rfl, rfl⟩)
                · skip
                  try dsimp only at c137_7
                  refine v_aload_n C dX3_readsOrder_140 4 rfl ?_
                  refine v_aload_n C dX3_readsOrder_141 4 rfl ?_
                  refine v_iload_n C dX3_readsOrder_142 2 rfl ?_
                  refine v_callVw C (m_carries l g a _ _ _ _ _ _ _ nb nl hnb hb8 hnl hl3 hsp _) ok_X3_carries rfl q1535 rfl (Nat.le_of_ble_eq_true rfl) 0 rfl rfl rfl dX3_readsOrder_143 (roomL rfl rfl) ⟨rfl, rfl⟩ ?_
                  refine v_topi (fun z8 ez8 => ?_)
                  refine v_put (ws' := mw g a _ _ _ _ _ ((nI q), nm, tt, dn, z8) _) C in_X3 tyX3 tyX3_ok nmX3 rfl 0 rfl 13 (by decide) q1179 (fun _ h => h) rfl (z01_nar (by rw [ez8]; exact carr_01 _ _ _ _ _)) (z01_fit (by rw [ez8]; exact carr_01 _ _ _ _ _)) (Nat.le_of_ble_eq_true rfl) dX3_readsOrder_146 rfl ?_
                  refine v_aload_n C dX3_readsOrder_149 4 rfl ?_
                  refine v_dup C dX3_readsOrder_150 rfl ?_
                  refine v_get C in_X3 rfl 0 rfl 12 (by decide) q1178 (fun _ h => h) rfl dX3_readsOrder_151 ?_
                  refine v_eqi (show _ = dn from rfl) ?_
                  refine v_aload_n C dX3_readsOrder_154 4 rfl ?_
                  refine v_get C in_X3 rfl 0 rfl 13 (by decide) q1179 (fun _ h => h) rfl dX3_readsOrder_155 ?_
                  refine v_eqi (show _ = z8 from rfl) ?_
                  refine v_ternI C 165 166 dX3_readsOrder_161 dX3_readsOrder_162 dX3_readsOrder_165 (by decide) rfl (fun ht hf => v_if_eq C 165 dX3_readsOrder_158 (by decide) (fun q => ht (fun n => n q)) (fun q => hf q)) ?_
                  refine v_iadd C dX3_readsOrder_166 ?_
                  refine v_topi (fun z9 ez9 => ?_)
                  refine v_put (ws' := mw g a _ _ _ _ _ ((nI q), nm, tt, z9, z8) _) C in_X3 tyX3 tyX3_ok nmX3 rfl 0 rfl 12 (by decide) q1178 (fun _ h => h) rfl rfl rfl (Nat.le_of_ble_eq_true rfl) dX3_readsOrder_167 rfl ?_
                  refine v_iconst (v := 1) C dX3_readsOrder_170 (by decide) ?_
                  exact v_zret C rfl dX3_readsOrder_171 (Nat.le_of_ble_eq_true rfl) (Nat.le_of_ble_eq_true rfl) (by have ho : ro t ln k num td = (true, q, nm, tt) := (by unfold ro; rw [if_neg (by rw [hm]; decide), hm, hfin, show f = 0 by omega, roL]); subst ez9; subst ez8; rw [ordX_2 (x := (row, books, num, td, dn, gs)) ho c137_7]; exact ⟨rfl, rfl⟩)
            · skip
              try dsimp only at c65_5
              have hil : i < 2 := Nat.lt_of_not_le (fun z => c65_5 ((nI_leI (a := 2) (b := i) (by decide) (by omega)).mpr z))
              obtain ⟨f, rfl⟩ : ∃ y, f = y + 1 := ⟨f - 1, by omega⟩
              refine v_iload C dX3_readsOrder_68 0 rfl ?_
              refine v_if_le C 84 dX3_readsOrder_70 (by decide) (fun c70_10 => ?_) (fun c70_10 => ?_)
              · skip
                try dsimp only at c70_10
                have hi0 : i = 0 := Nat.le_zero.mp ((nI_leI (b := 0) (by omega) (by decide)).mp c70_10)
                refine v_aload_n C dX3_readsOrder_84 4 rfl ?_
                refine v_dup C dX3_readsOrder_85 rfl ?_
                refine v_get C in_X3 rfl 0 rfl 9 (by decide) q1175 (fun _ h => h) rfl dX3_readsOrder_86 ?_
                refine v_eqi (show _ = (nI q) from rfl) ?_
                refine v_iload C dX3_readsOrder_89 0 rfl ?_
                refine v_if_le C 98 dX3_readsOrder_91 (by decide) (fun c91_11 => ?_) (fun c91_11 => ?_)
                · skip
                  try dsimp only at c91_11
                  refine v_iconst (v := 0) C dX3_readsOrder_98 (by decide) ?_
                  refine v_iadd C dX3_readsOrder_99 ?_
                  refine v_eqi (show _ = nI q from nI_add q 0) ?_
                  refine v_put (ws' := mw g a _ _ _ _ _ ((nI q), nm, tt, dn, gs) _) C in_X3 tyX3 tyX3_ok nmX3 rfl 0 rfl 9 (by decide) q1175 (fun _ h => h) rfl rfl rfl (Nat.le_of_ble_eq_true rfl) dX3_readsOrder_100 rfl ?_
                  refine v_aload_n C dX3_readsOrder_103 4 rfl ?_
                  refine v_callVw C (m_reads l g a _ _ _ _ _ _ _ ln q rfl rfl h120 (by omega) hch) ok_X3_reads rfl q1531 rfl (Nat.le_of_ble_eq_true rfl) 0 rfl rfl rfl dX3_readsOrder_104 (roomL rfl rfl) ⟨rfl, rfl⟩ ?_
                  obtain ⟨hd1, hd2⟩ := dgs_le t ln 5 (sk t ln q) 0 (sk_le (t := t) (show q ≤ ln by omega)).2
                  refine v_if_neB C 112 dX3_readsOrder_107 (by decide) (fun c107_12 => ?_) (fun c107_12 => ?_)
                  · skip
                    try dsimp only at c107_12
                    refine v_aload_n C dX3_readsOrder_112 4 rfl ?_
                    refine v_get C in_X3 rfl 0 rfl 11 (by decide) q1177 (fun _ h => h) rfl dX3_readsOrder_113 ?_
                    refine v_iload C dX3_readsOrder_116 0 rfl ?_
                    refine v_aload_n C dX3_readsOrder_118 4 rfl ?_
                    refine v_get C in_X3 rfl 0 rfl 10 (by decide) q1176 (fun _ h => h) rfl dX3_readsOrder_119 ?_
                    refine v_eqi (show _ = (dgs t ln 5 (sk t ln q) 0).2 from rfl) ?_
                    refine v_iast (ws' := mw g a _ _ _ _ _ ((nI (dgs t ln 5 (sk t ln q) 0).1), (dgs t ln 5 (sk t ln q) 0).2, (upd tt _ _), dn, gs) _) C dX3_readsOrder_122 7 rfl (ixn (by omega) (by decide)) rfl ?_
                    refine v_iinc (lv' := [(4, _), (3, _), (2, _), (1, _), (0, _)]) C dX3_readsOrder_123 0 rfl (nI_1 i) (by decide) rfl ?_
                    refine v_goto C 62 dX3_readsOrder_126 (by decide) ?_
                    exact ih (f, i + 1, (dgs t ln 5 (sk t ln q) 0).1, (dgs t ln 5 (sk t ln q) 0).2, upd tt i (dgs t ln 5 (sk t ln q) 0).2) ⟨by dsimp only; omega, hd2, by dsimp only; rw [hfin, roL, if_pos hi0, if_pos c107_12]⟩ (by dsimp only; omega)
                  · skip
                    try dsimp only at c107_12
                    refine v_iconst (v := 0) C dX3_readsOrder_110 (by decide) ?_
                    exact v_zret C rfl dX3_readsOrder_111 (Nat.le_of_ble_eq_true rfl) (Nat.le_of_ble_eq_true rfl) (by have ho : ro t ln k num td = (false, (dgs t ln 5 (sk t ln q) 0).1, (dgs t ln 5 (sk t ln q) 0).2, tt) := (by unfold ro; rw [if_neg (by rw [hm]; decide), hm, hfin, roL, if_pos hi0, if_neg c107_12]); rw [ordX_f (x := (row, books, num, td, dn, gs)) ho]; exact ⟨rfl, rfl⟩)
                · exact absurd c70_10 c91_11
              · skip
                try dsimp only at c70_10
                have hi0 : ¬ i = 0 := fun z => c70_10 (by rw [z]; exact Int32.le_refl _)
                refine v_aload_n C dX3_readsOrder_73 4 rfl ?_
                refine v_callVw C (m_here l g a _ _ _ _ _ _ _ ln q rfl rfl h120 (by omega)) ok_X3_here rfl q1527 rfl (Nat.le_of_ble_eq_true rfl) 0 rfl rfl rfl dX3_readsOrder_74 (roomL rfl rfl) ⟨rfl, rfl⟩ ?_
                obtain ⟨hq1, hq2⟩ := sk_le (t := t) hq
                refine v_bipush (v := 44) C dX3_readsOrder_77 (by decide) ?_
                refine v_icmp_eq C 84 dX3_readsOrder_79 (by decide) (fun c79_13 => ?_) (fun c79_13 => ?_)
                · skip
                  try dsimp only at c79_13
                  have hlq := hv_lt c79_13 (by decide)
                  refine v_aload_n C dX3_readsOrder_84 4 rfl ?_
                  refine v_dup C dX3_readsOrder_85 rfl ?_
                  refine v_get C in_X3 rfl 0 rfl 9 (by decide) q1175 (fun _ h => h) rfl dX3_readsOrder_86 ?_
                  refine v_eqi (show _ = (nI (sk t ln q)) from rfl) ?_
                  refine v_iload C dX3_readsOrder_89 0 rfl ?_
                  refine v_if_le C 98 dX3_readsOrder_91 (by decide) (fun c91_14 => ?_) (fun c91_14 => ?_)
                  · exact absurd c91_14 c70_10
                  · skip
                    try dsimp only at c91_14
                    refine v_iconst (v := 1) C dX3_readsOrder_94 (by decide) ?_
                    refine v_goto C 99 dX3_readsOrder_95 (by decide) ?_
                    refine v_iadd C dX3_readsOrder_99 ?_
                    refine v_eqi (nI_add ((sk t ln q)) 1) ?_
                    refine v_put (ws' := mw g a _ _ _ _ _ ((nI (((sk t ln q)) + 1)), nm, tt, dn, gs) _) C in_X3 tyX3 tyX3_ok nmX3 rfl 0 rfl 9 (by decide) q1175 (fun _ h => h) rfl rfl rfl (Nat.le_of_ble_eq_true rfl) dX3_readsOrder_100 rfl ?_
                    refine v_aload_n C dX3_readsOrder_103 4 rfl ?_
                    refine v_callVw C (m_reads l g a _ _ _ _ _ _ _ ln ((((sk t ln q)) + 1)) rfl rfl h120 (by omega) hch) ok_X3_reads rfl q1531 rfl (Nat.le_of_ble_eq_true rfl) 0 rfl rfl rfl dX3_readsOrder_104 (roomL rfl rfl) ⟨rfl, rfl⟩ ?_
                    obtain ⟨hd1, hd2⟩ := dgs_le t ln 5 (sk t ln ((((sk t ln q)) + 1))) 0 (sk_le (t := t) (show (((sk t ln q)) + 1) ≤ ln by omega)).2
                    refine v_if_neB C 112 dX3_readsOrder_107 (by decide) (fun c107_15 => ?_) (fun c107_15 => ?_)
                    · skip
                      try dsimp only at c107_15
                      refine v_aload_n C dX3_readsOrder_112 4 rfl ?_
                      refine v_get C in_X3 rfl 0 rfl 11 (by decide) q1177 (fun _ h => h) rfl dX3_readsOrder_113 ?_
                      refine v_iload C dX3_readsOrder_116 0 rfl ?_
                      refine v_aload_n C dX3_readsOrder_118 4 rfl ?_
                      refine v_get C in_X3 rfl 0 rfl 10 (by decide) q1176 (fun _ h => h) rfl dX3_readsOrder_119 ?_
                      refine v_eqi (show _ = (dgs t ln 5 (sk t ln ((((sk t ln q)) + 1))) 0).2 from rfl) ?_
                      refine v_iast (ws' := mw g a _ _ _ _ _ ((nI (dgs t ln 5 (sk t ln ((((sk t ln q)) + 1))) 0).1), (dgs t ln 5 (sk t ln ((((sk t ln q)) + 1))) 0).2, (upd tt _ _), dn, gs) _) C dX3_readsOrder_122 7 rfl (ixn (by omega) (by decide)) rfl ?_
                      refine v_iinc (lv' := [(4, _), (3, _), (2, _), (1, _), (0, _)]) C dX3_readsOrder_123 0 rfl (nI_1 i) (by decide) rfl ?_
                      refine v_goto C 62 dX3_readsOrder_126 (by decide) ?_
                      exact ih (f, i + 1, (dgs t ln 5 (sk t ln ((((sk t ln q)) + 1))) 0).1, (dgs t ln 5 (sk t ln ((((sk t ln q)) + 1))) 0).2, upd tt i (dgs t ln 5 (sk t ln ((((sk t ln q)) + 1))) 0).2) ⟨by dsimp only; omega, hd2, by dsimp only; rw [hfin, roL, if_neg hi0, if_pos c79_13, if_pos c107_15]⟩ (by dsimp only; omega)
                    · skip
                      try dsimp only at c107_15
                      refine v_iconst (v := 0) C dX3_readsOrder_110 (by decide) ?_
                      exact v_zret C rfl dX3_readsOrder_111 (Nat.le_of_ble_eq_true rfl) (Nat.le_of_ble_eq_true rfl) (by have ho : ro t ln k num td = (false, (dgs t ln 5 (sk t ln ((((sk t ln q)) + 1))) 0).1, (dgs t ln 5 (sk t ln ((((sk t ln q)) + 1))) 0).2, tt) := (by unfold ro; rw [if_neg (by rw [hm]; decide), hm, hfin, roL, if_neg hi0, if_pos c79_13, if_neg c107_15]); rw [ordX_f (x := (row, books, num, td, dn, gs)) ho]; exact ⟨rfl, rfl⟩)
                · skip
                  try dsimp only at c79_13
                  refine v_iconst (v := 0) C dX3_readsOrder_82 (by decide) ?_
                  exact v_zret C rfl dX3_readsOrder_83 (Nat.le_of_ble_eq_true rfl) (Nat.le_of_ble_eq_true rfl) (by have ho : ro t ln k num td = (false, sk t ln q, nm, tt) := (by unfold ro; rw [if_neg (by rw [hm]; decide), hm, hfin, roL, if_neg hi0, if_neg c79_13]); rw [ordX_f (x := (row, books, num, td, dn, gs)) ho]; exact ⟨rfl, rfl⟩)
          · exact absurd c44_4 (by decide)
        · skip
          try dsimp only at c28_3
          refine v_iload_n C dX3_readsOrder_31 0 rfl ?_
          refine v_bipush (v := 100) C dX3_readsOrder_32 (by decide) ?_
          refine v_icmp_ne C 41 dX3_readsOrder_34 (by decide) (fun c34_16 => ?_) (fun c34_16 => ?_)
          · skip
            try dsimp only at c34_16
            refine v_iconst (v := 0) C dX3_readsOrder_41 (by decide) ?_
            refine v_istore_n (lv' := [(3, _), (2, _), (0, _), (1, _)]) C dX3_readsOrder_42 rfl (by decide) rfl ?_
            have hm : mny (hv t ln (sk t ln k)) = 0 := by unfold mny; rw [if_neg c8_1, if_neg c18_2, if_neg c28_3, if_neg c34_16]
            refine v_iload_n C dX3_readsOrder_43 0 rfl ?_
            refine v_if_ne C 49 dX3_readsOrder_44 (by decide) (fun c44_17 => ?_) (fun c44_17 => ?_)
            · exact absurd (by decide) c44_17
            · skip
              try dsimp only at c44_17
              refine v_iconst (v := 0) C dX3_readsOrder_47 (by decide) ?_
              exact v_zret C rfl dX3_readsOrder_48 (Nat.le_of_ble_eq_true rfl) (Nat.le_of_ble_eq_true rfl) (by have ho : ro t ln k num td = (false, sk t ln k, num, td) := (by unfold ro; rw [if_pos hm]); rw [ordX_f (x := (row, books, num, td, dn, gs)) ho]; exact ⟨rfl, rfl⟩)
          · skip
            try dsimp only at c34_16
            refine v_iconst (v := 2) C dX3_readsOrder_37 (by decide) ?_
            refine v_goto C 42 dX3_readsOrder_38 (by decide) ?_
            refine v_istore_n (lv' := [(3, _), (2, _), (0, _), (1, _)]) C dX3_readsOrder_42 rfl (by decide) rfl ?_
            have hm : mny (hv t ln (sk t ln k)) = 2 := by unfold mny; rw [if_neg c8_1, if_neg c18_2, if_neg c28_3, if_pos c34_16]
            have hlt : (sk t ln k) < ln := hv_lt c34_16 (by decide)
            refine v_iload_n C dX3_readsOrder_43 0 rfl ?_
            refine v_if_ne C 49 dX3_readsOrder_44 (by decide) (fun c44_18 => ?_) (fun c44_18 => ?_)
            · skip
              try dsimp only at c44_18
              refine v_aload_n C dX3_readsOrder_49 2 rfl ?_
              refine v_dup C dX3_readsOrder_50 rfl ?_
              refine v_get C in_X3 rfl 0 rfl 9 (by decide) q1175 (fun _ h => h) rfl dX3_readsOrder_51 ?_
              refine v_eqi (show _ = (nI (sk t ln k)) from rfl) ?_
              refine v_iconst (v := 1) C dX3_readsOrder_54 (by decide) ?_
              refine v_iadd C dX3_readsOrder_55 ?_
              refine v_eqi (nI_add ((sk t ln k)) 1) ?_
              refine v_put (ws' := mw g a _ _ _ _ _ ((nI (((sk t ln k)) + 1)), num, td, dn, gs) _) C in_X3 tyX3 tyX3_ok nmX3 rfl 0 rfl 9 (by decide) q1175 (fun _ h => h) rfl rfl rfl (Nat.le_of_ble_eq_true rfl) dX3_readsOrder_56 rfl ?_
              refine v_iconst (v := 0) C dX3_readsOrder_59 (by decide) ?_
              refine v_istore (lv' := [(4, _), (3, _), (2, _), (0, _), (1, _)]) C dX3_readsOrder_60 (by decide) rfl ?_
              refine v_lvp (lv' := [(4, _), (3, _), (2, _), (1, _), (0, _)]) [0, 1, 2, 4, 3] rfl ?_
              refine v_while (α := Nat × Nat × Nat × Int32 × (Nat → Int32)) (fun x => x.1) (fun x => x.1 + x.2.1 = 2 ∧ x.2.2.1 ≤ ln ∧ roL t ln 2 0 ((sk t ln k) + 1) num td = roL t ln x.1 x.2.1 x.2.2.1 x.2.2.2.1 x.2.2.2.2) (fun x => [(4, .int (nI x.2.1)), (3, .int 2), (2, .int (hv t ln (sk t ln k))), (1, .int (bB true)), (0, .ref (a 0))]) (fun x => mw g a row books S B (t, nI ln) (nI x.2.2.1, x.2.2.2.1, x.2.2.2.2, dn, gs) h) (2, 0, (sk t ln k) + 1, num, td) rfl rfl ⟨rfl, hlt, rfl⟩ ?_
              rintro ⟨f, i, q, nm, tt⟩ ⟨h1, hq, hfin⟩ ih
              dsimp only at h1 hq hfin ih ⊢
              refine v_iload C dX3_readsOrder_62 0 rfl ?_
              refine v_iload_n C dX3_readsOrder_64 1 rfl ?_
              refine v_icmp_ge C 129 dX3_readsOrder_65 (by decide) (fun c65_19 => ?_) (fun c65_19 => ?_)
              · skip
                try dsimp only at c65_19
                have hge : 2 ≤ i := (nI_leI (a := 2) (b := i) (by decide) (by omega)).mp c65_19
                refine v_iload_n C dX3_readsOrder_129 3 rfl ?_
                refine v_if_eq C 170 dX3_readsOrder_130 (by decide) (fun c130_20 => ?_) (fun c130_20 => ?_)
                · exact absurd c130_20 (by decide)
                · skip
                  try dsimp only at c130_20
                  refine v_aload_n C dX3_readsOrder_133 4 rfl ?_
                  refine v_get C in_X3 rfl 0 rfl 13 (by decide) q1179 (fun _ h => h) rfl dX3_readsOrder_134 ?_
                  refine v_eqi (show _ = gs from rfl) ?_
                  refine v_if_eq C 170 dX3_readsOrder_137 (by decide) (fun c137_21 => ?_) (fun c137_21 => ?_)
                  · skip
                    try dsimp only at c137_21
                    refine v_iconst (v := 1) C dX3_readsOrder_170 (by decide) ?_
                    exact v_zret C rfl dX3_readsOrder_171 (Nat.le_of_ble_eq_true rfl) (Nat.le_of_ble_eq_true rfl) (by have ho : ro t ln k num td = (true, q, nm, tt) := (by unfold ro; rw [if_neg (by rw [hm]; decide), hm, hfin, show f = 0 by omega, roL]); rw [ordX_1 (x := (row, books, num, td, dn, gs)) ho c137_21]; exact ⟨rfl, rfl⟩)
                  · skip
                    try dsimp only at c137_21
                    refine v_aload_n C dX3_readsOrder_140 4 rfl ?_
                    refine v_aload_n C dX3_readsOrder_141 4 rfl ?_
                    refine v_iload_n C dX3_readsOrder_142 2 rfl ?_
                    refine v_callVw C (m_carries l g a _ _ _ _ _ _ _ nb nl hnb hb8 hnl hl3 hsp _) ok_X3_carries rfl q1535 rfl (Nat.le_of_ble_eq_true rfl) 0 rfl rfl rfl dX3_readsOrder_143 (roomL rfl rfl) ⟨rfl, rfl⟩ ?_
                    refine v_topi (fun z22 ez22 => ?_)
                    refine v_put (ws' := mw g a _ _ _ _ _ ((nI q), nm, tt, dn, z22) _) C in_X3 tyX3 tyX3_ok nmX3 rfl 0 rfl 13 (by decide) q1179 (fun _ h => h) rfl (z01_nar (by rw [ez22]; exact carr_01 _ _ _ _ _)) (z01_fit (by rw [ez22]; exact carr_01 _ _ _ _ _)) (Nat.le_of_ble_eq_true rfl) dX3_readsOrder_146 rfl ?_
                    refine v_aload_n C dX3_readsOrder_149 4 rfl ?_
                    refine v_dup C dX3_readsOrder_150 rfl ?_
                    refine v_get C in_X3 rfl 0 rfl 12 (by decide) q1178 (fun _ h => h) rfl dX3_readsOrder_151 ?_
                    refine v_eqi (show _ = dn from rfl) ?_
                    refine v_aload_n C dX3_readsOrder_154 4 rfl ?_
                    refine v_get C in_X3 rfl 0 rfl 13 (by decide) q1179 (fun _ h => h) rfl dX3_readsOrder_155 ?_
                    refine v_eqi (show _ = z22 from rfl) ?_
                    refine v_ternI C 165 166 dX3_readsOrder_161 dX3_readsOrder_162 dX3_readsOrder_165 (by decide) rfl (fun ht hf => v_if_eq C 165 dX3_readsOrder_158 (by decide) (fun q => ht (fun n => n q)) (fun q => hf q)) ?_
                    refine v_iadd C dX3_readsOrder_166 ?_
                    refine v_topi (fun z23 ez23 => ?_)
                    refine v_put (ws' := mw g a _ _ _ _ _ ((nI q), nm, tt, z23, z22) _) C in_X3 tyX3 tyX3_ok nmX3 rfl 0 rfl 12 (by decide) q1178 (fun _ h => h) rfl rfl rfl (Nat.le_of_ble_eq_true rfl) dX3_readsOrder_167 rfl ?_
                    refine v_iconst (v := 1) C dX3_readsOrder_170 (by decide) ?_
                    exact v_zret C rfl dX3_readsOrder_171 (Nat.le_of_ble_eq_true rfl) (Nat.le_of_ble_eq_true rfl) (by have ho : ro t ln k num td = (true, q, nm, tt) := (by unfold ro; rw [if_neg (by rw [hm]; decide), hm, hfin, show f = 0 by omega, roL]); subst ez23; subst ez22; rw [ordX_2 (x := (row, books, num, td, dn, gs)) ho c137_21]; exact ⟨rfl, rfl⟩)
              · skip
                try dsimp only at c65_19
                have hil : i < 2 := Nat.lt_of_not_le (fun z => c65_19 ((nI_leI (a := 2) (b := i) (by decide) (by omega)).mpr z))
                obtain ⟨f, rfl⟩ : ∃ y, f = y + 1 := ⟨f - 1, by omega⟩
                refine v_iload C dX3_readsOrder_68 0 rfl ?_
                refine v_if_le C 84 dX3_readsOrder_70 (by decide) (fun c70_24 => ?_) (fun c70_24 => ?_)
                · skip
                  try dsimp only at c70_24
                  have hi0 : i = 0 := Nat.le_zero.mp ((nI_leI (b := 0) (by omega) (by decide)).mp c70_24)
                  refine v_aload_n C dX3_readsOrder_84 4 rfl ?_
                  refine v_dup C dX3_readsOrder_85 rfl ?_
                  refine v_get C in_X3 rfl 0 rfl 9 (by decide) q1175 (fun _ h => h) rfl dX3_readsOrder_86 ?_
                  refine v_eqi (show _ = (nI q) from rfl) ?_
                  refine v_iload C dX3_readsOrder_89 0 rfl ?_
                  refine v_if_le C 98 dX3_readsOrder_91 (by decide) (fun c91_25 => ?_) (fun c91_25 => ?_)
                  · skip
                    try dsimp only at c91_25
                    refine v_iconst (v := 0) C dX3_readsOrder_98 (by decide) ?_
                    refine v_iadd C dX3_readsOrder_99 ?_
                    refine v_eqi (show _ = nI q from nI_add q 0) ?_
                    refine v_put (ws' := mw g a _ _ _ _ _ ((nI q), nm, tt, dn, gs) _) C in_X3 tyX3 tyX3_ok nmX3 rfl 0 rfl 9 (by decide) q1175 (fun _ h => h) rfl rfl rfl (Nat.le_of_ble_eq_true rfl) dX3_readsOrder_100 rfl ?_
                    refine v_aload_n C dX3_readsOrder_103 4 rfl ?_
                    refine v_callVw C (m_reads l g a _ _ _ _ _ _ _ ln q rfl rfl h120 (by omega) hch) ok_X3_reads rfl q1531 rfl (Nat.le_of_ble_eq_true rfl) 0 rfl rfl rfl dX3_readsOrder_104 (roomL rfl rfl) ⟨rfl, rfl⟩ ?_
                    obtain ⟨hd1, hd2⟩ := dgs_le t ln 5 (sk t ln q) 0 (sk_le (t := t) (show q ≤ ln by omega)).2
                    refine v_if_neB C 112 dX3_readsOrder_107 (by decide) (fun c107_26 => ?_) (fun c107_26 => ?_)
                    · skip
                      try dsimp only at c107_26
                      refine v_aload_n C dX3_readsOrder_112 4 rfl ?_
                      refine v_get C in_X3 rfl 0 rfl 11 (by decide) q1177 (fun _ h => h) rfl dX3_readsOrder_113 ?_
                      refine v_iload C dX3_readsOrder_116 0 rfl ?_
                      refine v_aload_n C dX3_readsOrder_118 4 rfl ?_
                      refine v_get C in_X3 rfl 0 rfl 10 (by decide) q1176 (fun _ h => h) rfl dX3_readsOrder_119 ?_
                      refine v_eqi (show _ = (dgs t ln 5 (sk t ln q) 0).2 from rfl) ?_
                      refine v_iast (ws' := mw g a _ _ _ _ _ ((nI (dgs t ln 5 (sk t ln q) 0).1), (dgs t ln 5 (sk t ln q) 0).2, (upd tt _ _), dn, gs) _) C dX3_readsOrder_122 7 rfl (ixn (by omega) (by decide)) rfl ?_
                      refine v_iinc (lv' := [(4, _), (3, _), (2, _), (1, _), (0, _)]) C dX3_readsOrder_123 0 rfl (nI_1 i) (by decide) rfl ?_
                      refine v_goto C 62 dX3_readsOrder_126 (by decide) ?_
                      exact ih (f, i + 1, (dgs t ln 5 (sk t ln q) 0).1, (dgs t ln 5 (sk t ln q) 0).2, upd tt i (dgs t ln 5 (sk t ln q) 0).2) ⟨by dsimp only; omega, hd2, by dsimp only; rw [hfin, roL, if_pos hi0, if_pos c107_26]⟩ (by dsimp only; omega)
                    · skip
                      try dsimp only at c107_26
                      refine v_iconst (v := 0) C dX3_readsOrder_110 (by decide) ?_
                      exact v_zret C rfl dX3_readsOrder_111 (Nat.le_of_ble_eq_true rfl) (Nat.le_of_ble_eq_true rfl) (by have ho : ro t ln k num td = (false, (dgs t ln 5 (sk t ln q) 0).1, (dgs t ln 5 (sk t ln q) 0).2, tt) := (by unfold ro; rw [if_neg (by rw [hm]; decide), hm, hfin, roL, if_pos hi0, if_neg c107_26]); rw [ordX_f (x := (row, books, num, td, dn, gs)) ho]; exact ⟨rfl, rfl⟩)
                  · exact absurd c70_24 c91_25
                · skip
                  try dsimp only at c70_24
                  have hi0 : ¬ i = 0 := fun z => c70_24 (by rw [z]; exact Int32.le_refl _)
                  refine v_aload_n C dX3_readsOrder_73 4 rfl ?_
                  refine v_callVw C (m_here l g a _ _ _ _ _ _ _ ln q rfl rfl h120 (by omega)) ok_X3_here rfl q1527 rfl (Nat.le_of_ble_eq_true rfl) 0 rfl rfl rfl dX3_readsOrder_74 (roomL rfl rfl) ⟨rfl, rfl⟩ ?_
                  obtain ⟨hq1, hq2⟩ := sk_le (t := t) hq
                  refine v_bipush (v := 44) C dX3_readsOrder_77 (by decide) ?_
                  refine v_icmp_eq C 84 dX3_readsOrder_79 (by decide) (fun c79_27 => ?_) (fun c79_27 => ?_)
                  · skip
                    try dsimp only at c79_27
                    have hlq := hv_lt c79_27 (by decide)
                    refine v_aload_n C dX3_readsOrder_84 4 rfl ?_
                    refine v_dup C dX3_readsOrder_85 rfl ?_
                    refine v_get C in_X3 rfl 0 rfl 9 (by decide) q1175 (fun _ h => h) rfl dX3_readsOrder_86 ?_
                    refine v_eqi (show _ = (nI (sk t ln q)) from rfl) ?_
                    refine v_iload C dX3_readsOrder_89 0 rfl ?_
                    refine v_if_le C 98 dX3_readsOrder_91 (by decide) (fun c91_28 => ?_) (fun c91_28 => ?_)
                    · exact absurd c91_28 c70_24
                    · skip
                      try dsimp only at c91_28
                      refine v_iconst (v := 1) C dX3_readsOrder_94 (by decide) ?_
                      refine v_goto C 99 dX3_readsOrder_95 (by decide) ?_
                      refine v_iadd C dX3_readsOrder_99 ?_
                      refine v_eqi (nI_add ((sk t ln q)) 1) ?_
                      refine v_put (ws' := mw g a _ _ _ _ _ ((nI (((sk t ln q)) + 1)), nm, tt, dn, gs) _) C in_X3 tyX3 tyX3_ok nmX3 rfl 0 rfl 9 (by decide) q1175 (fun _ h => h) rfl rfl rfl (Nat.le_of_ble_eq_true rfl) dX3_readsOrder_100 rfl ?_
                      refine v_aload_n C dX3_readsOrder_103 4 rfl ?_
                      refine v_callVw C (m_reads l g a _ _ _ _ _ _ _ ln ((((sk t ln q)) + 1)) rfl rfl h120 (by omega) hch) ok_X3_reads rfl q1531 rfl (Nat.le_of_ble_eq_true rfl) 0 rfl rfl rfl dX3_readsOrder_104 (roomL rfl rfl) ⟨rfl, rfl⟩ ?_
                      obtain ⟨hd1, hd2⟩ := dgs_le t ln 5 (sk t ln ((((sk t ln q)) + 1))) 0 (sk_le (t := t) (show (((sk t ln q)) + 1) ≤ ln by omega)).2
                      refine v_if_neB C 112 dX3_readsOrder_107 (by decide) (fun c107_29 => ?_) (fun c107_29 => ?_)
                      · skip
                        try dsimp only at c107_29
                        refine v_aload_n C dX3_readsOrder_112 4 rfl ?_
                        refine v_get C in_X3 rfl 0 rfl 11 (by decide) q1177 (fun _ h => h) rfl dX3_readsOrder_113 ?_
                        refine v_iload C dX3_readsOrder_116 0 rfl ?_
                        refine v_aload_n C dX3_readsOrder_118 4 rfl ?_
                        refine v_get C in_X3 rfl 0 rfl 10 (by decide) q1176 (fun _ h => h) rfl dX3_readsOrder_119 ?_
                        refine v_eqi (show _ = (dgs t ln 5 (sk t ln ((((sk t ln q)) + 1))) 0).2 from rfl) ?_
                        refine v_iast (ws' := mw g a _ _ _ _ _ ((nI (dgs t ln 5 (sk t ln ((((sk t ln q)) + 1))) 0).1), (dgs t ln 5 (sk t ln ((((sk t ln q)) + 1))) 0).2, (upd tt _ _), dn, gs) _) C dX3_readsOrder_122 7 rfl (ixn (by omega) (by decide)) rfl ?_
                        refine v_iinc (lv' := [(4, _), (3, _), (2, _), (1, _), (0, _)]) C dX3_readsOrder_123 0 rfl (nI_1 i) (by decide) rfl ?_
                        refine v_goto C 62 dX3_readsOrder_126 (by decide) ?_
                        exact ih (f, i + 1, (dgs t ln 5 (sk t ln ((((sk t ln q)) + 1))) 0).1, (dgs t ln 5 (sk t ln ((((sk t ln q)) + 1))) 0).2, upd tt i (dgs t ln 5 (sk t ln ((((sk t ln q)) + 1))) 0).2) ⟨by dsimp only; omega, hd2, by dsimp only; rw [hfin, roL, if_neg hi0, if_pos c79_27, if_pos c107_29]⟩ (by dsimp only; omega)
                      · skip
                        try dsimp only at c107_29
                        refine v_iconst (v := 0) C dX3_readsOrder_110 (by decide) ?_
                        exact v_zret C rfl dX3_readsOrder_111 (Nat.le_of_ble_eq_true rfl) (Nat.le_of_ble_eq_true rfl) (by have ho : ro t ln k num td = (false, (dgs t ln 5 (sk t ln ((((sk t ln q)) + 1))) 0).1, (dgs t ln 5 (sk t ln ((((sk t ln q)) + 1))) 0).2, tt) := (by unfold ro; rw [if_neg (by rw [hm]; decide), hm, hfin, roL, if_neg hi0, if_pos c79_27, if_neg c107_29]); rw [ordX_f (x := (row, books, num, td, dn, gs)) ho]; exact ⟨rfl, rfl⟩)
                  · skip
                    try dsimp only at c79_27
                    refine v_iconst (v := 0) C dX3_readsOrder_82 (by decide) ?_
                    exact v_zret C rfl dX3_readsOrder_83 (Nat.le_of_ble_eq_true rfl) (Nat.le_of_ble_eq_true rfl) (by have ho : ro t ln k num td = (false, sk t ln q, nm, tt) := (by unfold ro; rw [if_neg (by rw [hm]; decide), hm, hfin, roL, if_neg hi0, if_neg c79_27]); rw [ordX_f (x := (row, books, num, td, dn, gs)) ho]; exact ⟨rfl, rfl⟩)
            · exact absurd c44_18 (by decide)
      · skip
        try dsimp only at c18_2
        refine v_iconst (v := 4) C dX3_readsOrder_21 (by decide) ?_
        refine v_goto C 42 dX3_readsOrder_22 (by decide) ?_
        refine v_istore_n (lv' := [(3, _), (2, _), (0, _), (1, _)]) C dX3_readsOrder_42 rfl (by decide) rfl ?_
        have hm : mny (hv t ln (sk t ln k)) = 4 := by unfold mny; rw [if_neg c8_1, if_pos c18_2]
        have hlt : (sk t ln k) < ln := hv_lt c18_2 (by decide)
        refine v_iload_n C dX3_readsOrder_43 0 rfl ?_
        refine v_if_ne C 49 dX3_readsOrder_44 (by decide) (fun c44_30 => ?_) (fun c44_30 => ?_)
        · skip
          try dsimp only at c44_30
          refine v_aload_n C dX3_readsOrder_49 2 rfl ?_
          refine v_dup C dX3_readsOrder_50 rfl ?_
          refine v_get C in_X3 rfl 0 rfl 9 (by decide) q1175 (fun _ h => h) rfl dX3_readsOrder_51 ?_
          refine v_eqi (show _ = (nI (sk t ln k)) from rfl) ?_
          refine v_iconst (v := 1) C dX3_readsOrder_54 (by decide) ?_
          refine v_iadd C dX3_readsOrder_55 ?_
          refine v_eqi (nI_add ((sk t ln k)) 1) ?_
          refine v_put (ws' := mw g a _ _ _ _ _ ((nI (((sk t ln k)) + 1)), num, td, dn, gs) _) C in_X3 tyX3 tyX3_ok nmX3 rfl 0 rfl 9 (by decide) q1175 (fun _ h => h) rfl rfl rfl (Nat.le_of_ble_eq_true rfl) dX3_readsOrder_56 rfl ?_
          refine v_iconst (v := 0) C dX3_readsOrder_59 (by decide) ?_
          refine v_istore (lv' := [(4, _), (3, _), (2, _), (0, _), (1, _)]) C dX3_readsOrder_60 (by decide) rfl ?_
          refine v_lvp (lv' := [(4, _), (3, _), (2, _), (1, _), (0, _)]) [0, 1, 2, 4, 3] rfl ?_
          refine v_while (α := Nat × Nat × Nat × Int32 × (Nat → Int32)) (fun x => x.1) (fun x => x.1 + x.2.1 = 4 ∧ x.2.2.1 ≤ ln ∧ roL t ln 4 0 ((sk t ln k) + 1) num td = roL t ln x.1 x.2.1 x.2.2.1 x.2.2.2.1 x.2.2.2.2) (fun x => [(4, .int (nI x.2.1)), (3, .int 4), (2, .int (hv t ln (sk t ln k))), (1, .int (bB true)), (0, .ref (a 0))]) (fun x => mw g a row books S B (t, nI ln) (nI x.2.2.1, x.2.2.2.1, x.2.2.2.2, dn, gs) h) (4, 0, (sk t ln k) + 1, num, td) rfl rfl ⟨rfl, hlt, rfl⟩ ?_
          rintro ⟨f, i, q, nm, tt⟩ ⟨h1, hq, hfin⟩ ih
          dsimp only at h1 hq hfin ih ⊢
          refine v_iload C dX3_readsOrder_62 0 rfl ?_
          refine v_iload_n C dX3_readsOrder_64 1 rfl ?_
          refine v_icmp_ge C 129 dX3_readsOrder_65 (by decide) (fun c65_31 => ?_) (fun c65_31 => ?_)
          · skip
            try dsimp only at c65_31
            have hge : 4 ≤ i := (nI_leI (a := 4) (b := i) (by decide) (by omega)).mp c65_31
            refine v_iload_n C dX3_readsOrder_129 3 rfl ?_
            refine v_if_eq C 170 dX3_readsOrder_130 (by decide) (fun c130_32 => ?_) (fun c130_32 => ?_)
            · exact absurd c130_32 (by decide)
            · skip
              try dsimp only at c130_32
              refine v_aload_n C dX3_readsOrder_133 4 rfl ?_
              refine v_get C in_X3 rfl 0 rfl 13 (by decide) q1179 (fun _ h => h) rfl dX3_readsOrder_134 ?_
              refine v_eqi (show _ = gs from rfl) ?_
              refine v_if_eq C 170 dX3_readsOrder_137 (by decide) (fun c137_33 => ?_) (fun c137_33 => ?_)
              · skip
                try dsimp only at c137_33
                refine v_iconst (v := 1) C dX3_readsOrder_170 (by decide) ?_
                exact v_zret C rfl dX3_readsOrder_171 (Nat.le_of_ble_eq_true rfl) (Nat.le_of_ble_eq_true rfl) (by have ho : ro t ln k num td = (true, q, nm, tt) := (by unfold ro; rw [if_neg (by rw [hm]; decide), hm, hfin, show f = 0 by omega, roL]); rw [ordX_1 (x := (row, books, num, td, dn, gs)) ho c137_33]; exact ⟨rfl, rfl⟩)
              · skip
                try dsimp only at c137_33
                refine v_aload_n C dX3_readsOrder_140 4 rfl ?_
                refine v_aload_n C dX3_readsOrder_141 4 rfl ?_
                refine v_iload_n C dX3_readsOrder_142 2 rfl ?_
                refine v_callVw C (m_carries l g a _ _ _ _ _ _ _ nb nl hnb hb8 hnl hl3 hsp _) ok_X3_carries rfl q1535 rfl (Nat.le_of_ble_eq_true rfl) 0 rfl rfl rfl dX3_readsOrder_143 (roomL rfl rfl) ⟨rfl, rfl⟩ ?_
                refine v_topi (fun z34 ez34 => ?_)
                refine v_put (ws' := mw g a _ _ _ _ _ ((nI q), nm, tt, dn, z34) _) C in_X3 tyX3 tyX3_ok nmX3 rfl 0 rfl 13 (by decide) q1179 (fun _ h => h) rfl (z01_nar (by rw [ez34]; exact carr_01 _ _ _ _ _)) (z01_fit (by rw [ez34]; exact carr_01 _ _ _ _ _)) (Nat.le_of_ble_eq_true rfl) dX3_readsOrder_146 rfl ?_
                refine v_aload_n C dX3_readsOrder_149 4 rfl ?_
                refine v_dup C dX3_readsOrder_150 rfl ?_
                refine v_get C in_X3 rfl 0 rfl 12 (by decide) q1178 (fun _ h => h) rfl dX3_readsOrder_151 ?_
                refine v_eqi (show _ = dn from rfl) ?_
                refine v_aload_n C dX3_readsOrder_154 4 rfl ?_
                refine v_get C in_X3 rfl 0 rfl 13 (by decide) q1179 (fun _ h => h) rfl dX3_readsOrder_155 ?_
                refine v_eqi (show _ = z34 from rfl) ?_
                refine v_ternI C 165 166 dX3_readsOrder_161 dX3_readsOrder_162 dX3_readsOrder_165 (by decide) rfl (fun ht hf => v_if_eq C 165 dX3_readsOrder_158 (by decide) (fun q => ht (fun n => n q)) (fun q => hf q)) ?_
                refine v_iadd C dX3_readsOrder_166 ?_
                refine v_topi (fun z35 ez35 => ?_)
                refine v_put (ws' := mw g a _ _ _ _ _ ((nI q), nm, tt, z35, z34) _) C in_X3 tyX3 tyX3_ok nmX3 rfl 0 rfl 12 (by decide) q1178 (fun _ h => h) rfl rfl rfl (Nat.le_of_ble_eq_true rfl) dX3_readsOrder_167 rfl ?_
                refine v_iconst (v := 1) C dX3_readsOrder_170 (by decide) ?_
                exact v_zret C rfl dX3_readsOrder_171 (Nat.le_of_ble_eq_true rfl) (Nat.le_of_ble_eq_true rfl) (by have ho : ro t ln k num td = (true, q, nm, tt) := (by unfold ro; rw [if_neg (by rw [hm]; decide), hm, hfin, show f = 0 by omega, roL]); subst ez35; subst ez34; rw [ordX_2 (x := (row, books, num, td, dn, gs)) ho c137_33]; exact ⟨rfl, rfl⟩)
          · skip
            try dsimp only at c65_31
            have hil : i < 4 := Nat.lt_of_not_le (fun z => c65_31 ((nI_leI (a := 4) (b := i) (by decide) (by omega)).mpr z))
            obtain ⟨f, rfl⟩ : ∃ y, f = y + 1 := ⟨f - 1, by omega⟩
            refine v_iload C dX3_readsOrder_68 0 rfl ?_
            refine v_if_le C 84 dX3_readsOrder_70 (by decide) (fun c70_36 => ?_) (fun c70_36 => ?_)
            · skip
              try dsimp only at c70_36
              have hi0 : i = 0 := Nat.le_zero.mp ((nI_leI (b := 0) (by omega) (by decide)).mp c70_36)
              refine v_aload_n C dX3_readsOrder_84 4 rfl ?_
              refine v_dup C dX3_readsOrder_85 rfl ?_
              refine v_get C in_X3 rfl 0 rfl 9 (by decide) q1175 (fun _ h => h) rfl dX3_readsOrder_86 ?_
              refine v_eqi (show _ = (nI q) from rfl) ?_
              refine v_iload C dX3_readsOrder_89 0 rfl ?_
              refine v_if_le C 98 dX3_readsOrder_91 (by decide) (fun c91_37 => ?_) (fun c91_37 => ?_)
              · skip
                try dsimp only at c91_37
                refine v_iconst (v := 0) C dX3_readsOrder_98 (by decide) ?_
                refine v_iadd C dX3_readsOrder_99 ?_
                refine v_eqi (show _ = nI q from nI_add q 0) ?_
                refine v_put (ws' := mw g a _ _ _ _ _ ((nI q), nm, tt, dn, gs) _) C in_X3 tyX3 tyX3_ok nmX3 rfl 0 rfl 9 (by decide) q1175 (fun _ h => h) rfl rfl rfl (Nat.le_of_ble_eq_true rfl) dX3_readsOrder_100 rfl ?_
                refine v_aload_n C dX3_readsOrder_103 4 rfl ?_
                refine v_callVw C (m_reads l g a _ _ _ _ _ _ _ ln q rfl rfl h120 (by omega) hch) ok_X3_reads rfl q1531 rfl (Nat.le_of_ble_eq_true rfl) 0 rfl rfl rfl dX3_readsOrder_104 (roomL rfl rfl) ⟨rfl, rfl⟩ ?_
                obtain ⟨hd1, hd2⟩ := dgs_le t ln 5 (sk t ln q) 0 (sk_le (t := t) (show q ≤ ln by omega)).2
                refine v_if_neB C 112 dX3_readsOrder_107 (by decide) (fun c107_38 => ?_) (fun c107_38 => ?_)
                · skip
                  try dsimp only at c107_38
                  refine v_aload_n C dX3_readsOrder_112 4 rfl ?_
                  refine v_get C in_X3 rfl 0 rfl 11 (by decide) q1177 (fun _ h => h) rfl dX3_readsOrder_113 ?_
                  refine v_iload C dX3_readsOrder_116 0 rfl ?_
                  refine v_aload_n C dX3_readsOrder_118 4 rfl ?_
                  refine v_get C in_X3 rfl 0 rfl 10 (by decide) q1176 (fun _ h => h) rfl dX3_readsOrder_119 ?_
                  refine v_eqi (show _ = (dgs t ln 5 (sk t ln q) 0).2 from rfl) ?_
                  refine v_iast (ws' := mw g a _ _ _ _ _ ((nI (dgs t ln 5 (sk t ln q) 0).1), (dgs t ln 5 (sk t ln q) 0).2, (upd tt _ _), dn, gs) _) C dX3_readsOrder_122 7 rfl (ixn (by omega) (by decide)) rfl ?_
                  refine v_iinc (lv' := [(4, _), (3, _), (2, _), (1, _), (0, _)]) C dX3_readsOrder_123 0 rfl (nI_1 i) (by decide) rfl ?_
                  refine v_goto C 62 dX3_readsOrder_126 (by decide) ?_
                  exact ih (f, i + 1, (dgs t ln 5 (sk t ln q) 0).1, (dgs t ln 5 (sk t ln q) 0).2, upd tt i (dgs t ln 5 (sk t ln q) 0).2) ⟨by dsimp only; omega, hd2, by dsimp only; rw [hfin, roL, if_pos hi0, if_pos c107_38]⟩ (by dsimp only; omega)
                · skip
                  try dsimp only at c107_38
                  refine v_iconst (v := 0) C dX3_readsOrder_110 (by decide) ?_
                  exact v_zret C rfl dX3_readsOrder_111 (Nat.le_of_ble_eq_true rfl) (Nat.le_of_ble_eq_true rfl) (by have ho : ro t ln k num td = (false, (dgs t ln 5 (sk t ln q) 0).1, (dgs t ln 5 (sk t ln q) 0).2, tt) := (by unfold ro; rw [if_neg (by rw [hm]; decide), hm, hfin, roL, if_pos hi0, if_neg c107_38]); rw [ordX_f (x := (row, books, num, td, dn, gs)) ho]; exact ⟨rfl, rfl⟩)
              · exact absurd c70_36 c91_37
            · skip
              try dsimp only at c70_36
              have hi0 : ¬ i = 0 := fun z => c70_36 (by rw [z]; exact Int32.le_refl _)
              refine v_aload_n C dX3_readsOrder_73 4 rfl ?_
              refine v_callVw C (m_here l g a _ _ _ _ _ _ _ ln q rfl rfl h120 (by omega)) ok_X3_here rfl q1527 rfl (Nat.le_of_ble_eq_true rfl) 0 rfl rfl rfl dX3_readsOrder_74 (roomL rfl rfl) ⟨rfl, rfl⟩ ?_
              obtain ⟨hq1, hq2⟩ := sk_le (t := t) hq
              refine v_bipush (v := 44) C dX3_readsOrder_77 (by decide) ?_
              refine v_icmp_eq C 84 dX3_readsOrder_79 (by decide) (fun c79_39 => ?_) (fun c79_39 => ?_)
              · skip
                try dsimp only at c79_39
                have hlq := hv_lt c79_39 (by decide)
                refine v_aload_n C dX3_readsOrder_84 4 rfl ?_
                refine v_dup C dX3_readsOrder_85 rfl ?_
                refine v_get C in_X3 rfl 0 rfl 9 (by decide) q1175 (fun _ h => h) rfl dX3_readsOrder_86 ?_
                refine v_eqi (show _ = (nI (sk t ln q)) from rfl) ?_
                refine v_iload C dX3_readsOrder_89 0 rfl ?_
                refine v_if_le C 98 dX3_readsOrder_91 (by decide) (fun c91_40 => ?_) (fun c91_40 => ?_)
                · exact absurd c91_40 c70_36
                · skip
                  try dsimp only at c91_40
                  refine v_iconst (v := 1) C dX3_readsOrder_94 (by decide) ?_
                  refine v_goto C 99 dX3_readsOrder_95 (by decide) ?_
                  refine v_iadd C dX3_readsOrder_99 ?_
                  refine v_eqi (nI_add ((sk t ln q)) 1) ?_
                  refine v_put (ws' := mw g a _ _ _ _ _ ((nI (((sk t ln q)) + 1)), nm, tt, dn, gs) _) C in_X3 tyX3 tyX3_ok nmX3 rfl 0 rfl 9 (by decide) q1175 (fun _ h => h) rfl rfl rfl (Nat.le_of_ble_eq_true rfl) dX3_readsOrder_100 rfl ?_
                  refine v_aload_n C dX3_readsOrder_103 4 rfl ?_
                  refine v_callVw C (m_reads l g a _ _ _ _ _ _ _ ln ((((sk t ln q)) + 1)) rfl rfl h120 (by omega) hch) ok_X3_reads rfl q1531 rfl (Nat.le_of_ble_eq_true rfl) 0 rfl rfl rfl dX3_readsOrder_104 (roomL rfl rfl) ⟨rfl, rfl⟩ ?_
                  obtain ⟨hd1, hd2⟩ := dgs_le t ln 5 (sk t ln ((((sk t ln q)) + 1))) 0 (sk_le (t := t) (show (((sk t ln q)) + 1) ≤ ln by omega)).2
                  refine v_if_neB C 112 dX3_readsOrder_107 (by decide) (fun c107_41 => ?_) (fun c107_41 => ?_)
                  · skip
                    try dsimp only at c107_41
                    refine v_aload_n C dX3_readsOrder_112 4 rfl ?_
                    refine v_get C in_X3 rfl 0 rfl 11 (by decide) q1177 (fun _ h => h) rfl dX3_readsOrder_113 ?_
                    refine v_iload C dX3_readsOrder_116 0 rfl ?_
                    refine v_aload_n C dX3_readsOrder_118 4 rfl ?_
                    refine v_get C in_X3 rfl 0 rfl 10 (by decide) q1176 (fun _ h => h) rfl dX3_readsOrder_119 ?_
                    refine v_eqi (show _ = (dgs t ln 5 (sk t ln ((((sk t ln q)) + 1))) 0).2 from rfl) ?_
                    refine v_iast (ws' := mw g a _ _ _ _ _ ((nI (dgs t ln 5 (sk t ln ((((sk t ln q)) + 1))) 0).1), (dgs t ln 5 (sk t ln ((((sk t ln q)) + 1))) 0).2, (upd tt _ _), dn, gs) _) C dX3_readsOrder_122 7 rfl (ixn (by omega) (by decide)) rfl ?_
                    refine v_iinc (lv' := [(4, _), (3, _), (2, _), (1, _), (0, _)]) C dX3_readsOrder_123 0 rfl (nI_1 i) (by decide) rfl ?_
                    refine v_goto C 62 dX3_readsOrder_126 (by decide) ?_
                    exact ih (f, i + 1, (dgs t ln 5 (sk t ln ((((sk t ln q)) + 1))) 0).1, (dgs t ln 5 (sk t ln ((((sk t ln q)) + 1))) 0).2, upd tt i (dgs t ln 5 (sk t ln ((((sk t ln q)) + 1))) 0).2) ⟨by dsimp only; omega, hd2, by dsimp only; rw [hfin, roL, if_neg hi0, if_pos c79_39, if_pos c107_41]⟩ (by dsimp only; omega)
                  · skip
                    try dsimp only at c107_41
                    refine v_iconst (v := 0) C dX3_readsOrder_110 (by decide) ?_
                    exact v_zret C rfl dX3_readsOrder_111 (Nat.le_of_ble_eq_true rfl) (Nat.le_of_ble_eq_true rfl) (by have ho : ro t ln k num td = (false, (dgs t ln 5 (sk t ln ((((sk t ln q)) + 1))) 0).1, (dgs t ln 5 (sk t ln ((((sk t ln q)) + 1))) 0).2, tt) := (by unfold ro; rw [if_neg (by rw [hm]; decide), hm, hfin, roL, if_neg hi0, if_pos c79_39, if_neg c107_41]); rw [ordX_f (x := (row, books, num, td, dn, gs)) ho]; exact ⟨rfl, rfl⟩)
              · skip
                try dsimp only at c79_39
                refine v_iconst (v := 0) C dX3_readsOrder_82 (by decide) ?_
                exact v_zret C rfl dX3_readsOrder_83 (Nat.le_of_ble_eq_true rfl) (Nat.le_of_ble_eq_true rfl) (by have ho : ro t ln k num td = (false, sk t ln q, nm, tt) := (by unfold ro; rw [if_neg (by rw [hm]; decide), hm, hfin, roL, if_neg hi0, if_neg c79_39]); rw [ordX_f (x := (row, books, num, td, dn, gs)) ho]; exact ⟨rfl, rfl⟩)
        · exact absurd c44_30 (by decide)
    · skip
      try dsimp only at c8_1
      refine v_iconst (v := 5) C dX3_readsOrder_11 (by decide) ?_
      refine v_goto C 42 dX3_readsOrder_12 (by decide) ?_
      refine v_istore_n (lv' := [(3, _), (2, _), (0, _), (1, _)]) C dX3_readsOrder_42 rfl (by decide) rfl ?_
      have hm : mny (hv t ln (sk t ln k)) = 5 := by unfold mny; rw [if_pos c8_1]
      have hlt : (sk t ln k) < ln := hv_lt c8_1 (by decide)
      refine v_iload_n C dX3_readsOrder_43 0 rfl ?_
      refine v_if_ne C 49 dX3_readsOrder_44 (by decide) (fun c44_42 => ?_) (fun c44_42 => ?_)
      · skip
        try dsimp only at c44_42
        refine v_aload_n C dX3_readsOrder_49 2 rfl ?_
        refine v_dup C dX3_readsOrder_50 rfl ?_
        refine v_get C in_X3 rfl 0 rfl 9 (by decide) q1175 (fun _ h => h) rfl dX3_readsOrder_51 ?_
        refine v_eqi (show _ = (nI (sk t ln k)) from rfl) ?_
        refine v_iconst (v := 1) C dX3_readsOrder_54 (by decide) ?_
        refine v_iadd C dX3_readsOrder_55 ?_
        refine v_eqi (nI_add ((sk t ln k)) 1) ?_
        refine v_put (ws' := mw g a _ _ _ _ _ ((nI (((sk t ln k)) + 1)), num, td, dn, gs) _) C in_X3 tyX3 tyX3_ok nmX3 rfl 0 rfl 9 (by decide) q1175 (fun _ h => h) rfl rfl rfl (Nat.le_of_ble_eq_true rfl) dX3_readsOrder_56 rfl ?_
        refine v_iconst (v := 0) C dX3_readsOrder_59 (by decide) ?_
        refine v_istore (lv' := [(4, _), (3, _), (2, _), (0, _), (1, _)]) C dX3_readsOrder_60 (by decide) rfl ?_
        refine v_lvp (lv' := [(4, _), (3, _), (2, _), (1, _), (0, _)]) [0, 1, 2, 4, 3] rfl ?_
        refine v_while (α := Nat × Nat × Nat × Int32 × (Nat → Int32)) (fun x => x.1) (fun x => x.1 + x.2.1 = 5 ∧ x.2.2.1 ≤ ln ∧ roL t ln 5 0 ((sk t ln k) + 1) num td = roL t ln x.1 x.2.1 x.2.2.1 x.2.2.2.1 x.2.2.2.2) (fun x => [(4, .int (nI x.2.1)), (3, .int 5), (2, .int (hv t ln (sk t ln k))), (1, .int (bB true)), (0, .ref (a 0))]) (fun x => mw g a row books S B (t, nI ln) (nI x.2.2.1, x.2.2.2.1, x.2.2.2.2, dn, gs) h) (5, 0, (sk t ln k) + 1, num, td) rfl rfl ⟨rfl, hlt, rfl⟩ ?_
        rintro ⟨f, i, q, nm, tt⟩ ⟨h1, hq, hfin⟩ ih
        dsimp only at h1 hq hfin ih ⊢
        refine v_iload C dX3_readsOrder_62 0 rfl ?_
        refine v_iload_n C dX3_readsOrder_64 1 rfl ?_
        refine v_icmp_ge C 129 dX3_readsOrder_65 (by decide) (fun c65_43 => ?_) (fun c65_43 => ?_)
        · skip
          try dsimp only at c65_43
          have hge : 5 ≤ i := (nI_leI (a := 5) (b := i) (by decide) (by omega)).mp c65_43
          refine v_iload_n C dX3_readsOrder_129 3 rfl ?_
          refine v_if_eq C 170 dX3_readsOrder_130 (by decide) (fun c130_44 => ?_) (fun c130_44 => ?_)
          · exact absurd c130_44 (by decide)
          · skip
            try dsimp only at c130_44
            refine v_aload_n C dX3_readsOrder_133 4 rfl ?_
            refine v_get C in_X3 rfl 0 rfl 13 (by decide) q1179 (fun _ h => h) rfl dX3_readsOrder_134 ?_
            refine v_eqi (show _ = gs from rfl) ?_
            refine v_if_eq C 170 dX3_readsOrder_137 (by decide) (fun c137_45 => ?_) (fun c137_45 => ?_)
            · skip
              try dsimp only at c137_45
              refine v_iconst (v := 1) C dX3_readsOrder_170 (by decide) ?_
              exact v_zret C rfl dX3_readsOrder_171 (Nat.le_of_ble_eq_true rfl) (Nat.le_of_ble_eq_true rfl) (by have ho : ro t ln k num td = (true, q, nm, tt) := (by unfold ro; rw [if_neg (by rw [hm]; decide), hm, hfin, show f = 0 by omega, roL]); rw [ordX_1 (x := (row, books, num, td, dn, gs)) ho c137_45]; exact ⟨rfl, rfl⟩)
            · skip
              try dsimp only at c137_45
              refine v_aload_n C dX3_readsOrder_140 4 rfl ?_
              refine v_aload_n C dX3_readsOrder_141 4 rfl ?_
              refine v_iload_n C dX3_readsOrder_142 2 rfl ?_
              refine v_callVw C (m_carries l g a _ _ _ _ _ _ _ nb nl hnb hb8 hnl hl3 hsp _) ok_X3_carries rfl q1535 rfl (Nat.le_of_ble_eq_true rfl) 0 rfl rfl rfl dX3_readsOrder_143 (roomL rfl rfl) ⟨rfl, rfl⟩ ?_
              refine v_topi (fun z46 ez46 => ?_)
              refine v_put (ws' := mw g a _ _ _ _ _ ((nI q), nm, tt, dn, z46) _) C in_X3 tyX3 tyX3_ok nmX3 rfl 0 rfl 13 (by decide) q1179 (fun _ h => h) rfl (z01_nar (by rw [ez46]; exact carr_01 _ _ _ _ _)) (z01_fit (by rw [ez46]; exact carr_01 _ _ _ _ _)) (Nat.le_of_ble_eq_true rfl) dX3_readsOrder_146 rfl ?_
              refine v_aload_n C dX3_readsOrder_149 4 rfl ?_
              refine v_dup C dX3_readsOrder_150 rfl ?_
              refine v_get C in_X3 rfl 0 rfl 12 (by decide) q1178 (fun _ h => h) rfl dX3_readsOrder_151 ?_
              refine v_eqi (show _ = dn from rfl) ?_
              refine v_aload_n C dX3_readsOrder_154 4 rfl ?_
              refine v_get C in_X3 rfl 0 rfl 13 (by decide) q1179 (fun _ h => h) rfl dX3_readsOrder_155 ?_
              refine v_eqi (show _ = z46 from rfl) ?_
              refine v_ternI C 165 166 dX3_readsOrder_161 dX3_readsOrder_162 dX3_readsOrder_165 (by decide) rfl (fun ht hf => v_if_eq C 165 dX3_readsOrder_158 (by decide) (fun q => ht (fun n => n q)) (fun q => hf q)) ?_
              refine v_iadd C dX3_readsOrder_166 ?_
              refine v_topi (fun z47 ez47 => ?_)
              refine v_put (ws' := mw g a _ _ _ _ _ ((nI q), nm, tt, z47, z46) _) C in_X3 tyX3 tyX3_ok nmX3 rfl 0 rfl 12 (by decide) q1178 (fun _ h => h) rfl rfl rfl (Nat.le_of_ble_eq_true rfl) dX3_readsOrder_167 rfl ?_
              refine v_iconst (v := 1) C dX3_readsOrder_170 (by decide) ?_
              exact v_zret C rfl dX3_readsOrder_171 (Nat.le_of_ble_eq_true rfl) (Nat.le_of_ble_eq_true rfl) (by have ho : ro t ln k num td = (true, q, nm, tt) := (by unfold ro; rw [if_neg (by rw [hm]; decide), hm, hfin, show f = 0 by omega, roL]); subst ez47; subst ez46; rw [ordX_2 (x := (row, books, num, td, dn, gs)) ho c137_45]; exact ⟨rfl, rfl⟩)
        · skip
          try dsimp only at c65_43
          have hil : i < 5 := Nat.lt_of_not_le (fun z => c65_43 ((nI_leI (a := 5) (b := i) (by decide) (by omega)).mpr z))
          obtain ⟨f, rfl⟩ : ∃ y, f = y + 1 := ⟨f - 1, by omega⟩
          refine v_iload C dX3_readsOrder_68 0 rfl ?_
          refine v_if_le C 84 dX3_readsOrder_70 (by decide) (fun c70_48 => ?_) (fun c70_48 => ?_)
          · skip
            try dsimp only at c70_48
            have hi0 : i = 0 := Nat.le_zero.mp ((nI_leI (b := 0) (by omega) (by decide)).mp c70_48)
            refine v_aload_n C dX3_readsOrder_84 4 rfl ?_
            refine v_dup C dX3_readsOrder_85 rfl ?_
            refine v_get C in_X3 rfl 0 rfl 9 (by decide) q1175 (fun _ h => h) rfl dX3_readsOrder_86 ?_
            refine v_eqi (show _ = (nI q) from rfl) ?_
            refine v_iload C dX3_readsOrder_89 0 rfl ?_
            refine v_if_le C 98 dX3_readsOrder_91 (by decide) (fun c91_49 => ?_) (fun c91_49 => ?_)
            · skip
              try dsimp only at c91_49
              refine v_iconst (v := 0) C dX3_readsOrder_98 (by decide) ?_
              refine v_iadd C dX3_readsOrder_99 ?_
              refine v_eqi (show _ = nI q from nI_add q 0) ?_
              refine v_put (ws' := mw g a _ _ _ _ _ ((nI q), nm, tt, dn, gs) _) C in_X3 tyX3 tyX3_ok nmX3 rfl 0 rfl 9 (by decide) q1175 (fun _ h => h) rfl rfl rfl (Nat.le_of_ble_eq_true rfl) dX3_readsOrder_100 rfl ?_
              refine v_aload_n C dX3_readsOrder_103 4 rfl ?_
              refine v_callVw C (m_reads l g a _ _ _ _ _ _ _ ln q rfl rfl h120 (by omega) hch) ok_X3_reads rfl q1531 rfl (Nat.le_of_ble_eq_true rfl) 0 rfl rfl rfl dX3_readsOrder_104 (roomL rfl rfl) ⟨rfl, rfl⟩ ?_
              obtain ⟨hd1, hd2⟩ := dgs_le t ln 5 (sk t ln q) 0 (sk_le (t := t) (show q ≤ ln by omega)).2
              refine v_if_neB C 112 dX3_readsOrder_107 (by decide) (fun c107_50 => ?_) (fun c107_50 => ?_)
              · skip
                try dsimp only at c107_50
                refine v_aload_n C dX3_readsOrder_112 4 rfl ?_
                refine v_get C in_X3 rfl 0 rfl 11 (by decide) q1177 (fun _ h => h) rfl dX3_readsOrder_113 ?_
                refine v_iload C dX3_readsOrder_116 0 rfl ?_
                refine v_aload_n C dX3_readsOrder_118 4 rfl ?_
                refine v_get C in_X3 rfl 0 rfl 10 (by decide) q1176 (fun _ h => h) rfl dX3_readsOrder_119 ?_
                refine v_eqi (show _ = (dgs t ln 5 (sk t ln q) 0).2 from rfl) ?_
                refine v_iast (ws' := mw g a _ _ _ _ _ ((nI (dgs t ln 5 (sk t ln q) 0).1), (dgs t ln 5 (sk t ln q) 0).2, (upd tt _ _), dn, gs) _) C dX3_readsOrder_122 7 rfl (ixn (by omega) (by decide)) rfl ?_
                refine v_iinc (lv' := [(4, _), (3, _), (2, _), (1, _), (0, _)]) C dX3_readsOrder_123 0 rfl (nI_1 i) (by decide) rfl ?_
                refine v_goto C 62 dX3_readsOrder_126 (by decide) ?_
                exact ih (f, i + 1, (dgs t ln 5 (sk t ln q) 0).1, (dgs t ln 5 (sk t ln q) 0).2, upd tt i (dgs t ln 5 (sk t ln q) 0).2) ⟨by dsimp only; omega, hd2, by dsimp only; rw [hfin, roL, if_pos hi0, if_pos c107_50]⟩ (by dsimp only; omega)
              · skip
                try dsimp only at c107_50
                refine v_iconst (v := 0) C dX3_readsOrder_110 (by decide) ?_
                exact v_zret C rfl dX3_readsOrder_111 (Nat.le_of_ble_eq_true rfl) (Nat.le_of_ble_eq_true rfl) (by have ho : ro t ln k num td = (false, (dgs t ln 5 (sk t ln q) 0).1, (dgs t ln 5 (sk t ln q) 0).2, tt) := (by unfold ro; rw [if_neg (by rw [hm]; decide), hm, hfin, roL, if_pos hi0, if_neg c107_50]); rw [ordX_f (x := (row, books, num, td, dn, gs)) ho]; exact ⟨rfl, rfl⟩)
            · exact absurd c70_48 c91_49
          · skip
            try dsimp only at c70_48
            have hi0 : ¬ i = 0 := fun z => c70_48 (by rw [z]; exact Int32.le_refl _)
            refine v_aload_n C dX3_readsOrder_73 4 rfl ?_
            refine v_callVw C (m_here l g a _ _ _ _ _ _ _ ln q rfl rfl h120 (by omega)) ok_X3_here rfl q1527 rfl (Nat.le_of_ble_eq_true rfl) 0 rfl rfl rfl dX3_readsOrder_74 (roomL rfl rfl) ⟨rfl, rfl⟩ ?_
            obtain ⟨hq1, hq2⟩ := sk_le (t := t) hq
            refine v_bipush (v := 44) C dX3_readsOrder_77 (by decide) ?_
            refine v_icmp_eq C 84 dX3_readsOrder_79 (by decide) (fun c79_51 => ?_) (fun c79_51 => ?_)
            · skip
              try dsimp only at c79_51
              have hlq := hv_lt c79_51 (by decide)
              refine v_aload_n C dX3_readsOrder_84 4 rfl ?_
              refine v_dup C dX3_readsOrder_85 rfl ?_
              refine v_get C in_X3 rfl 0 rfl 9 (by decide) q1175 (fun _ h => h) rfl dX3_readsOrder_86 ?_
              refine v_eqi (show _ = (nI (sk t ln q)) from rfl) ?_
              refine v_iload C dX3_readsOrder_89 0 rfl ?_
              refine v_if_le C 98 dX3_readsOrder_91 (by decide) (fun c91_52 => ?_) (fun c91_52 => ?_)
              · exact absurd c91_52 c70_48
              · skip
                try dsimp only at c91_52
                refine v_iconst (v := 1) C dX3_readsOrder_94 (by decide) ?_
                refine v_goto C 99 dX3_readsOrder_95 (by decide) ?_
                refine v_iadd C dX3_readsOrder_99 ?_
                refine v_eqi (nI_add ((sk t ln q)) 1) ?_
                refine v_put (ws' := mw g a _ _ _ _ _ ((nI (((sk t ln q)) + 1)), nm, tt, dn, gs) _) C in_X3 tyX3 tyX3_ok nmX3 rfl 0 rfl 9 (by decide) q1175 (fun _ h => h) rfl rfl rfl (Nat.le_of_ble_eq_true rfl) dX3_readsOrder_100 rfl ?_
                refine v_aload_n C dX3_readsOrder_103 4 rfl ?_
                refine v_callVw C (m_reads l g a _ _ _ _ _ _ _ ln ((((sk t ln q)) + 1)) rfl rfl h120 (by omega) hch) ok_X3_reads rfl q1531 rfl (Nat.le_of_ble_eq_true rfl) 0 rfl rfl rfl dX3_readsOrder_104 (roomL rfl rfl) ⟨rfl, rfl⟩ ?_
                obtain ⟨hd1, hd2⟩ := dgs_le t ln 5 (sk t ln ((((sk t ln q)) + 1))) 0 (sk_le (t := t) (show (((sk t ln q)) + 1) ≤ ln by omega)).2
                refine v_if_neB C 112 dX3_readsOrder_107 (by decide) (fun c107_53 => ?_) (fun c107_53 => ?_)
                · skip
                  try dsimp only at c107_53
                  refine v_aload_n C dX3_readsOrder_112 4 rfl ?_
                  refine v_get C in_X3 rfl 0 rfl 11 (by decide) q1177 (fun _ h => h) rfl dX3_readsOrder_113 ?_
                  refine v_iload C dX3_readsOrder_116 0 rfl ?_
                  refine v_aload_n C dX3_readsOrder_118 4 rfl ?_
                  refine v_get C in_X3 rfl 0 rfl 10 (by decide) q1176 (fun _ h => h) rfl dX3_readsOrder_119 ?_
                  refine v_eqi (show _ = (dgs t ln 5 (sk t ln ((((sk t ln q)) + 1))) 0).2 from rfl) ?_
                  refine v_iast (ws' := mw g a _ _ _ _ _ ((nI (dgs t ln 5 (sk t ln ((((sk t ln q)) + 1))) 0).1), (dgs t ln 5 (sk t ln ((((sk t ln q)) + 1))) 0).2, (upd tt _ _), dn, gs) _) C dX3_readsOrder_122 7 rfl (ixn (by omega) (by decide)) rfl ?_
                  refine v_iinc (lv' := [(4, _), (3, _), (2, _), (1, _), (0, _)]) C dX3_readsOrder_123 0 rfl (nI_1 i) (by decide) rfl ?_
                  refine v_goto C 62 dX3_readsOrder_126 (by decide) ?_
                  exact ih (f, i + 1, (dgs t ln 5 (sk t ln ((((sk t ln q)) + 1))) 0).1, (dgs t ln 5 (sk t ln ((((sk t ln q)) + 1))) 0).2, upd tt i (dgs t ln 5 (sk t ln ((((sk t ln q)) + 1))) 0).2) ⟨by dsimp only; omega, hd2, by dsimp only; rw [hfin, roL, if_neg hi0, if_pos c79_51, if_pos c107_53]⟩ (by dsimp only; omega)
                · skip
                  try dsimp only at c107_53
                  refine v_iconst (v := 0) C dX3_readsOrder_110 (by decide) ?_
                  exact v_zret C rfl dX3_readsOrder_111 (Nat.le_of_ble_eq_true rfl) (Nat.le_of_ble_eq_true rfl) (by have ho : ro t ln k num td = (false, (dgs t ln 5 (sk t ln ((((sk t ln q)) + 1))) 0).1, (dgs t ln 5 (sk t ln ((((sk t ln q)) + 1))) 0).2, tt) := (by unfold ro; rw [if_neg (by rw [hm]; decide), hm, hfin, roL, if_neg hi0, if_pos c79_51, if_neg c107_53]); rw [ordX_f (x := (row, books, num, td, dn, gs)) ho]; exact ⟨rfl, rfl⟩)
            · skip
              try dsimp only at c79_51
              refine v_iconst (v := 0) C dX3_readsOrder_82 (by decide) ?_
              exact v_zret C rfl dX3_readsOrder_83 (Nat.le_of_ble_eq_true rfl) (Nat.le_of_ble_eq_true rfl) (by have ho : ro t ln k num td = (false, sk t ln q, nm, tt) := (by unfold ro; rw [if_neg (by rw [hm]; decide), hm, hfin, roL, if_neg hi0, if_neg c79_51]); rw [ordX_f (x := (row, books, num, td, dn, gs)) ho]; exact ⟨rfl, rfl⟩)
      · exact absurd c44_42 (by decide)
