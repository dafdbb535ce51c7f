/-! the reference: orders -/
set_option maxRecDepth 100000
def p_carries (r : Nat → Int32) (bk : Nat → Int64) (nb : Nat) (sg : Int32) (td : Nat → Int32) : Int32 × (Nat → Int32) × (Nat → Int64) :=
  if sg = 114 then
    if (p_cannotReceive r (td 0) (td 1) (td 2) (td 3) (td 4)).1 = 0 then (1, (p_receives (p_cannotReceive r (td 0) (td 1) (td 2) (td 3) (td 4)).2 bk nb (td 0).toNatClampNeg (td 1).toNatClampNeg (td 2) (td 3) (td 4)).2)
    else (0, (p_cannotReceive r (td 0) (td 1) (td 2) (td 3) (td 4)).2, bk)
  else if sg = 109 then
    if (p_cannotMove r (td 0) (td 1) (td 2) (td 3)).1 = 0 then (1, (p_moves (p_cannotMove r (td 0) (td 1) (td 2) (td 3)).2 nb (td 0).toNatClampNeg (td 1).toNatClampNeg (td 2).toNatClampNeg (td 3)).2, bk)
    else (0, (p_cannotMove r (td 0) (td 1) (td 2) (td 3)).2, bk)
  else if sg = 99 then
    if p_cannotClean r (td 0) (td 1) = 0 then (1, (p_cleans r nb (td 0).toNatClampNeg (td 1)).2, bk) else (0, r, bk)
  else
    if p_cannotDry r (td 0) (td 1) = 0 then (1, (p_dries (td 0).toNatClampNeg nb (td 1).toNatClampNeg 0 (r, bk)).2) else (0, r, bk)
def RowOk (r : Nat → Int32) (nb nl : Nat) : Prop := r 2 = nI nb ∧ nb ≤ 8 ∧ r 3 = nI nl ∧ nl ≤ 3 ∧ ∀ l, l < nl → ¬ r (82 + 4 * l + 0) = 0
theorem carr_01 (r : Nat → Int32) (bk : Nat → Int64) (nb : Nat) (sg : Int32) (td : Nat → Int32) : (p_carries r bk nb sg td).1 = 0 ∨ (p_carries r bk nb sg td).1 = 1 := by
  unfold p_carries
  repeat' split
  all_goals first | exact Or.inl rfl | exact Or.inr rfl
theorem z01_nar {x : Int32} (h : x = 0 ∨ x = 1) : narrow .boolean (.int x) = .int x := by rcases h with h | h <;> rw [h] <;> rfl
theorem z01_fit {x : Int32} (h : x = 0 ∨ x = 1) : fits .boolean (.int x) = true := by rcases h with h | h <;> rw [h] <;> rfl
/-- the places that no order changes -/
def kp (j : Nat) : Prop := j = 2 ∨ j = 3 ∨ j = 4 ∨ (∃ l, j = 82 + 4 * l + 0) ∨ (∃ l, j = 82 + 4 * l + 1) ∨ j = 1 ∨ (6 ≤ j ∧ j < 10) ∨ (94 ≤ j)
theorem cR_2 (r : Nat → Int32) (x1 x2 x3 x4 x5 : Int32) {j : Nat} (h : j ≠ 5) : (p_cannotReceive r x1 x2 x3 x4 x5).2 j = r j := by
  unfold p_cannotReceive
  repeat' split
  all_goals first | rfl | exact pk_un h
theorem cM_2 (r : Nat → Int32) (x1 x2 x3 x4 : Int32) {j : Nat} (h : j ≠ 5) : (p_cannotMove r x1 x2 x3 x4).2 j = r j := by
  unfold p_cannotMove
  repeat' split
  all_goals first | rfl | exact pk_un h
theorem brings_ne {r : Nat → Int32} {b : Nat} {kind amt pts : Int32} {j : Nat} (h : j < 10 + 9 * b + 3 ∨ 10 + 9 * b + 7 < j) : p_brings r b kind amt pts j = r j := by
  unfold p_brings
  (try dsimp only)
  rw [pk_un (by omega), pk_un (by omega), pk_un (by omega), pk_un (by omega)]
theorem passes_kp {m : Int32} {r : Nat → Int32} {nb j : Nat} (hn : nb ≤ 8) (h0 : 0 < j) (h : j < 16 ∨ 80 ≤ j) : p_passes m r nb j = r j := by
  rcases h with h | h
  · exact passes_lo h0 h
  · exact passes_hi hn h
theorem dries_kp {b nb : Nat} (hb : b < 8) (hn : nb ≤ 8) {j : Nat} (h0 : 0 < j) (h : j < 10 ∨ 82 ≤ j) (f : Nat) : ∀ (n : Nat) (x : (Nat → Int32) × (Nat → Int64)), (p_dries b nb f n x).2.1 j = x.1 j := by
  induction f with
  | zero => intro n x; rfl
  | succ f ih =>
    intro n x
    unfold p_dries
    split
    · rfl
    · rw [ih]
      unfold p_dry1
      dsimp only
      rw [pk_un (by omega), pk_un (by omega), pk_un (by omega)]
      exact passes_kp hn h0 (by omega)
/-- a carried order leaves these places as they were -/
theorem carr_kp {r : Nat → Int32} {bk : Nat → Int64} {nb nl : Nat} (hR : RowOk r nb nl) (sg : Int32) (td : Nat → Int32) {j : Nat} (h0 : 0 < j) (h5 : j ≠ 5) (hj : j < 10 ∨ 82 ≤ j) (hd : ∀ l, l < 3 → j ≠ 82 + 4 * l + 2 ∧ j ≠ 82 + 4 * l + 3) : (p_carries r bk nb sg td).2.1 j = r j := by
  obtain ⟨hnb, hb8, hnl, hl3, hsp⟩ := hR
  have hdl : ∀ l, l < 3 → (j < 82 + 4 * l + 2 ∨ 82 + 4 * l + 3 < j) := fun l hl => by
    have := hd l hl; omega
  unfold p_carries
  by_cases s1 : sg = 114
  · rw [if_pos s1]
    by_cases f1 : (p_cannotReceive r (td 0) (td 1) (td 2) (td 3) (td 4)).1 = 0
    · rw [if_pos f1]
      obtain ⟨q1, q2, q3, q4, q5, -, -⟩ := cR0 f1
      obtain ⟨el, hl⟩ := isB_c hnl (by omega) q1
      obtain ⟨eb, hb⟩ := isB_c hnb (by omega) q2
      unfold p_receives
      dsimp only
      rw [dusts_ne (hdl _ (by omega)), brings_ne (by omega), passes_kp hb8 h0 (by omega), q5]
    · rw [if_neg f1]; exact cR_2 r _ _ _ _ _ h5
  · rw [if_neg s1]
    by_cases s2 : sg = 109
    · rw [if_pos s2]
      by_cases f1 : (p_cannotMove r (td 0) (td 1) (td 2) (td 3)).1 = 0
      · rw [if_pos f1]
        obtain ⟨q0, qe, qw, -⟩ := cM0 f1
        obtain ⟨q1, q2, q3, q4, q5⟩ := nM0 q0
        obtain ⟨el, hl⟩ := isB_c hnl (by omega) q1
        obtain ⟨ef, hf⟩ := isB_c hnb (by omega) q2
        obtain ⟨et, ht⟩ := isB_c hnb (by omega) q3
        unfold p_moves
        dsimp only
        rw [dusts_ne (hdl _ (by omega)), brings_ne (by omega), takes_ne (by omega), passes_kp hb8 h0 (by omega), qe]
      · rw [if_neg f1]; exact cM_2 r _ _ _ _ h5
    · rw [if_neg s2]
      by_cases s3 : sg = 99
      · rw [if_pos s3]
        by_cases f1 : p_cannotClean r (td 0) (td 1) = 0
        · rw [if_pos f1]
          obtain ⟨q1, -, -⟩ := cC0 f1
          obtain ⟨el, hl⟩ := isB_c hnl (by omega) q1
          unfold p_cleans
          dsimp only
          rw [pk_un (hd _ (by omega)).1]
          exact passes_kp hb8 h0 (by omega)
        · rw [if_neg f1]
      · rw [if_neg s3]
        by_cases f1 : p_cannotDry r (td 0) (td 1) = 0
        · rw [if_pos f1]
          obtain ⟨q1, -, -, -⟩ := cD0 f1
          obtain ⟨eb, hb⟩ := isB_c hnb (by omega) q1
          exact dries_kp (by omega) hb8 h0 hj _ _ _
        · rw [if_neg f1]
theorem carr_ok {r : Nat → Int32} {bk : Nat → Int64} {nb nl : Nat} (hR : RowOk r nb nl) (sg : Int32) (td : Nat → Int32) : RowOk (p_carries r bk nb sg td).2.1 nb nl := by
  refine ⟨?_, hR.2.1, ?_, hR.2.2.2.1, fun l hl => ?_⟩
  · rw [carr_kp hR sg td (by decide) (by decide) (by omega) (fun l hl => by omega)]; exact hR.1
  · rw [carr_kp hR sg td (by decide) (by decide) (by omega) (fun l hl => by omega)]; exact hR.2.2.1
  · have := hR.2.2.2.1
    rw [carr_kp hR sg td (by omega) (by omega) (by omega) (fun k hk => by omega)]; exact hR.2.2.2.2 l hl
def mny (sg : Int32) : Nat := if sg = 114 then 5 else if sg = 109 then 4 else if sg = 99 then 2 else if sg = 100 then 2 else 0
def roL (t : Nat → Int32) (ln : Nat) : Nat → Nat → Nat → Int32 → (Nat → Int32) → Bool × Nat × Int32 × (Nat → Int32)
  | 0, _, q, num, td => (true, q, num, td)
  | f + 1, i, q, num, td =>
    if i = 0 then
      if sk t ln q < (dgs t ln 5 (sk t ln q) 0).1 then roL t ln f (i + 1) (dgs t ln 5 (sk t ln q) 0).1 (dgs t ln 5 (sk t ln q) 0).2 (upd td i (dgs t ln 5 (sk t ln q) 0).2) else (false, (dgs t ln 5 (sk t ln q) 0).1, (dgs t ln 5 (sk t ln q) 0).2, td)
    else if hv t ln (sk t ln q) = 44 then
      if sk t ln (sk t ln q + 1) < (dgs t ln 5 (sk t ln (sk t ln q + 1)) 0).1 then roL t ln f (i + 1) (dgs t ln 5 (sk t ln (sk t ln q + 1)) 0).1 (dgs t ln 5 (sk t ln (sk t ln q + 1)) 0).2 (upd td i (dgs t ln 5 (sk t ln (sk t ln q + 1)) 0).2) else (false, (dgs t ln 5 (sk t ln (sk t ln q + 1)) 0).1, (dgs t ln 5 (sk t ln (sk t ln q + 1)) 0).2, td)
    else (false, sk t ln q, num, td)
def ro (t : Nat → Int32) (ln k : Nat) (num : Int32) (td : Nat → Int32) : Bool × Nat × Int32 × (Nat → Int32) :=
  if mny (hv t ln (sk t ln k)) = 0 then (false, sk t ln k, num, td) else roL t ln (mny (hv t ln (sk t ln k))) 0 (sk t ln k + 1) num td
abbrev XT : Type := (Nat → Int32) × (Nat → Int64) × Int32 × (Nat → Int32) × Int32 × Int32
def bB (b : Bool) : Int32 := if b = true then 1 else 0
/-- an order: read, and, if rl and nothing failed before, carried out -/
def ordX (rl : Bool) (t : Nat → Int32) (ln nb k : Nat) (x : XT) : Bool × Nat × XT :=
  let o := ro t ln k x.2.2.1 x.2.2.2.1
  if o.1 = true then
    if rl = true then
      if x.2.2.2.2.2 = 0 then (true, o.2.1, (x.1, x.2.1, o.2.2.1, o.2.2.2, x.2.2.2.2.1, x.2.2.2.2.2))
      else
        let c := p_carries x.1 x.2.1 nb (hv t ln (sk t ln k)) o.2.2.2
        (true, o.2.1, (c.2.1, c.2.2, o.2.2.1, o.2.2.2, x.2.2.2.2.1 + bI (¬ c.1 = 0), c.1))
    else (true, o.2.1, (x.1, x.2.1, o.2.2.1, o.2.2.2, x.2.2.2.2.1, x.2.2.2.2.2))
  else (false, o.2.1, (x.1, x.2.1, o.2.2.1, o.2.2.2, x.2.2.2.2.1, x.2.2.2.2.2))
theorem hv_lt {t : Nat → Int32} {ln k : Nat} {v : Int32} (h : hv t ln k = v) (hn : ¬ v = -1) : k < ln := by
  unfold hv at h
  split at h
  · assumption
  · exact absurd h.symm hn
def M_X3_carries : Md := (yX3_carries, cX3_carries, 4, (some .boolean), 6, 160, 0, 0)
theorem ok_X3_carries : MOKv M_X3_carries 1 := ⟨q1537, qs86, q103, q1538, ⟨by decide +kernel, by decide +kernel, by decide +kernel⟩⟩
set_option maxHeartbeats 4000000 in
theorem m_carries (l : Launch) (g : GT) (a : Nat → Nat) (row : Nat → Int32) (books : Nat → Int64) (S : Int32 × (Nat → Int32)) (B : (Nat → Int32) × Int32 × (Nat → Int32)) (T : (Nat → Int32) × Int32) (P : Int32 × Int32 × (Nat → Int32) × Int32 × Int32) (h : Int64) (nb nl : Nat) (hnb : row 2 = nI nb) (hb8 : nb ≤ 8) (hnl : row 3 = nI nl) (hl3 : nl ≤ 3) (hsp : ∀ l, l < nl → ¬ row (82 + 4 * l + 0) = 0) (sg : Int32) : CtE l g M_X3_carries [.ref (a 0), .int sg] (mw g a row books S B T P h) (some (.int (p_carries row books nb sg P.2.2.1).1)) (mw g a (p_carries row books nb sg P.2.2.1).2.1 (p_carries row books nb sg P.2.2.1).2.2 S B T P h) := by
  refine Ct.start2 (M := M_X3_carries) rfl [(0, .ref (a 0)), (1, .int sg)] rfl (by decide +kernel) (Nat.le_of_ble_eq_true rfl) ?_
  intro p e s m args below meth c A C
  refine v_iload_n C dX3_carries_0 1 rfl ?_
  refine v_bipush (v := 114) C dX3_carries_1 (by decide) ?_
  refine v_icmp_ne C 43 dX3_carries_3 (by decide) (fun c3_1 => ?_) (fun c3_1 => ?_)
  · skip
    refine v_iload_n C dX3_carries_43 1 rfl ?_
    refine v_bipush (v := 109) C dX3_carries_44 (by decide) ?_
    refine v_icmp_ne C 80 dX3_carries_46 (by decide) (fun c46_2 => ?_) (fun c46_2 => ?_)
    · skip
      refine v_iload_n C dX3_carries_80 1 rfl ?_
      refine v_bipush (v := 99) C dX3_carries_81 (by decide) ?_
      refine v_icmp_ne C 105 dX3_carries_83 (by decide) (fun c83_3 => ?_) (fun c83_3 => ?_)
      · skip
        refine v_aload_n C dX3_carries_105 0 rfl ?_
        refine v_aload_n C dX3_carries_106 0 rfl ?_
        refine v_get C in_X3 rfl 0 rfl 11 (by decide) q1177 (fun _ h => h) rfl dX3_carries_107 ?_
        refine v_iconst (v := 0) C dX3_carries_110 (by decide) ?_
        refine v_iald C dX3_carries_111 7 rfl (j := 0) (ixl rfl) ?_
        refine v_aload_n C dX3_carries_112 0 rfl ?_
        refine v_get C in_X3 rfl 0 rfl 11 (by decide) q1177 (fun _ h => h) rfl dX3_carries_113 ?_
        refine v_iconst (v := 1) C dX3_carries_116 (by decide) ?_
        refine v_iald C dX3_carries_117 7 rfl (j := 1) (ixl rfl) ?_
        refine v_callVw C (m_cannotDry l g a _ _ _ _ _ _ _ nb hnb hb8 _ _) ok_X3_cannotDry rfl q1426 rfl (Nat.le_of_ble_eq_true rfl) 0 rfl rfl rfl dX3_carries_118 (roomL rfl rfl) ⟨rfl, rfl⟩ ?_
        refine v_istore_n (lv' := [(2, _), (0, _), (1, _)]) C dX3_carries_121 rfl (by decide) rfl ?_
        refine v_iload_n C dX3_carries_122 0 rfl ?_
        refine v_if_ne C 248 dX3_carries_123 (by decide) (fun c123_4 => ?_) (fun c123_4 => ?_)
        · skip
          refine v_iload_n C dX3_carries_248 0 rfl ?_
          refine v_ternI C 256 257 dX3_carries_252 dX3_carries_253 dX3_carries_256 (by decide) rfl (fun ht hf => v_if_ne C 256 dX3_carries_249 (by decide) (fun q => ht q) (fun q => hf q)) ?_
          exact v_zret C (bI_nar _) dX3_carries_257 (Nat.le_of_ble_eq_true rfl) (Nat.le_of_ble_eq_true rfl) (by unfold p_carries; rw [if_neg c3_1, if_neg c46_2, if_neg c83_3, if_neg c123_4]; exact ⟨si (bI_f c123_4), rfl⟩)
        · skip
          obtain ⟨q1, q2, -, -⟩ := cD0 c123_4
          obtain ⟨eb, hb⟩ := isB_c hnb (by omega) q1
          obtain ⟨es, hs200, -⟩ := in1_c (n := 200) rfl (by decide) q2
          refine v_iload_n C dX3_carries_126 2 rfl ?_
          refine v_bipush (v := 114) C dX3_carries_127 (by decide) ?_
          refine v_icmp_ne C 169 dX3_carries_129 (by decide) (fun c129_5 => ?_) (fun c129_5 => ?_)
          · skip
            refine v_iload_n C dX3_carries_169 2 rfl ?_
            refine v_bipush (v := 109) C dX3_carries_170 (by decide) ?_
            refine v_icmp_ne C 206 dX3_carries_172 (by decide) (fun c172_6 => ?_) (fun c172_6 => ?_)
            · skip
              refine v_iload_n C dX3_carries_206 2 rfl ?_
              refine v_bipush (v := 99) C dX3_carries_207 (by decide) ?_
              refine v_icmp_ne C 231 dX3_carries_209 (by decide) (fun c209_7 => ?_) (fun c209_7 => ?_)
              · skip
                refine v_aload_n C dX3_carries_231 1 rfl ?_
                refine v_aload_n C dX3_carries_232 1 rfl ?_
                refine v_get C in_X3 rfl 0 rfl 11 (by decide) q1177 (fun _ h => h) rfl dX3_carries_233 ?_
                refine v_iconst (v := 0) C dX3_carries_236 (by decide) ?_
                refine v_iald C dX3_carries_237 7 rfl (j := 0) (ixl rfl) ?_
                refine v_aload_n C dX3_carries_238 1 rfl ?_
                refine v_get C in_X3 rfl 0 rfl 11 (by decide) q1177 (fun _ h => h) rfl dX3_carries_239 ?_
                refine v_iconst (v := 1) C dX3_carries_242 (by decide) ?_
                refine v_iald C dX3_carries_243 7 rfl (j := 1) (ixl rfl) ?_
                refine v_callVw C (m_dries l g a _ _ _ _ _ _ _ nb hnb hb8 (P.2.2.1 0).toNatClampNeg (P.2.2.1 1).toNatClampNeg _ _ eb es (by omega) (by omega)) ok_X3_dries rfl q1430 rfl (Nat.le_of_ble_eq_true rfl) 0 rfl rfl rfl dX3_carries_244 (roomL rfl rfl) ⟨rfl, rfl⟩ ?_
                refine v_istore_n (lv' := [(3, _), (2, _), (0, _), (1, _)]) C dX3_carries_247 rfl (by decide) rfl ?_
                refine v_iload_n C dX3_carries_248 1 rfl ?_
                refine v_ternI C 256 257 dX3_carries_252 dX3_carries_253 dX3_carries_256 (by decide) rfl (fun ht hf => v_if_ne C 256 dX3_carries_249 (by decide) (fun q => ht q) (fun q => hf q)) ?_
                exact v_zret C (bI_nar _) dX3_carries_257 (Nat.le_of_ble_eq_true rfl) (Nat.le_of_ble_eq_true rfl) (by unfold p_carries; rw [if_neg c3_1, if_neg c46_2, if_neg c83_3, if_pos c123_4]; exact ⟨si (bI_t c123_4), rfl⟩)
              · exact absurd c209_7 c83_3
            · exact absurd c172_6 c46_2
          · exact absurd c129_5 c3_1
      · skip
        refine v_aload_n C dX3_carries_86 0 rfl ?_
        refine v_aload_n C dX3_carries_87 0 rfl ?_
        refine v_get C in_X3 rfl 0 rfl 11 (by decide) q1177 (fun _ h => h) rfl dX3_carries_88 ?_
        refine v_iconst (v := 0) C dX3_carries_91 (by decide) ?_
        refine v_iald C dX3_carries_92 7 rfl (j := 0) (ixl rfl) ?_
        refine v_aload_n C dX3_carries_93 0 rfl ?_
        refine v_get C in_X3 rfl 0 rfl 11 (by decide) q1177 (fun _ h => h) rfl dX3_carries_94 ?_
        refine v_iconst (v := 1) C dX3_carries_97 (by decide) ?_
        refine v_iald C dX3_carries_98 7 rfl (j := 1) (ixl rfl) ?_
        refine v_callVw C (m_cannotClean l g a _ _ _ _ _ _ _ _ _) ok_X3_cannotClean rfl q1410 rfl (Nat.le_of_ble_eq_true rfl) 0 rfl rfl rfl dX3_carries_99 (roomL rfl rfl) ⟨rfl, rfl⟩ ?_
        refine v_goto C 121 dX3_carries_102 (by decide) ?_
        refine v_istore_n (lv' := [(2, _), (0, _), (1, _)]) C dX3_carries_121 rfl (by decide) rfl ?_
        refine v_iload_n C dX3_carries_122 0 rfl ?_
        refine v_if_ne C 248 dX3_carries_123 (by decide) (fun c123_8 => ?_) (fun c123_8 => ?_)
        · skip
          refine v_iload_n C dX3_carries_248 0 rfl ?_
          refine v_ternI C 256 257 dX3_carries_252 dX3_carries_253 dX3_carries_256 (by decide) rfl (fun ht hf => v_if_ne C 256 dX3_carries_249 (by decide) (fun q => ht q) (fun q => hf q)) ?_
          exact v_zret C (bI_nar _) dX3_carries_257 (Nat.le_of_ble_eq_true rfl) (Nat.le_of_ble_eq_true rfl) (by unfold p_carries; rw [if_neg c3_1, if_neg c46_2, if_pos c83_3, if_neg c123_8]; exact ⟨si (bI_f c123_8), rfl⟩)
        · skip
          obtain ⟨q1, q2, -⟩ := cC0 c123_8
          obtain ⟨el, hl⟩ := isB_c hnl (by omega) q1
          refine v_iload_n C dX3_carries_126 2 rfl ?_
          refine v_bipush (v := 114) C dX3_carries_127 (by decide) ?_
          refine v_icmp_ne C 169 dX3_carries_129 (by decide) (fun c129_9 => ?_) (fun c129_9 => ?_)
          · skip
            refine v_iload_n C dX3_carries_169 2 rfl ?_
            refine v_bipush (v := 109) C dX3_carries_170 (by decide) ?_
            refine v_icmp_ne C 206 dX3_carries_172 (by decide) (fun c172_10 => ?_) (fun c172_10 => ?_)
            · skip
              refine v_iload_n C dX3_carries_206 2 rfl ?_
              refine v_bipush (v := 99) C dX3_carries_207 (by decide) ?_
              refine v_icmp_ne C 231 dX3_carries_209 (by decide) (fun c209_11 => ?_) (fun c209_11 => ?_)
              · exact absurd c83_3 c209_11
              · skip
                refine v_aload_n C dX3_carries_212 1 rfl ?_
                refine v_aload_n C dX3_carries_213 1 rfl ?_
                refine v_get C in_X3 rfl 0 rfl 11 (by decide) q1177 (fun _ h => h) rfl dX3_carries_214 ?_
                refine v_iconst (v := 0) C dX3_carries_217 (by decide) ?_
                refine v_iald C dX3_carries_218 7 rfl (j := 0) (ixl rfl) ?_
                refine v_aload_n C dX3_carries_219 1 rfl ?_
                refine v_get C in_X3 rfl 0 rfl 11 (by decide) q1177 (fun _ h => h) rfl dX3_carries_220 ?_
                refine v_iconst (v := 1) C dX3_carries_223 (by decide) ?_
                refine v_iald C dX3_carries_224 7 rfl (j := 1) (ixl rfl) ?_
                refine v_callVw C (m_cleans l g a _ _ _ _ _ _ _ nb hnb hb8 (P.2.2.1 0).toNatClampNeg _ _ el (by omega)) ok_X3_cleans rfl q1414 rfl (Nat.le_of_ble_eq_true rfl) 0 rfl rfl rfl dX3_carries_225 (roomL rfl rfl) ⟨rfl, rfl⟩ ?_
                refine v_goto C 247 dX3_carries_228 (by decide) ?_
                refine v_istore_n (lv' := [(3, _), (2, _), (0, _), (1, _)]) C dX3_carries_247 rfl (by decide) rfl ?_
                refine v_iload_n C dX3_carries_248 1 rfl ?_
                refine v_ternI C 256 257 dX3_carries_252 dX3_carries_253 dX3_carries_256 (by decide) rfl (fun ht hf => v_if_ne C 256 dX3_carries_249 (by decide) (fun q => ht q) (fun q => hf q)) ?_
                exact v_zret C (bI_nar _) dX3_carries_257 (Nat.le_of_ble_eq_true rfl) (Nat.le_of_ble_eq_true rfl) (by unfold p_carries; rw [if_neg c3_1, if_neg c46_2, if_pos c83_3, if_pos c123_8]; exact ⟨si (bI_t c123_8), rfl⟩)
            · exact absurd c172_10 c46_2
          · exact absurd c129_9 c3_1
    · skip
      refine v_aload_n C dX3_carries_49 0 rfl ?_
      refine v_aload_n C dX3_carries_50 0 rfl ?_
      refine v_get C in_X3 rfl 0 rfl 11 (by decide) q1177 (fun _ h => h) rfl dX3_carries_51 ?_
      refine v_iconst (v := 0) C dX3_carries_54 (by decide) ?_
      refine v_iald C dX3_carries_55 7 rfl (j := 0) (ixl rfl) ?_
      refine v_aload_n C dX3_carries_56 0 rfl ?_
      refine v_get C in_X3 rfl 0 rfl 11 (by decide) q1177 (fun _ h => h) rfl dX3_carries_57 ?_
      refine v_iconst (v := 1) C dX3_carries_60 (by decide) ?_
      refine v_iald C dX3_carries_61 7 rfl (j := 1) (ixl rfl) ?_
      refine v_aload_n C dX3_carries_62 0 rfl ?_
      refine v_get C in_X3 rfl 0 rfl 11 (by decide) q1177 (fun _ h => h) rfl dX3_carries_63 ?_
      refine v_iconst (v := 2) C dX3_carries_66 (by decide) ?_
      refine v_iald C dX3_carries_67 7 rfl (j := 2) (ixl rfl) ?_
      refine v_aload_n C dX3_carries_68 0 rfl ?_
      refine v_get C in_X3 rfl 0 rfl 11 (by decide) q1177 (fun _ h => h) rfl dX3_carries_69 ?_
      refine v_iconst (v := 3) C dX3_carries_72 (by decide) ?_
      refine v_iald C dX3_carries_73 7 rfl (j := 3) (ixl rfl) ?_
      refine v_callVw C (m_cannotMove l g a _ _ _ _ _ _ _ nb nl hnb hb8 hnl hl3 hsp _ _ _ _) ok_X3_cannotMove rfl q1374 rfl (Nat.le_of_ble_eq_true rfl) 0 rfl rfl rfl dX3_carries_74 (roomL rfl rfl) ⟨rfl, rfl⟩ ?_
      refine v_goto C 121 dX3_carries_77 (by decide) ?_
      refine v_istore_n (lv' := [(2, _), (0, _), (1, _)]) C dX3_carries_121 rfl (by decide) rfl ?_
      refine v_iload_n C dX3_carries_122 0 rfl ?_
      refine v_if_ne C 248 dX3_carries_123 (by decide) (fun c123_12 => ?_) (fun c123_12 => ?_)
      · skip
        refine v_iload_n C dX3_carries_248 0 rfl ?_
        refine v_ternI C 256 257 dX3_carries_252 dX3_carries_253 dX3_carries_256 (by decide) rfl (fun ht hf => v_if_ne C 256 dX3_carries_249 (by decide) (fun q => ht q) (fun q => hf q)) ?_
        exact v_zret C (bI_nar _) dX3_carries_257 (Nat.le_of_ble_eq_true rfl) (Nat.le_of_ble_eq_true rfl) (by unfold p_carries; rw [if_neg c3_1, if_pos c46_2, if_neg c123_12]; exact ⟨si (bI_f c123_12), rfl⟩)
      · skip
        obtain ⟨q0, qe, qw, -⟩ := cM0 c123_12
        obtain ⟨q1, q2, q3, q4, q5⟩ := nM0 q0
        obtain ⟨el, hl⟩ := isB_c hnl (by omega) q1
        obtain ⟨ef, hf⟩ := isB_c hnb (by omega) q2
        obtain ⟨et, ht⟩ := isB_c hnb (by omega) q3
        have hnb1 : (p_cannotMove row (P.2.2.1 0) (P.2.2.1 1) (P.2.2.1 2) (P.2.2.1 3)).2 2 = nI nb := by rw [qe]; exact hnb
        have hsp1 : ¬ (p_cannotMove row (P.2.2.1 0) (P.2.2.1 1) (P.2.2.1 2) (P.2.2.1 3)).2 (82 + 4 * (P.2.2.1 0).toNatClampNeg + 0) = 0 := by rw [qe]; exact hsp _ hl
        have hz : ∀ mi, ¬ P.2.2.1 3 = p_passes mi (p_cannotMove row (P.2.2.1 0) (P.2.2.1 1) (P.2.2.1 2) (P.2.2.1 3)).2 nb (10 + 9 * (P.2.2.1 1).toNatClampNeg + 3) → ¬ (p_passes mi (p_cannotMove row (P.2.2.1 0) (P.2.2.1 1) (P.2.2.1 2) (P.2.2.1 3)).2 nb (10 + 9 * (P.2.2.1 1).toNatClampNeg + 3)).toInt64 = 0 := by
          intro mi _
          rw [show p_passes mi (p_cannotMove row (P.2.2.1 0) (P.2.2.1 1) (P.2.2.1 2) (P.2.2.1 3)).2 nb (10 + 9 * (P.2.2.1 1).toNatClampNeg + 3) = _ from (pk_un (by omega)).trans (passB_ne (fun b _ => by omega)), qe]
          exact ne0_l (pos_ne q5.1 (why_le qw))
        refine v_iload_n C dX3_carries_126 2 rfl ?_
        refine v_bipush (v := 114) C dX3_carries_127 (by decide) ?_
        refine v_icmp_ne C 169 dX3_carries_129 (by decide) (fun c129_13 => ?_) (fun c129_13 => ?_)
        · skip
          refine v_iload_n C dX3_carries_169 2 rfl ?_
          refine v_bipush (v := 109) C dX3_carries_170 (by decide) ?_
          refine v_icmp_ne C 206 dX3_carries_172 (by decide) (fun c172_14 => ?_) (fun c172_14 => ?_)
          · exact absurd c46_2 c172_14
          · skip
            refine v_aload_n C dX3_carries_175 1 rfl ?_
            refine v_aload_n C dX3_carries_176 1 rfl ?_
            refine v_get C in_X3 rfl 0 rfl 11 (by decide) q1177 (fun _ h => h) rfl dX3_carries_177 ?_
            refine v_iconst (v := 0) C dX3_carries_180 (by decide) ?_
            refine v_iald C dX3_carries_181 7 rfl (j := 0) (ixl rfl) ?_
            refine v_aload_n C dX3_carries_182 1 rfl ?_
            refine v_get C in_X3 rfl 0 rfl 11 (by decide) q1177 (fun _ h => h) rfl dX3_carries_183 ?_
            refine v_iconst (v := 1) C dX3_carries_186 (by decide) ?_
            refine v_iald C dX3_carries_187 7 rfl (j := 1) (ixl rfl) ?_
            refine v_aload_n C dX3_carries_188 1 rfl ?_
            refine v_get C in_X3 rfl 0 rfl 11 (by decide) q1177 (fun _ h => h) rfl dX3_carries_189 ?_
            refine v_iconst (v := 2) C dX3_carries_192 (by decide) ?_
            refine v_iald C dX3_carries_193 7 rfl (j := 2) (ixl rfl) ?_
            refine v_aload_n C dX3_carries_194 1 rfl ?_
            refine v_get C in_X3 rfl 0 rfl 11 (by decide) q1177 (fun _ h => h) rfl dX3_carries_195 ?_
            refine v_iconst (v := 3) C dX3_carries_198 (by decide) ?_
            refine v_iald C dX3_carries_199 7 rfl (j := 3) (ixl rfl) ?_
            refine v_callVw C (m_moves l g a _ _ _ _ _ _ _ nb hnb1 hb8 (P.2.2.1 0).toNatClampNeg (P.2.2.1 1).toNatClampNeg (P.2.2.1 2).toNatClampNeg _ _ _ _ el ef et (by omega) (by omega) (by omega) hsp1 (in1_ne q5) (hz _)) ok_X3_moves rfl q1390 rfl (Nat.le_of_ble_eq_true rfl) 0 rfl rfl rfl dX3_carries_200 (roomL rfl rfl) ⟨rfl, rfl⟩ ?_
            refine v_goto C 247 dX3_carries_203 (by decide) ?_
            refine v_istore_n (lv' := [(3, _), (2, _), (0, _), (1, _)]) C dX3_carries_247 rfl (by decide) rfl ?_
            refine v_iload_n C dX3_carries_248 1 rfl ?_
            refine v_ternI C 256 257 dX3_carries_252 dX3_carries_253 dX3_carries_256 (by decide) rfl (fun ht hf => v_if_ne C 256 dX3_carries_249 (by decide) (fun q => ht q) (fun q => hf q)) ?_
            exact v_zret C (bI_nar _) dX3_carries_257 (Nat.le_of_ble_eq_true rfl) (Nat.le_of_ble_eq_true rfl) (by unfold p_carries; rw [if_neg c3_1, if_pos c46_2, if_pos c123_12]; exact ⟨si (bI_t c123_12), rfl⟩)
        · exact absurd c129_13 c3_1
  · skip
    refine v_aload_n C dX3_carries_6 0 rfl ?_
    refine v_aload_n C dX3_carries_7 0 rfl ?_
    refine v_get C in_X3 rfl 0 rfl 11 (by decide) q1177 (fun _ h => h) rfl dX3_carries_8 ?_
    refine v_iconst (v := 0) C dX3_carries_11 (by decide) ?_
    refine v_iald C dX3_carries_12 7 rfl (j := 0) (ixl rfl) ?_
    refine v_aload_n C dX3_carries_13 0 rfl ?_
    refine v_get C in_X3 rfl 0 rfl 11 (by decide) q1177 (fun _ h => h) rfl dX3_carries_14 ?_
    refine v_iconst (v := 1) C dX3_carries_17 (by decide) ?_
    refine v_iald C dX3_carries_18 7 rfl (j := 1) (ixl rfl) ?_
    refine v_aload_n C dX3_carries_19 0 rfl ?_
    refine v_get C in_X3 rfl 0 rfl 11 (by decide) q1177 (fun _ h => h) rfl dX3_carries_20 ?_
    refine v_iconst (v := 2) C dX3_carries_23 (by decide) ?_
    refine v_iald C dX3_carries_24 7 rfl (j := 2) (ixl rfl) ?_
    refine v_aload_n C dX3_carries_25 0 rfl ?_
    refine v_get C in_X3 rfl 0 rfl 11 (by decide) q1177 (fun _ h => h) rfl dX3_carries_26 ?_
    refine v_iconst (v := 3) C dX3_carries_29 (by decide) ?_
    refine v_iald C dX3_carries_30 7 rfl (j := 3) (ixl rfl) ?_
    refine v_aload_n C dX3_carries_31 0 rfl ?_
    refine v_get C in_X3 rfl 0 rfl 11 (by decide) q1177 (fun _ h => h) rfl dX3_carries_32 ?_
    refine v_iconst (v := 4) C dX3_carries_35 (by decide) ?_
    refine v_iald C dX3_carries_36 7 rfl (j := 4) (ixl rfl) ?_
    refine v_callVw C (m_cannotReceive l g a _ _ _ _ _ _ _ nb nl hnb hb8 hnl hl3 hsp _ _ _ _ _) ok_X3_cannotReceive rfl q1333 rfl (Nat.le_of_ble_eq_true rfl) 0 rfl rfl rfl dX3_carries_37 (roomL rfl rfl) ⟨rfl, rfl⟩ ?_
    refine v_goto C 121 dX3_carries_40 (by decide) ?_
    refine v_istore_n (lv' := [(2, _), (0, _), (1, _)]) C dX3_carries_121 rfl (by decide) rfl ?_
    refine v_iload_n C dX3_carries_122 0 rfl ?_
    refine v_if_ne C 248 dX3_carries_123 (by decide) (fun c123_15 => ?_) (fun c123_15 => ?_)
    · skip
      refine v_iload_n C dX3_carries_248 0 rfl ?_
      refine v_ternI C 256 257 dX3_carries_252 dX3_carries_253 dX3_carries_256 (by decide) rfl (fun ht hf => v_if_ne C 256 dX3_carries_249 (by decide) (fun q => ht q) (fun q => hf q)) ?_
      exact v_zret C (bI_nar _) dX3_carries_257 (Nat.le_of_ble_eq_true rfl) (Nat.le_of_ble_eq_true rfl) (by unfold p_carries; rw [if_pos c3_1, if_neg c123_15]; exact ⟨si (bI_f c123_15), rfl⟩)
    · skip
      obtain ⟨q1, q2, q3, q4, qe, -, -⟩ := cR0 c123_15
      obtain ⟨el, hl⟩ := isB_c hnl (by omega) q1
      obtain ⟨eb, hb⟩ := isB_c hnb (by omega) q2
      obtain ⟨ek, hk⟩ := in_c (n := 3) rfl (by decide) q3
      have hnb1 : (p_cannotReceive row (P.2.2.1 0) (P.2.2.1 1) (P.2.2.1 2) (P.2.2.1 3) (P.2.2.1 4)).2 2 = nI nb := by rw [qe]; exact hnb
      have hsp1 : ¬ (p_cannotReceive row (P.2.2.1 0) (P.2.2.1 1) (P.2.2.1 2) (P.2.2.1 3) (P.2.2.1 4)).2 (82 + 4 * (P.2.2.1 0).toNatClampNeg + 0) = 0 := by rw [qe]; exact hsp _ hl
      refine v_iload_n C dX3_carries_126 2 rfl ?_
      refine v_bipush (v := 114) C dX3_carries_127 (by decide) ?_
      refine v_icmp_ne C 169 dX3_carries_129 (by decide) (fun c129_16 => ?_) (fun c129_16 => ?_)
      · exact absurd c3_1 c129_16
      · skip
        refine v_aload_n C dX3_carries_132 1 rfl ?_
        refine v_aload_n C dX3_carries_133 1 rfl ?_
        refine v_get C in_X3 rfl 0 rfl 11 (by decide) q1177 (fun _ h => h) rfl dX3_carries_134 ?_
        refine v_iconst (v := 0) C dX3_carries_137 (by decide) ?_
        refine v_iald C dX3_carries_138 7 rfl (j := 0) (ixl rfl) ?_
        refine v_aload_n C dX3_carries_139 1 rfl ?_
        refine v_get C in_X3 rfl 0 rfl 11 (by decide) q1177 (fun _ h => h) rfl dX3_carries_140 ?_
        refine v_iconst (v := 1) C dX3_carries_143 (by decide) ?_
        refine v_iald C dX3_carries_144 7 rfl (j := 1) (ixl rfl) ?_
        refine v_aload_n C dX3_carries_145 1 rfl ?_
        refine v_get C in_X3 rfl 0 rfl 11 (by decide) q1177 (fun _ h => h) rfl dX3_carries_146 ?_
        refine v_iconst (v := 2) C dX3_carries_149 (by decide) ?_
        refine v_iald C dX3_carries_150 7 rfl (j := 2) (ixl rfl) ?_
        refine v_aload_n C dX3_carries_151 1 rfl ?_
        refine v_get C in_X3 rfl 0 rfl 11 (by decide) q1177 (fun _ h => h) rfl dX3_carries_152 ?_
        refine v_iconst (v := 3) C dX3_carries_155 (by decide) ?_
        refine v_iald C dX3_carries_156 7 rfl (j := 3) (ixl rfl) ?_
        refine v_aload_n C dX3_carries_157 1 rfl ?_
        refine v_get C in_X3 rfl 0 rfl 11 (by decide) q1177 (fun _ h => h) rfl dX3_carries_158 ?_
        refine v_iconst (v := 4) C dX3_carries_161 (by decide) ?_
        refine v_iald C dX3_carries_162 7 rfl (j := 4) (ixl rfl) ?_
        refine v_callVw C (m_receives l g a _ _ _ _ _ _ _ nb hnb1 hb8 (P.2.2.1 0).toNatClampNeg (P.2.2.1 1).toNatClampNeg _ _ _ _ _ el eb (by omega) (by omega) ek hk hsp1 (truck_ne q4)) ok_X3_receives rfl q1352 rfl (Nat.le_of_ble_eq_true rfl) 0 rfl rfl rfl dX3_carries_163 (roomL rfl rfl) ⟨rfl, rfl⟩ ?_
        refine v_goto C 247 dX3_carries_166 (by decide) ?_
        refine v_istore_n (lv' := [(3, _), (2, _), (0, _), (1, _)]) C dX3_carries_247 rfl (by decide) rfl ?_
        refine v_iload_n C dX3_carries_248 1 rfl ?_
        refine v_ternI C 256 257 dX3_carries_252 dX3_carries_253 dX3_carries_256 (by decide) rfl (fun ht hf => v_if_ne C 256 dX3_carries_249 (by decide) (fun q => ht q) (fun q => hf q)) ?_
        exact v_zret C (bI_nar _) dX3_carries_257 (Nat.le_of_ble_eq_true rfl) (Nat.le_of_ble_eq_true rfl) (by unfold p_carries; rw [if_pos c3_1, if_pos c123_15]; exact ⟨si (bI_t c123_15), rfl⟩)
