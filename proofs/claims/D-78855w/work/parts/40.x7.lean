/-! the class's blends -/
set_option maxRecDepth 100000
abbrev q_xs (r : Nat → Int32) (kind : Int32) (lg k : Nat) : Prop := r (10 + 9 * k + 5) = kind ∧ (¬ q_spoilt r k) ∧ q_leads r lg (nI k)
def xog (r : Nat → Int32) (kind : Int32) (lg : Nat) : Nat → (Nat → Nat) × Nat
  | 0 => (fun _ => 0, 0)
  | k + 1 => if q_xs r kind lg k then (insO r k (xog r kind lg k).1 (xog r kind lg k).2, (xog r kind lg k).2 + 1) else xog r kind lg k
theorem xog_ok (r : Nat → Int32) (kind : Int32) (lg k : Nat) : (xog r kind lg k).2 ≤ k ∧ ∀ j, j < (xog r kind lg k).2 → (xog r kind lg k).1 j < k := by
  induction k with
  | zero => exact ⟨Nat.le_refl _, fun j hj => absurd hj (Nat.not_lt_zero j)⟩
  | succ k ih =>
    unfold xog
    by_cases h : q_xs r kind lg k
    · rw [if_pos h]
      refine ⟨by dsimp only; omega, fun j hj => ?_⟩
      dsimp only at hj ⊢
      have hp := atP_le r k (xog r kind lg k).1 (xog r kind lg k).2
      unfold insO
      by_cases h1 : j < atP r k (xog r kind lg k).1 (xog r kind lg k).2
      · rw [if_pos h1]
        have := ih.2 j (by omega)
        omega
      · rw [if_neg h1]
        by_cases h2 : j = atP r k (xog r kind lg k).1 (xog r kind lg k).2
        · rw [if_pos h2]; omega
        · rw [if_neg h2]
          have := ih.2 (j - 1) (by omega)
          omega
    · rw [if_neg h]
      exact ⟨by omega, fun j hj => by have := ih.2 j hj; omega⟩
def xuu (r : Nat → Int32) (og : Nat → Nat) : Nat → Int32
  | 0 => 0
  | k + 1 => xuu r og k + r (10 + 9 * og k + 3)
abbrev xmn (r : Nat → Int32) (o : Nat) (lf : Int32) : Int32 := if r (10 + 9 * o + 3) < lf then r (10 + 9 * o + 3) else lf
abbrev xt1 (r : Nat → Int32) (o : Nat) (x : (Nat → Int32) × Int32) : (Nat → Int32) × Int32 := (upd x.1 o (x.1 o + xmn r o x.2), x.2 - xmn r o x.2)
def xta (r : Nat → Int32) (og : Nat → Nat) : Nat → Nat → (Nat → Int32) × Int32 → (Nat → Int32) × Int32
  | 0, _, x => x
  | f + 1, k, x => if x.2 ≤ 0 then x else xta r og f (k + 1) (xt1 r (og k) x)
def xtb (r : Nat → Int32) (og : Nat → Nat) : Nat → (Nat → Int32) × Int32 → (Nat → Int32) × Int32
  | 0, x => x
  | f + 1, x => if x.2 ≤ 0 then x else xtb r og f (xt1 r (og f) x)
def xU (r : Nat → Int32) (og : Nat → Nat) (n : Nat) (am num : Int32) : Nat → Int32 := (xtb r og n ((xta r og n 0 (fun _ => 0, num)).1, am - num)).1
theorem in_n {k n : Nat} (h : k < n) (hn : n ≤ 1000) : 0 ≤ nI k ∧ nI k ≤ nI n - 1 := by
  refine ⟨Int32.not_lt.mp (dnI h (by omega)).1, ?_⟩
  rw [show n = (n - 1) + 1 by omega, nI_pred, nI_leI (by omega) (by omega)]; omega
theorem n_in {k n : Nat} (hk : k ≤ 1000) (hn : n ≤ 1000) (h : 0 ≤ nI k ∧ nI k ≤ nI n - 1) : k < n := by
  have := (isB_c (n := n) rfl hn h).2
  rwa [nI_clamp (by omega)] at this
theorem dec3 (t : Nat) : nI (t + 1) - 1 + -1 = nI t - 1 := by
  rw [nI_pred]; grind
def M_X0_isUseful : Md := (yX0_isUseful, cX0_isUseful, 5, (some .boolean), 4, 104, 0, 0)
theorem ok_X0_isUseful : MOKv M_X0_isUseful 3 := ⟨q873, qs35, q89, q874, ⟨by decide +kernel, by decide +kernel, by decide +kernel⟩⟩
set_option maxHeartbeats 4000000 in
theorem x_isUseful (l : Launch) (g : GT) (a A : Nat → Nat) (nb nl nc : Nat) (r : Nat → Int32) (b : Nat → Int64) (od : Nat → Int32) (us : Int32) (tk : Nat → Int32) (bn : Int32) (suf : va_W) (hnb : nb ≤ 8) (hnl : nl ≤ 3) (hnc : nc ≤ 6) (bi : Nat) (hb : bi < nb) (kind : Int32) (lg : Nat) (hl : lg < nl) : CtE l g M_X0_isUseful [.ref (a 0), .int (nI bi), .int kind, .int (nI lg)] (cw g a A nb nl nc r b od us tk bn suf) (some (.int (bI (q_xs r kind lg bi)))) (cw g a A nb nl nc r b od us tk bn suf) := by
  refine Ct.start2 (M := M_X0_isUseful) rfl [(0, .ref (a 0)), (1, .int (nI bi)), (2, .int kind), (3, .int (nI lg))] rfl (by decide +kernel) (Nat.le_of_ble_eq_true rfl) ?_
  intro p e s m args below meth c A9 C
  refine v_aload_n C dX0_isUseful_0 0 rfl ?_
  refine v_get C in_X0 rfl 0 rfl 0 (by decide) q483 (fun _ h => h) rfl dX0_isUseful_1 ?_
  refine v_getN C in_X1 rfl 3 rfl 0 (by decide) q155 (fun _ h => h) rfl dX0_isUseful_4 ?_
  refine v_iload_n C dX0_isUseful_7 1 rfl ?_
  refine v_zMV (ws' := (cw g a A nb nl nc r b od us tk bn suf)) C (j_get l g (A 1) (A 2) 8 (nI nb) nb (rfs A 10 nb) bi (A (10 + bi)) hb hnb (by decide) (rfs_at A 10 hb)) [_, _, _, _] rfl ok_J2_get rfl q359 rfl (Nat.le_of_ble_eq_true rfl) 0 rfl rfl rfl dX0_isUseful_8 (roomL rfl rfl) ⟨rfl, rfl⟩ rfl ?_
  refine v_castS (r := (RX4, TX4, 9)) C q360 (bi + 11) (cw_bin hb) rfl dX0_isUseful_11 ?_
  refine v_astore (lv' := [(4, _), (0, _), (1, _), (2, _), (3, _)]) C dX0_isUseful_14 (by decide) rfl ?_
  refine v_aload C dX0_isUseful_16 0 rfl ?_
  refine v_getN C in_X4 rfl (bi + 11) (cw_bin hb) 5 (by decide) q610 (fun _ h => h) rfl dX0_isUseful_18 ?_
  refine v_eqi (show _ = r (10 + 9 * bi + 5) from rfl) ?_
  refine v_iload_n C dX0_isUseful_21 3 rfl ?_
  refine v_icmp_ne C 61 dX0_isUseful_22 (by decide) (fun c22_1 => ?_) (fun c22_1 => ?_)
  · skip
    refine v_iconst (v := 0) C dX0_isUseful_61 (by decide) ?_
    exact v_zret C rfl dX0_isUseful_62 (Nat.le_of_ble_eq_true rfl) (Nat.le_of_ble_eq_true rfl) ⟨si (bI_f (fun q => c22_1 q.1)).symm, rfl⟩
  · skip
    refine v_aload C dX0_isUseful_25 0 rfl ?_
    refine v_zFV (ws' := (cw g a A nb nl nc r b od us tk bn suf)) C (x_isSpoilt l g _ (bv r bi)) ok_X4_isSpoilt rfl q778 rfl (Nat.le_of_ble_eq_true rfl) (bi + 11) (cw_bin hb) rfl rfl dX0_isUseful_27 (roomL rfl rfl) ⟨rfl, rfl⟩ (set_same (cw_bin hb)) ?_
    refine v_if_neB C 61 dX0_isUseful_30 (by decide) (fun c30_2 => ?_) (fun c30_2 => ?_)
    · skip
      refine v_iconst (v := 0) C dX0_isUseful_61 (by decide) ?_
      exact v_zret C rfl dX0_isUseful_62 (Nat.le_of_ble_eq_true rfl) (Nat.le_of_ble_eq_true rfl) ⟨si (bI_f (fun q => q.2.1 c30_2)).symm, rfl⟩
    · skip
      refine v_aload_n C dX0_isUseful_33 1 rfl ?_
      refine v_get C in_X0 rfl 0 rfl 0 (by decide) q483 (fun _ h => h) rfl dX0_isUseful_34 ?_
      refine v_getN C in_X1 rfl 3 rfl 1 (by decide) q157 (fun _ h => h) rfl dX0_isUseful_37 ?_
      refine v_iload_n C dX0_isUseful_40 4 rfl ?_
      refine v_zMV (ws' := (cw g a A nb nl nc r b od us tk bn suf)) C (j_get l g (A 3) (A 4) 3 (nI nl) nl (rfs A 20 nl) lg (A (20 + lg)) hl hnl (by decide) (rfs_at A 20 hl)) [_, _, _, _, _, _] rfl ok_J2_get rfl q359 rfl (Nat.le_of_ble_eq_true rfl) 0 rfl rfl rfl dX0_isUseful_41 (roomL rfl rfl) ⟨rfl, rfl⟩ rfl ?_
      refine v_castS (r := (RX5, TX5, 4)) C q365 (nb + lg + 11) (cw_leg hl) rfl dX0_isUseful_44 ?_
      refine v_getN C in_X5 rfl (nb + lg + 11) (cw_leg hl) 1 (by decide) q677 (fun _ h => h) rfl dX0_isUseful_47 ?_
      refine v_eqi (show _ = r (82 + 4 * lg + 1) from rfl) ?_
      refine v_iload_n C dX0_isUseful_50 2 rfl ?_
      refine v_callSp C (x_has l g _ _) ok_X0_has rfl q875 rfl (Nat.le_of_ble_eq_true rfl) dX0_isUseful_51 (roomL rfl rfl) ⟨rfl, rfl⟩ ?_
      refine v_ternB C 61 62 dX0_isUseful_54 dX0_isUseful_57 dX0_isUseful_58 dX0_isUseful_61 (by decide) (by decide) rfl ?_
      exact v_zret C (bI_nar _) dX0_isUseful_62 (Nat.le_of_ble_eq_true rfl) (Nat.le_of_ble_eq_true rfl) ⟨si (bI_iff ⟨fun q => ⟨c22_1, c30_2, q⟩, fun q => q.2.2⟩), rfl⟩
def M_X0_orderUseful : Md := (yX0_orderUseful, cX0_orderUseful, 5, none, 5, 128, 0, 0)
theorem ok_X0_orderUseful : MOKv M_X0_orderUseful 2 := ⟨q869, qs34, q89, q870, ⟨by decide +kernel, by decide +kernel, by decide +kernel⟩⟩
set_option maxHeartbeats 4000000 in
theorem x_orderUseful (l : Launch) (g : GT) (a A : Nat → Nat) (nb nl nc : Nat) (r : Nat → Int32) (b : Nat → Int64) (od : Nat → Int32) (us : Int32) (tk : Nat → Int32) (bn : Int32) (suf : va_W) (hnb : nb ≤ 8) (hnl : nl ≤ 3) (hnc : nc ≤ 6) (kind : Int32) (lg : Nat) (hl : lg < nl) : Ct l g M_X0_orderUseful [.ref (a 0), .int kind, .int (nI lg)] (cw g a A nb nl nc r b od us tk bn suf) (fun rv w => rv = none ∧ ∃ f, w = cw g a A nb nl nc r b f (nI (xog r kind lg nb).2) tk bn suf ∧ ordOk f (xog r kind lg nb).1 (xog r kind lg nb).2) := by
  refine Ct.start2 (M := M_X0_orderUseful) rfl [(0, .ref (a 0)), (1, .int kind), (2, .int (nI lg))] rfl (by decide +kernel) (Nat.le_of_ble_eq_true rfl) ?_
  intro p e s m args below meth c A9 C
  refine v_aload_n C dX0_orderUseful_0 0 rfl ?_
  refine v_iconst (v := 0) C dX0_orderUseful_1 (by decide) ?_
  refine v_put (ws' := (cw g a A nb nl nc r b od 0 tk bn suf)) C in_X0 tyX0 tyX0_ok nmX0 rfl 0 rfl 4 (by decide) q487 (fun _ h => h) rfl rfl rfl (Nat.le_of_ble_eq_true rfl) dX0_orderUseful_2 rfl ?_
  refine v_iconst (v := 0) C dX0_orderUseful_5 (by decide) ?_
  refine v_istore_n (lv' := [(3, _), (0, _), (1, _), (2, _)]) C dX0_orderUseful_6 rfl (by decide) rfl ?_
  refine v_while (α := Nat × (Nat → Int32)) (fun x => nb - x.1) (fun x => x.1 ≤ nb ∧ ordOk x.2 (xog r kind lg x.1).1 (xog r kind lg x.1).2) (fun x => [(3, .int (nI x.1)), (0, .ref (a 0)), (1, .int kind), (2, .int (nI lg))]) (fun x => cw g a A nb nl nc r b x.2 (nI (xog r kind lg x.1).2) tk bn suf) (0, od) rfl rfl ⟨Nat.zero_le _, fun j hj => absurd hj (Nat.not_lt_zero j)⟩ ?_
  rintro ⟨k, f⟩ ⟨hk, hf⟩ ih
  dsimp only at hk hf ih ⊢
  obtain ⟨hcn, hog⟩ := xog_ok r kind lg k
  refine v_iload_n C dX0_orderUseful_7 0 rfl ?_
  refine v_aload_n C dX0_orderUseful_8 1 rfl ?_
  refine v_get C in_X0 rfl 0 rfl 0 (by decide) q483 (fun _ h => h) rfl dX0_orderUseful_9 ?_
  refine v_getN C in_X1 rfl 3 rfl 0 (by decide) q155 (fun _ h => h) rfl dX0_orderUseful_12 ?_
  refine v_zMV (ws' := (cw g a A nb nl nc r b f (nI (xog r kind lg k).2) tk bn suf)) C (j_size l g (A 1) (A 2) 8 (nI nb) nb (rfs A 10 nb)) [_, _, _, _] rfl ok_J2_size rfl q269 rfl (Nat.le_of_ble_eq_true rfl) 0 rfl rfl rfl dX0_orderUseful_15 (roomL rfl rfl) ⟨rfl, rfl⟩ rfl ?_
  refine v_icmp_ge C 133 dX0_orderUseful_18 (by decide) (fun c18_1 => ?_) (fun c18_1 => ?_)
  · skip
    have hkn := (nI_leI (by omega) (by omega)).mp c18_1
    exact v_vret C dX0_orderUseful_133 (Nat.le_of_ble_eq_true rfl) (Nat.le_of_ble_eq_true rfl) ⟨rfl, f, by rw [show k = nb by omega], by rw [show k = nb by omega] at hf; exact hf⟩
  · skip
    have hkn : k < nb := Nat.lt_of_le_of_ne hk (fun q => c18_1 (by rw [q]; exact Int32.le_refl _))
    refine v_aload_n C dX0_orderUseful_21 1 rfl ?_
    refine v_iload_n C dX0_orderUseful_22 0 rfl ?_
    refine v_iload_n C dX0_orderUseful_23 2 rfl ?_
    refine v_iload_n C dX0_orderUseful_24 3 rfl ?_
    refine v_callVw C (x_isUseful l g a A nb nl nc r b f (nI (xog r kind lg k).2) tk bn suf hnb hnl hnc k hkn _ lg hl) ok_X0_isUseful rfl q871 rfl (Nat.le_of_ble_eq_true rfl) 0 rfl rfl rfl dX0_orderUseful_25 (roomL rfl rfl) ⟨rfl, rfl⟩ ?_
    refine v_if_eqB C 127 dX0_orderUseful_28 (by decide) (fun c28_2 => ?_) (fun c28_2 => ?_)
    · skip
      refine v_iinc (lv' := [(3, _), (0, _), (1, _), (2, _)]) C dX0_orderUseful_127 0 rfl (nI_1 k) (by decide) rfl ?_
      refine v_goto C 7 dX0_orderUseful_130 (by decide) ?_
      have hsel : ¬ q_xs r kind lg k := c28_2
      have e1 := ih (k + 1, f) ⟨by dsimp only; omega, by dsimp only; rw [xog, if_neg hsel]; exact hf⟩ (by dsimp only; omega)
      dsimp only at e1
      rw [xog, if_neg hsel] at e1
      exact e1
    · skip
      refine v_aload_n C dX0_orderUseful_31 1 rfl ?_
      refine v_get C in_X0 rfl 0 rfl 4 (by decide) q487 (fun _ h => h) rfl dX0_orderUseful_32 ?_
      refine v_istore (lv' := [(4, _), (3, _), (0, _), (1, _), (2, _)]) C dX0_orderUseful_35 (by decide) rfl ?_
      refine v_while (α := Nat × (Nat → Int32)) (fun x => x.1) (fun x => x.1 ≤ (xog r kind lg k).2 ∧ (∀ j, j < x.1 → x.2 j = nI ((xog r kind lg k).1 j)) ∧ (∀ j, x.1 < j → j ≤ (xog r kind lg k).2 → x.2 j = nI ((xog r kind lg k).1 (j - 1))) ∧ atP r k (xog r kind lg k).1 (xog r kind lg k).2 = atP r k (xog r kind lg k).1 x.1) (fun x => [(4, .int (nI x.1)), (3, .int (nI k)), (0, .ref (a 0)), (1, .int kind), (2, .int (nI lg))]) (fun x => cw g a A nb nl nc r b x.2 (nI (xog r kind lg k).2) tk bn suf) ((xog r kind lg k).2, f) rfl rfl ⟨Nat.le_refl _, hf, fun j h1 h2 => absurd h1 (by dsimp only; omega), rfl⟩ ?_
      rintro ⟨at_, f2⟩ ⟨hat, hlo, hhi, hend⟩ ih2
      dsimp only at hat hlo hhi hend ih2 ⊢
      refine v_iload C dX0_orderUseful_37 0 rfl ?_
      refine v_if_le C 109 dX0_orderUseful_39 (by decide) (fun c39_3 => ?_) (fun c39_3 => ?_)
      · skip
        have h0 : at_ = 0 := by
          have := (nI_leI (b := 0) (by omega) (by decide)).mp c39_3
          omega
        have hend : atP r k (xog r kind lg k).1 (xog r kind lg k).2 = at_ := by rw [hend, h0]; rfl
        refine v_aload_n C dX0_orderUseful_109 2 rfl ?_
        refine v_get C in_X0 rfl 0 rfl 3 (by decide) q486 (fun _ h => h) rfl dX0_orderUseful_110 ?_
        refine v_iload C dX0_orderUseful_113 0 rfl ?_
        refine v_iload_n C dX0_orderUseful_115 1 rfl ?_
        refine v_iast (ws' := (cw g a A nb nl nc r b (upd f2 at_ (nI k)) (nI (xog r kind lg k).2) tk bn suf)) C dX0_orderUseful_116 1 rfl (ixn (by omega) (by decide)) rfl ?_
        refine v_aload_n C dX0_orderUseful_117 2 rfl ?_
        refine v_dup C dX0_orderUseful_118 rfl ?_
        refine v_get C in_X0 rfl 0 rfl 4 (by decide) q487 (fun _ h => h) rfl dX0_orderUseful_119 ?_
        refine v_iconst (v := 1) C dX0_orderUseful_122 (by decide) ?_
        refine v_iadd C dX0_orderUseful_123 ?_
        refine v_put (ws' := (cw g a A nb nl nc r b (upd f2 at_ (nI k)) (nI (xog r kind lg k).2 + 1) tk bn suf)) C in_X0 tyX0 tyX0_ok nmX0 rfl 0 rfl 4 (by decide) q487 (fun _ h => h) rfl rfl rfl (Nat.le_of_ble_eq_true rfl) dX0_orderUseful_124 rfl ?_
        refine v_iinc (lv' := [(3, _), (4, _), (0, _), (1, _), (2, _)]) C dX0_orderUseful_127 1 rfl (nI_1 k) (by decide) rfl ?_
        refine v_goto C 7 dX0_orderUseful_130 (by decide) ?_
        refine v_lvp (lv' := [(3, _), (0, _), (1, _), (2, _)]) [0, 2, 3, 4] rfl ?_
        have hsel : q_xs r kind lg k := c28_2
        have e1 := ih (k + 1, upd f2 at_ (nI k)) ⟨by dsimp only; omega, by
          dsimp only
          rw [xog, if_pos hsel]
          intro j hj
          dsimp only at hj ⊢
          unfold insO
          rw [hend]
          by_cases j1 : j < at_
          · rw [if_pos j1, pk_un (by omega)]; exact hlo j j1
          · rw [if_neg j1]
            by_cases j2 : j = at_
            · rw [if_pos j2, j2, pk_us]
            · rw [if_neg j2, pk_un j2]; exact hhi j (by omega) (by omega)⟩ (by dsimp only; omega)
        dsimp only at e1
        rw [xog, if_pos hsel] at e1
        dsimp only at e1
        rw [← nI_1 (xog r kind lg k).2] at e1
        exact e1
      · skip
        have h0 : 0 < at_ := by
          rcases Nat.eq_zero_or_pos at_ with q | q
          · exact absurd (by rw [q]; exact Int32.le_refl _) c39_3
          · exact q
        obtain ⟨at_, rfl⟩ : ∃ z, at_ = z + 1 := ⟨at_ - 1, by omega⟩
        refine v_aload_n C dX0_orderUseful_42 2 rfl ?_
        refine v_get C in_X0 rfl 0 rfl 0 (by decide) q483 (fun _ h => h) rfl dX0_orderUseful_43 ?_
        refine v_getN C in_X1 rfl 3 rfl 0 (by decide) q155 (fun _ h => h) rfl dX0_orderUseful_46 ?_
        refine v_aload_n C dX0_orderUseful_49 2 rfl ?_
        refine v_get C in_X0 rfl 0 rfl 3 (by decide) q486 (fun _ h => h) rfl dX0_orderUseful_50 ?_
        refine v_iload C dX0_orderUseful_53 0 rfl ?_
        refine v_iconst (v := 1) C dX0_orderUseful_55 (by decide) ?_
        refine v_isub C dX0_orderUseful_56 ?_
        refine v_eqi (nI_pred at_) ?_
        refine v_iald C dX0_orderUseful_57 1 rfl (ixn (by omega) (by decide)) ?_
        refine v_eqi (hlo at_ (by omega)) ?_
        have hob := hog at_ (by omega)
        refine v_zMV (ws' := (cw g a A nb nl nc r b f2 (nI (xog r kind lg k).2) tk bn suf)) C (j_get l g (A 1) (A 2) 8 (nI nb) nb (rfs A 10 nb) ((xog r kind lg k).1 at_) (A (10 + ((xog r kind lg k).1 at_))) (Nat.lt_trans hob hkn) hnb (by decide) (rfs_at A 10 (Nat.lt_trans hob hkn))) [_, _, _, _] rfl ok_J2_get rfl q359 rfl (Nat.le_of_ble_eq_true rfl) 0 rfl rfl rfl dX0_orderUseful_58 (roomL rfl rfl) ⟨rfl, rfl⟩ rfl ?_
        refine v_castS (r := (RX4, TX4, 9)) C q360 (((xog r kind lg k).1 at_) + 11) (cw_bin (Nat.lt_trans hob hkn)) rfl dX0_orderUseful_61 ?_
        refine v_zFV (ws' := (cw g a A nb nl nc r b f2 (nI (xog r kind lg k).2) tk bn suf)) C (x_moisture l g _ (bv r ((xog r kind lg k).1 at_))) ok_X4_moisture rfl q474 rfl (Nat.le_of_ble_eq_true rfl) (((xog r kind lg k).1 at_) + 11) (cw_bin (Nat.lt_trans hob hkn)) rfl rfl dX0_orderUseful_64 (roomL rfl rfl) ⟨rfl, rfl⟩ (set_same (cw_bin (Nat.lt_trans hob hkn))) ?_
        refine v_aload_n C dX0_orderUseful_67 2 rfl ?_
        refine v_get C in_X0 rfl 0 rfl 0 (by decide) q483 (fun _ h => h) rfl dX0_orderUseful_68 ?_
        refine v_getN C in_X1 rfl 3 rfl 0 (by decide) q155 (fun _ h => h) rfl dX0_orderUseful_71 ?_
        refine v_iload_n C dX0_orderUseful_74 1 rfl ?_
        refine v_zMV (ws' := (cw g a A nb nl nc r b f2 (nI (xog r kind lg k).2) tk bn suf)) C (j_get l g (A 1) (A 2) 8 (nI nb) nb (rfs A 10 nb) k (A (10 + k)) hkn hnb (by decide) (rfs_at A 10 hkn)) [_, _, _, _] rfl ok_J2_get rfl q359 rfl (Nat.le_of_ble_eq_true rfl) 0 rfl rfl rfl dX0_orderUseful_75 (roomL rfl rfl) ⟨rfl, rfl⟩ rfl ?_
        refine v_castS (r := (RX4, TX4, 9)) C q360 (k + 11) (cw_bin hkn) rfl dX0_orderUseful_78 ?_
        refine v_zFV (ws' := (cw g a A nb nl nc r b f2 (nI (xog r kind lg k).2) tk bn suf)) C (x_moisture l g _ (bv r k)) ok_X4_moisture rfl q474 rfl (Nat.le_of_ble_eq_true rfl) (k + 11) (cw_bin hkn) rfl rfl dX0_orderUseful_81 (roomL rfl rfl) ⟨rfl, rfl⟩ (set_same (cw_bin hkn)) ?_
        refine v_icmp_ge C 109 dX0_orderUseful_84 (by decide) (fun c84_4 => ?_) (fun c84_4 => ?_)
        · skip
          have hdd : ¬ p_moist r ((xog r kind lg k).1 at_) < p_moist r k := Int32.not_lt.mpr c84_4
          have hend : atP r k (xog r kind lg k).1 (xog r kind lg k).2 = at_ + 1 := by rw [hend, atP, if_neg hdd]
          clear ih2 hob
          generalize at_ + 1 = at_ at *
          refine v_aload_n C dX0_orderUseful_109 2 rfl ?_
          refine v_get C in_X0 rfl 0 rfl 3 (by decide) q486 (fun _ h => h) rfl dX0_orderUseful_110 ?_
          refine v_iload C dX0_orderUseful_113 0 rfl ?_
          refine v_iload_n C dX0_orderUseful_115 1 rfl ?_
          refine v_iast (ws' := (cw g a A nb nl nc r b (upd f2 at_ (nI k)) (nI (xog r kind lg k).2) tk bn suf)) C dX0_orderUseful_116 1 rfl (ixn (by omega) (by decide)) rfl ?_
          refine v_aload_n C dX0_orderUseful_117 2 rfl ?_
          refine v_dup C dX0_orderUseful_118 rfl ?_
          refine v_get C in_X0 rfl 0 rfl 4 (by decide) q487 (fun _ h => h) rfl dX0_orderUseful_119 ?_
          refine v_iconst (v := 1) C dX0_orderUseful_122 (by decide) ?_
          refine v_iadd C dX0_orderUseful_123 ?_
          refine v_put (ws' := (cw g a A nb nl nc r b (upd f2 at_ (nI k)) (nI (xog r kind lg k).2 + 1) tk bn suf)) C in_X0 tyX0 tyX0_ok nmX0 rfl 0 rfl 4 (by decide) q487 (fun _ h => h) rfl rfl rfl (Nat.le_of_ble_eq_true rfl) dX0_orderUseful_124 rfl ?_
          refine v_iinc (lv' := [(3, _), (4, _), (0, _), (1, _), (2, _)]) C dX0_orderUseful_127 1 rfl (nI_1 k) (by decide) rfl ?_
          refine v_goto C 7 dX0_orderUseful_130 (by decide) ?_
          refine v_lvp (lv' := [(3, _), (0, _), (1, _), (2, _)]) [0, 2, 3, 4] rfl ?_
          have hsel : q_xs r kind lg k := c28_2
          have e1 := ih (k + 1, upd f2 at_ (nI k)) ⟨by dsimp only; omega, by
            dsimp only
            rw [xog, if_pos hsel]
            intro j hj
            dsimp only at hj ⊢
            unfold insO
            rw [hend]
            by_cases j1 : j < at_
            · rw [if_pos j1, pk_un (by omega)]; exact hlo j j1
            · rw [if_neg j1]
              by_cases j2 : j = at_
              · rw [if_pos j2, j2, pk_us]
              · rw [if_neg j2, pk_un j2]; exact hhi j (by omega) (by omega)⟩ (by dsimp only; omega)
          dsimp only at e1
          rw [xog, if_pos hsel] at e1
          dsimp only at e1
          rw [← nI_1 (xog r kind lg k).2] at e1
          exact e1
        · skip
          have hdd : p_moist r ((xog r kind lg k).1 at_) < p_moist r k := Int32.not_le.mp c84_4
          refine v_aload_n C dX0_orderUseful_87 2 rfl ?_
          refine v_get C in_X0 rfl 0 rfl 3 (by decide) q486 (fun _ h => h) rfl dX0_orderUseful_88 ?_
          refine v_iload C dX0_orderUseful_91 0 rfl ?_
          refine v_aload_n C dX0_orderUseful_93 2 rfl ?_
          refine v_get C in_X0 rfl 0 rfl 3 (by decide) q486 (fun _ h => h) rfl dX0_orderUseful_94 ?_
          refine v_iload C dX0_orderUseful_97 0 rfl ?_
          refine v_iconst (v := 1) C dX0_orderUseful_99 (by decide) ?_
          refine v_isub C dX0_orderUseful_100 ?_
          refine v_eqi (nI_pred at_) ?_
          refine v_iald C dX0_orderUseful_101 1 rfl (ixn (by omega) (by decide)) ?_
          refine v_iast (ws' := (cw g a A nb nl nc r b (upd f2 (at_ + 1) (f2 at_)) (nI (xog r kind lg k).2) tk bn suf)) C dX0_orderUseful_102 1 rfl (ixn (by omega) (by decide)) rfl ?_
          refine v_iinc (lv' := [(4, _), (3, _), (0, _), (1, _), (2, _)]) C dX0_orderUseful_103 0 rfl (pk_m1 at_) (by decide) rfl ?_
          refine v_goto C 37 dX0_orderUseful_106 (by decide) ?_
          have e2 := ih2 (at_, upd f2 (at_ + 1) (f2 at_)) ⟨by dsimp only; omega, fun j hj => by dsimp only at hj ⊢; rw [pk_un (by omega)]; exact hlo j (by omega), fun j h1 h2 => by
            dsimp only at h1 h2 ⊢
            by_cases j1 : j = at_ + 1
            · rw [j1, pk_us]; exact hlo at_ (by omega)
            · rw [pk_un j1]; exact hhi j (by omega) h2, by dsimp only; rw [hend, atP, if_pos hdd]⟩ (by dsimp only; omega)
          exact e2
def M_X0_usefulUnits : Md := (yX0_usefulUnits, cX0_usefulUnits, 3, (some .int), 4, 104, 0, 0)
theorem ok_X0_usefulUnits : MOKv M_X0_usefulUnits 0 := ⟨q878, qs36, q89, q879, ⟨by decide +kernel, by decide +kernel, by decide +kernel⟩⟩
set_option maxHeartbeats 4000000 in
theorem x_usefulUnits (l : Launch) (g : GT) (a A : Nat → Nat) (nb nl nc : Nat) (r : Nat → Int32) (b : Nat → Int64) (od : Nat → Int32) (us : Int32) (tk : Nat → Int32) (bn : Int32) (suf : va_W) (hnb : nb ≤ 8) (hnl : nl ≤ 3) (hnc : nc ≤ 6) (n : Nat) (og : Nat → Nat) (hn8 : n ≤ 8) (hus : us = nI n) (hord : ordOk od og n) (hog : ∀ k, k < n → og k < nb) : CtE l g M_X0_usefulUnits [.ref (a 0)] (cw g a A nb nl nc r b od us tk bn suf) (some (.int (xuu r og n))) (cw g a A nb nl nc r b od (nI n) tk bn suf) := by
  refine Ct.start2 (M := M_X0_usefulUnits) rfl [(0, .ref (a 0))] rfl (by decide +kernel) (Nat.le_of_ble_eq_true rfl) ?_
  intro p e s m args below meth c A9 C
  subst hus
  refine v_iconst (v := 0) C dX0_usefulUnits_0 (by decide) ?_
  refine v_istore_n (lv' := [(1, _), (0, _)]) C dX0_usefulUnits_1 rfl (by decide) rfl ?_
  refine v_iconst (v := 0) C dX0_usefulUnits_2 (by decide) ?_
  refine v_istore_n (lv' := [(2, _), (1, _), (0, _)]) C dX0_usefulUnits_3 rfl (by decide) rfl ?_
  refine v_loop 0 n (fun k => [(2, .int (nI k)), (1, .int (xuu r og k)), (0, .ref (a 0))]) (fun k => (cw g a A nb nl nc r b od (nI n) tk bn suf)) rfl rfl (by omega) ?_ ?_
  · skip
    refine v_iload_n C dX0_usefulUnits_4 0 rfl ?_
    refine v_aload_n C dX0_usefulUnits_5 2 rfl ?_
    refine v_get C in_X0 rfl 0 rfl 4 (by decide) q487 (fun _ h => h) rfl dX0_usefulUnits_6 ?_
    refine v_icmp_ge C 43 dX0_usefulUnits_9 (by decide) (fun c9_1 => ?_) (fun c9_1 => ?_)
    · skip
      refine v_iload_n C dX0_usefulUnits_43 1 rfl ?_
      exact v_iret C dX0_usefulUnits_44 (Nat.le_of_ble_eq_true rfl) (Nat.le_of_ble_eq_true rfl) ⟨rfl, rfl⟩
    · exact absurd (Int32.le_refl _) c9_1
  · intro k hk hk0 hback
    refine v_iload_n C dX0_usefulUnits_4 0 rfl ?_
    refine v_aload_n C dX0_usefulUnits_5 2 rfl ?_
    refine v_get C in_X0 rfl 0 rfl 4 (by decide) q487 (fun _ h => h) rfl dX0_usefulUnits_6 ?_
    refine v_icmp_ge C 43 dX0_usefulUnits_9 (by decide) (fun c9_2 => ?_) (fun c9_2 => ?_)
    · exact absurd c9_2 (nI_ge hk (by first | decide | omega))
    · skip
      refine v_iload_n C dX0_usefulUnits_12 1 rfl ?_
      refine v_aload_n C dX0_usefulUnits_13 2 rfl ?_
      refine v_get C in_X0 rfl 0 rfl 0 (by decide) q483 (fun _ h => h) rfl dX0_usefulUnits_14 ?_
      refine v_getN C in_X1 rfl 3 rfl 0 (by decide) q155 (fun _ h => h) rfl dX0_usefulUnits_17 ?_
      refine v_aload_n C dX0_usefulUnits_20 2 rfl ?_
      refine v_get C in_X0 rfl 0 rfl 3 (by decide) q486 (fun _ h => h) rfl dX0_usefulUnits_21 ?_
      refine v_iload_n C dX0_usefulUnits_24 0 rfl ?_
      refine v_iald C dX0_usefulUnits_25 1 rfl (ixn (by omega) (by decide)) ?_
      refine v_eqi (hord k hk) ?_
      refine v_zMV (ws' := (cw g a A nb nl nc r b od (nI n) tk bn suf)) C (j_get l g (A 1) (A 2) 8 (nI nb) nb (rfs A 10 nb) (og k) (A (10 + (og k))) (hog k hk) hnb (by decide) (rfs_at A 10 (hog k hk))) [_, _, _, _] rfl ok_J2_get rfl q359 rfl (Nat.le_of_ble_eq_true rfl) 0 rfl rfl rfl dX0_usefulUnits_26 (roomL rfl rfl) ⟨rfl, rfl⟩ rfl ?_
      refine v_castS (r := (RX4, TX4, 9)) C q360 ((og k) + 11) (cw_bin (hog k hk)) rfl dX0_usefulUnits_29 ?_
      refine v_getN C in_X4 rfl ((og k) + 11) (cw_bin (hog k hk)) 3 (by decide) q605 (fun _ h => h) rfl dX0_usefulUnits_32 ?_
      refine v_eqi (show _ = r (10 + 9 * (og k) + 3) from rfl) ?_
      refine v_iadd C dX0_usefulUnits_35 ?_
      refine v_istore_n (lv' := [(1, _), (2, _), (0, _)]) C dX0_usefulUnits_36 rfl (by decide) rfl ?_
      refine v_iinc (lv' := [(2, _), (1, _), (0, _)]) C dX0_usefulUnits_37 1 rfl (nI_1 k) (by decide) rfl ?_
      refine v_goto C 4 dX0_usefulUnits_40 (by decide) ?_
      exact hback
def M_X0_takeFrom : Md := (yX0_takeFrom, cX0_takeFrom, 7, none, 4, 104, 0, 0)
theorem ok_X0_takeFrom : MOKv M_X0_takeFrom 3 := ⟨q886, qs38, q89, q887, ⟨by decide +kernel, by decide +kernel, by decide +kernel⟩⟩
set_option maxHeartbeats 4000000 in
theorem x_takeA (l : Launch) (g : GT) (a A : Nat → Nat) (nb nl nc : Nat) (r : Nat → Int32) (b : Nat → Int64) (od : Nat → Int32) (us : Int32) (tk : Nat → Int32) (bn : Int32) (suf : va_W) (hnb : nb ≤ 8) (hnl : nl ≤ 3) (hnc : nc ≤ 6) (n : Nat) (og : Nat → Nat) (hn8 : n ≤ 8) (hus : us = nI n) (hord : ordOk od og n) (hog : ∀ k, k < n → og k < nb) (un : Int32) : CtE l g M_X0_takeFrom [.ref (a 0), .int 0, .int 1, .int un] (cw g a A nb nl nc r b od us tk bn suf) none (cw g a A nb nl nc r b od (nI n) (xta r og n 0 (tk, un)).1 bn suf) := by
  refine Ct.start2 (M := M_X0_takeFrom) rfl [(0, .ref (a 0)), (1, .int 0), (2, .int 1), (3, .int un)] rfl (by decide +kernel) (Nat.le_of_ble_eq_true rfl) ?_
  intro p e s m args below meth c A9 C
  subst hus
  refine v_iload_n C dX0_takeFrom_0 3 rfl ?_
  refine v_istore (lv' := [(4, _), (0, _), (1, _), (2, _), (3, _)]) C dX0_takeFrom_1 (by decide) rfl ?_
  refine v_iload_n C dX0_takeFrom_3 2 rfl ?_
  refine v_istore (lv' := [(5, _), (4, _), (0, _), (1, _), (2, _), (3, _)]) C dX0_takeFrom_4 (by decide) rfl ?_
  refine v_while (α := Nat × Nat × (Nat → Int32) × Int32) (fun x => x.1) (fun x => x.1 + x.2.1 = n ∧ xta r og n 0 (tk, un) = xta r og x.1 x.2.1 x.2.2) (fun x => [(5, .int (nI x.2.1)), (4, .int x.2.2.2), (0, .ref (a 0)), (1, .int 0), (2, .int 1), (3, .int un)]) (fun x => cw g a A nb nl nc r b od (nI n) x.2.2.1 bn suf) (n, 0, tk, un) rfl rfl ⟨rfl, rfl⟩ ?_
  rintro ⟨f, k, u, lf⟩ ⟨h1, h2⟩ ih
  dsimp only at h1 h2 ih ⊢
  refine v_iload C dX0_takeFrom_6 0 rfl ?_
  refine v_iconst (v := 0) C dX0_takeFrom_8 (by decide) ?_
  refine v_aload_n C dX0_takeFrom_9 2 rfl ?_
  refine v_get C in_X0 rfl 0 rfl 4 (by decide) q487 (fun _ h => h) rfl dX0_takeFrom_10 ?_
  refine v_iconst (v := 1) C dX0_takeFrom_13 (by decide) ?_
  refine v_isub C dX0_takeFrom_14 ?_
  refine v_callSp C (x_isIn l g _ _ _) ok_X0_isIn rfl q276 rfl (Nat.le_of_ble_eq_true rfl) dX0_takeFrom_15 (roomL rfl rfl) ⟨rfl, rfl⟩ ?_
  refine v_if_eqB C 89 dX0_takeFrom_18 (by decide) (fun c18_1 => ?_) (fun c18_1 => ?_)
  · skip
    have hf0 : f = 0 := by rcases Nat.eq_zero_or_pos f with q | q; exact q; exact absurd (in_n (by omega) (by omega)) c18_1
    subst hf0
    have hx := h2
    rw [xta] at hx
    exact v_vret C dX0_takeFrom_89 (Nat.le_of_ble_eq_true rfl) (Nat.le_of_ble_eq_true rfl) ⟨rfl, by rw [hx]⟩
  · skip
    have hkn : k < n := n_in (by omega) (by omega) c18_1
    obtain ⟨f, rfl⟩ : ∃ y, f = y + 1 := ⟨f - 1, by omega⟩
    refine v_iload C dX0_takeFrom_21 1 rfl ?_
    refine v_if_le C 89 dX0_takeFrom_23 (by decide) (fun c23_2 => ?_) (fun c23_2 => ?_)
    · skip
      have hx := h2
      rw [xta, if_pos c23_2] at hx
      exact v_vret C dX0_takeFrom_89 (Nat.le_of_ble_eq_true rfl) (Nat.le_of_ble_eq_true rfl) ⟨rfl, by rw [hx]⟩
    · skip
      refine v_iload C dX0_takeFrom_26 1 rfl ?_
      refine v_aload_n C dX0_takeFrom_28 2 rfl ?_
      refine v_get C in_X0 rfl 0 rfl 0 (by decide) q483 (fun _ h => h) rfl dX0_takeFrom_29 ?_
      refine v_getN C in_X1 rfl 3 rfl 0 (by decide) q155 (fun _ h => h) rfl dX0_takeFrom_32 ?_
      refine v_aload_n C dX0_takeFrom_35 2 rfl ?_
      refine v_get C in_X0 rfl 0 rfl 3 (by decide) q486 (fun _ h => h) rfl dX0_takeFrom_36 ?_
      refine v_iload C dX0_takeFrom_39 0 rfl ?_
      refine v_iald C dX0_takeFrom_41 1 rfl (ixn (by omega) (by decide)) ?_
      refine v_eqi (hord k hkn) ?_
      have hok := hog k hkn
      refine v_zMV (ws' := (cw g a A nb nl nc r b od (nI n) u bn suf)) C (j_get l g (A 1) (A 2) 8 (nI nb) nb (rfs A 10 nb) (og k) (A (10 + (og k))) (hog k hkn) hnb (by decide) (rfs_at A 10 (hog k hkn))) [_, _, _, _] rfl ok_J2_get rfl q359 rfl (Nat.le_of_ble_eq_true rfl) 0 rfl rfl rfl dX0_takeFrom_42 (roomL rfl rfl) ⟨rfl, rfl⟩ rfl ?_
      refine v_castS (r := (RX4, TX4, 9)) C q360 ((og k) + 11) (cw_bin (hog k hkn)) rfl dX0_takeFrom_45 ?_
      refine v_getN C in_X4 rfl ((og k) + 11) (cw_bin (hog k hkn)) 3 (by decide) q605 (fun _ h => h) rfl dX0_takeFrom_48 ?_
      refine v_eqi (show _ = r (10 + 9 * (og k) + 3) from rfl) ?_
      refine v_mmin C q888 q480 q102 q481 dX0_takeFrom_51 (Nat.le_of_ble_eq_true rfl) (Nat.le_of_ble_eq_true rfl) (Nat.le_of_ble_eq_true rfl) (Nat.le_of_ble_eq_true rfl) ?_
      refine v_istore (lv' := [(6, _), (5, _), (4, _), (0, _), (1, _), (2, _), (3, _)]) C dX0_takeFrom_54 (by decide) rfl ?_
      refine v_aload_n C dX0_takeFrom_56 3 rfl ?_
      refine v_get C in_X0 rfl 0 rfl 5 (by decide) q488 (fun _ h => h) rfl dX0_takeFrom_57 ?_
      refine v_aload_n C dX0_takeFrom_60 3 rfl ?_
      refine v_get C in_X0 rfl 0 rfl 3 (by decide) q486 (fun _ h => h) rfl dX0_takeFrom_61 ?_
      refine v_iload C dX0_takeFrom_64 1 rfl ?_
      refine v_iald C dX0_takeFrom_66 1 rfl (ixn (by omega) (by decide)) ?_
      refine v_eqi (hord k hkn) ?_
      refine v_dup2_11 C dX0_takeFrom_67 rfl rfl ?_
      refine v_iald C dX0_takeFrom_68 2 rfl (ixn (by omega) (by decide)) ?_
      refine v_iload C dX0_takeFrom_69 0 rfl ?_
      refine v_iadd C dX0_takeFrom_71 ?_
      refine v_iast (ws' := (cw g a A nb nl nc r b od (nI n) (upd u (og k) (u (og k) + xmn r (og k) lf)) bn suf)) C dX0_takeFrom_72 2 rfl (ixn (by omega) (by decide)) rfl ?_
      refine v_iload C dX0_takeFrom_73 2 rfl ?_
      refine v_iload C dX0_takeFrom_75 0 rfl ?_
      refine v_isub C dX0_takeFrom_77 ?_
      refine v_istore (lv' := [(4, _), (6, _), (5, _), (0, _), (1, _), (2, _), (3, _)]) C dX0_takeFrom_78 (by decide) rfl ?_
      refine v_iload C dX0_takeFrom_80 2 rfl ?_
      refine v_iload_n C dX0_takeFrom_82 5 rfl ?_
      refine v_iadd C dX0_takeFrom_83 ?_
      refine v_eqi (nI_1 k) ?_
      refine v_istore (lv' := [(5, _), (4, _), (6, _), (0, _), (1, _), (2, _), (3, _)]) C dX0_takeFrom_84 (by decide) rfl ?_
      refine v_goto C 6 dX0_takeFrom_86 (by decide) ?_
      refine v_lvp (lv' := [(5, _), (4, _), (0, _), (1, _), (2, _), (3, _)]) [0, 1, 3, 4, 5, 6] rfl ?_
      exact ih (f, k + 1, xt1 r (og k) (u, lf)) ⟨by dsimp only; omega, by dsimp only; rw [h2, xta, if_neg c23_2]⟩ (by dsimp only; omega)
set_option maxHeartbeats 4000000 in
theorem x_takeB (l : Launch) (g : GT) (a A : Nat → Nat) (nb nl nc : Nat) (r : Nat → Int32) (b : Nat → Int64) (od : Nat → Int32) (us : Int32) (tk : Nat → Int32) (bn : Int32) (suf : va_W) (hnb : nb ≤ 8) (hnl : nl ≤ 3) (hnc : nc ≤ 6) (n : Nat) (og : Nat → Nat) (hn8 : n ≤ 8) (hus : us = nI n) (hord : ordOk od og n) (hog : ∀ k, k < n → og k < nb) (un : Int32) : CtE l g M_X0_takeFrom [.ref (a 0), .int (nI n - 1), .int (-1), .int un] (cw g a A nb nl nc r b od us tk bn suf) none (cw g a A nb nl nc r b od (nI n) (xtb r og n (tk, un)).1 bn suf) := by
  refine Ct.start2 (M := M_X0_takeFrom) rfl [(0, .ref (a 0)), (1, .int (nI n - 1)), (2, .int (-1)), (3, .int un)] rfl (by decide +kernel) (Nat.le_of_ble_eq_true rfl) ?_
  intro p e s m args below meth c A9 C
  subst hus
  refine v_iload_n C dX0_takeFrom_0 3 rfl ?_
  refine v_istore (lv' := [(4, _), (0, _), (1, _), (2, _), (3, _)]) C dX0_takeFrom_1 (by decide) rfl ?_
  refine v_iload_n C dX0_takeFrom_3 2 rfl ?_
  refine v_istore (lv' := [(5, _), (4, _), (0, _), (1, _), (2, _), (3, _)]) C dX0_takeFrom_4 (by decide) rfl ?_
  refine v_while (α := Nat × (Nat → Int32) × Int32) (fun x => x.1) (fun x => x.1 ≤ n ∧ xtb r og n (tk, un) = xtb r og x.1 x.2) (fun x => [(5, .int (nI x.1 - 1)), (4, .int x.2.2), (0, .ref (a 0)), (1, .int (nI n - 1)), (2, .int (-1)), (3, .int un)]) (fun x => cw g a A nb nl nc r b od (nI n) x.2.1 bn suf) (n, tk, un) rfl rfl ⟨Nat.le_refl _, rfl⟩ ?_
  rintro ⟨k, u, lf⟩ ⟨h1, h2⟩ ih
  dsimp only at h1 h2 ih ⊢
  refine v_iload C dX0_takeFrom_6 0 rfl ?_
  refine v_iconst (v := 0) C dX0_takeFrom_8 (by decide) ?_
  refine v_aload_n C dX0_takeFrom_9 2 rfl ?_
  refine v_get C in_X0 rfl 0 rfl 4 (by decide) q487 (fun _ h => h) rfl dX0_takeFrom_10 ?_
  refine v_iconst (v := 1) C dX0_takeFrom_13 (by decide) ?_
  refine v_isub C dX0_takeFrom_14 ?_
  refine v_callSp C (x_isIn l g _ _ _) ok_X0_isIn rfl q276 rfl (Nat.le_of_ble_eq_true rfl) dX0_takeFrom_15 (roomL rfl rfl) ⟨rfl, rfl⟩ ?_
  refine v_if_eqB C 89 dX0_takeFrom_18 (by decide) (fun c18_1 => ?_) (fun c18_1 => ?_)
  · skip
    have hf0 : k = 0 := by
      rcases Nat.eq_zero_or_pos k with q | q
      · exact q
      · exact absurd (by rw [show k = (k - 1) + 1 by omega, nI_pred]; exact in_n (by omega) (by omega)) c18_1
    subst hf0
    have hx := h2
    rw [xtb] at hx
    exact v_vret C dX0_takeFrom_89 (Nat.le_of_ble_eq_true rfl) (Nat.le_of_ble_eq_true rfl) ⟨rfl, by rw [hx]⟩
  · skip
    have hk0 : k ≠ 0 := fun q => by
      have h9 := c18_1
      rw [q] at h9
      exact absurd h9.1 (by decide)
    obtain ⟨k, rfl⟩ : ∃ y, k = y + 1 := ⟨k - 1, by omega⟩
    have hkn : k < n := by omega
    refine v_iload C dX0_takeFrom_21 1 rfl ?_
    refine v_if_le C 89 dX0_takeFrom_23 (by decide) (fun c23_2 => ?_) (fun c23_2 => ?_)
    · skip
      have hx := h2
      rw [xtb, if_pos c23_2] at hx
      exact v_vret C dX0_takeFrom_89 (Nat.le_of_ble_eq_true rfl) (Nat.le_of_ble_eq_true rfl) ⟨rfl, by rw [hx]⟩
    · skip
      refine v_iload C dX0_takeFrom_26 1 rfl ?_
      refine v_aload_n C dX0_takeFrom_28 2 rfl ?_
      refine v_get C in_X0 rfl 0 rfl 0 (by decide) q483 (fun _ h => h) rfl dX0_takeFrom_29 ?_
      refine v_getN C in_X1 rfl 3 rfl 0 (by decide) q155 (fun _ h => h) rfl dX0_takeFrom_32 ?_
      refine v_aload_n C dX0_takeFrom_35 2 rfl ?_
      refine v_get C in_X0 rfl 0 rfl 3 (by decide) q486 (fun _ h => h) rfl dX0_takeFrom_36 ?_
      refine v_iload C dX0_takeFrom_39 0 rfl ?_
      refine v_eqi (nI_pred k) ?_
      refine v_iald C dX0_takeFrom_41 1 rfl (ixn (by omega) (by decide)) ?_
      refine v_eqi (hord k hkn) ?_
      have hok := hog k hkn
      refine v_zMV (ws' := (cw g a A nb nl nc r b od (nI n) u bn suf)) C (j_get l g (A 1) (A 2) 8 (nI nb) nb (rfs A 10 nb) (og k) (A (10 + (og k))) (hog k hkn) hnb (by decide) (rfs_at A 10 (hog k hkn))) [_, _, _, _] rfl ok_J2_get rfl q359 rfl (Nat.le_of_ble_eq_true rfl) 0 rfl rfl rfl dX0_takeFrom_42 (roomL rfl rfl) ⟨rfl, rfl⟩ rfl ?_
      refine v_castS (r := (RX4, TX4, 9)) C q360 ((og k) + 11) (cw_bin (hog k hkn)) rfl dX0_takeFrom_45 ?_
      refine v_getN C in_X4 rfl ((og k) + 11) (cw_bin (hog k hkn)) 3 (by decide) q605 (fun _ h => h) rfl dX0_takeFrom_48 ?_
      refine v_eqi (show _ = r (10 + 9 * (og k) + 3) from rfl) ?_
      refine v_mmin C q888 q480 q102 q481 dX0_takeFrom_51 (Nat.le_of_ble_eq_true rfl) (Nat.le_of_ble_eq_true rfl) (Nat.le_of_ble_eq_true rfl) (Nat.le_of_ble_eq_true rfl) ?_
      refine v_istore (lv' := [(6, _), (5, _), (4, _), (0, _), (1, _), (2, _), (3, _)]) C dX0_takeFrom_54 (by decide) rfl ?_
      refine v_aload_n C dX0_takeFrom_56 3 rfl ?_
      refine v_get C in_X0 rfl 0 rfl 5 (by decide) q488 (fun _ h => h) rfl dX0_takeFrom_57 ?_
      refine v_aload_n C dX0_takeFrom_60 3 rfl ?_
      refine v_get C in_X0 rfl 0 rfl 3 (by decide) q486 (fun _ h => h) rfl dX0_takeFrom_61 ?_
      refine v_iload C dX0_takeFrom_64 1 rfl ?_
      refine v_eqi (nI_pred k) ?_
      refine v_iald C dX0_takeFrom_66 1 rfl (ixn (by omega) (by decide)) ?_
      refine v_eqi (hord k hkn) ?_
      refine v_dup2_11 C dX0_takeFrom_67 rfl rfl ?_
      refine v_iald C dX0_takeFrom_68 2 rfl (ixn (by omega) (by decide)) ?_
      refine v_iload C dX0_takeFrom_69 0 rfl ?_
      refine v_iadd C dX0_takeFrom_71 ?_
      refine v_iast (ws' := (cw g a A nb nl nc r b od (nI n) (upd u (og k) (u (og k) + xmn r (og k) lf)) bn suf)) C dX0_takeFrom_72 2 rfl (ixn (by omega) (by decide)) rfl ?_
      refine v_iload C dX0_takeFrom_73 2 rfl ?_
      refine v_iload C dX0_takeFrom_75 0 rfl ?_
      refine v_isub C dX0_takeFrom_77 ?_
      refine v_istore (lv' := [(4, _), (6, _), (5, _), (0, _), (1, _), (2, _), (3, _)]) C dX0_takeFrom_78 (by decide) rfl ?_
      refine v_iload C dX0_takeFrom_80 2 rfl ?_
      refine v_iload_n C dX0_takeFrom_82 5 rfl ?_
      refine v_iadd C dX0_takeFrom_83 ?_
      refine v_eqi (dec3 k) ?_
      refine v_istore (lv' := [(5, _), (4, _), (6, _), (0, _), (1, _), (2, _), (3, _)]) C dX0_takeFrom_84 (by decide) rfl ?_
      refine v_goto C 6 dX0_takeFrom_86 (by decide) ?_
      refine v_lvp (lv' := [(5, _), (4, _), (0, _), (1, _), (2, _), (3, _)]) [0, 1, 3, 4, 5, 6] rfl ?_
      exact ih (k, xt1 r (og k) (u, lf)) ⟨by dsimp only; omega, by dsimp only; rw [h2, xtb, if_neg c23_2]⟩ (by dsimp only; omega)
def M_X0_findTakes : Md := (yX0_findTakes, cX0_findTakes, 6, (some .long), 5, 130, 0, 0)
theorem ok_X0_findTakes : MOKv M_X0_findTakes 2 := ⟨q882, qs37, q89, q883, ⟨by decide +kernel, by decide +kernel, by decide +kernel⟩⟩
set_option maxHeartbeats 4000000 in
theorem x_findTakes (l : Launch) (g : GT) (a A : Nat → Nat) (nb nl nc : Nat) (r : Nat → Int32) (b : Nat → Int64) (od : Nat → Int32) (us : Int32) (tk : Nat → Int32) (bn : Int32) (suf : va_W) (hnb : nb ≤ 8) (hnl : nl ≤ 3) (hnc : nc ≤ 6) (n : Nat) (og : Nat → Nat) (hn8 : n ≤ 8) (hus : us = nI n) (hord : ordOk od og n) (hog : ∀ k, k < n → og k < nb) (am num : Int32) : CtE l g M_X0_findTakes [.ref (a 0), .int am, .int num] (cw g a A nb nl nc r b od us tk bn suf) (some (.long (mixS r og (xU r og n am num) n))) (cw g a A nb nl nc r b od (nI n) (xU r og n am num) bn suf) := by
  refine Ct.start2 (M := M_X0_findTakes) rfl [(0, .ref (a 0)), (1, .int am), (2, .int num)] rfl (by decide +kernel) (Nat.le_of_ble_eq_true rfl) ?_
  intro p e s m args below meth c A9 C
  subst hus
  refine v_iconst (v := 0) C dX0_findTakes_0 (by decide) ?_
  refine v_istore_n (lv' := [(3, _), (0, _), (1, _), (2, _)]) C dX0_findTakes_1 rfl (by decide) rfl ?_
  refine v_loop 0 8 (fun k => [(3, .int (nI k)), (0, .ref (a 0)), (1, .int am), (2, .int num)]) (fun k => (cw g a A nb nl nc r b od (nI n) (z8 tk k) bn suf)) rfl rfl (by omega) ?_ ?_
  · skip
    refine v_iload_n C dX0_findTakes_2 0 rfl ?_
    refine v_bipush (v := 8) C dX0_findTakes_3 (by decide) ?_
    refine v_icmp_ge C 21 dX0_findTakes_5 (by decide) (fun c5_1 => ?_) (fun c5_1 => ?_)
    · skip
      refine v_afun (f' := fun _ => 0) (ws' := cw g a A nb nl nc r b od (nI n) (fun _ => 0) bn suf) 2 rfl (z8_0 tk) rfl ?_
      refine v_aload_n C dX0_findTakes_21 1 rfl ?_
      refine v_iconst (v := 0) C dX0_findTakes_22 (by decide) ?_
      refine v_iconst (v := 1) C dX0_findTakes_23 (by decide) ?_
      refine v_iload_n C dX0_findTakes_24 3 rfl ?_
      refine v_callVv C (x_takeA l g a A nb nl nc r b od (nI n) (fun _ => 0) bn suf hnb hnl hnc n og hn8 rfl hord hog num) ok_X0_takeFrom rfl q884 rfl (Nat.le_of_ble_eq_true rfl) 0 rfl rfl rfl dX0_findTakes_25 (roomL rfl rfl) ⟨rfl, rfl⟩ ?_
      refine v_aload_n C dX0_findTakes_28 1 rfl ?_
      refine v_aload_n C dX0_findTakes_29 1 rfl ?_
      refine v_get C in_X0 rfl 0 rfl 4 (by decide) q487 (fun _ h => h) rfl dX0_findTakes_30 ?_
      refine v_iconst (v := 1) C dX0_findTakes_33 (by decide) ?_
      refine v_isub C dX0_findTakes_34 ?_
      refine v_iconst (v := -1) C dX0_findTakes_35 (by decide) ?_
      refine v_iload_n C dX0_findTakes_36 2 rfl ?_
      refine v_iload_n C dX0_findTakes_37 3 rfl ?_
      refine v_isub C dX0_findTakes_38 ?_
      refine v_callVv C (x_takeB l g a A nb nl nc r b od (nI n) (xta r og n 0 (fun _ => 0, num)).1 bn suf hnb hnl hnc n og hn8 rfl hord hog (am - num)) ok_X0_takeFrom rfl q884 rfl (Nat.le_of_ble_eq_true rfl) 0 rfl rfl rfl dX0_findTakes_39 (roomL rfl rfl) ⟨rfl, rfl⟩ ?_
      refine v_lconst (v := 0) C dX0_findTakes_42 (by decide) ?_
      refine v_lstore_n (lv' := [(3, _), (0, _), (1, _), (2, _)]) C dX0_findTakes_43 rfl (by decide) rfl ?_
      refine v_iconst (v := 0) C dX0_findTakes_44 (by decide) ?_
      refine v_istore (lv' := [(5, _), (3, _), (0, _), (1, _), (2, _)]) C dX0_findTakes_45 (by decide) rfl ?_
      refine v_loop 0 n (fun k => [(5, .int (nI k)), (3, .long (mixS r og (xU r og n am num) k)), (0, .ref (a 0)), (1, .int am), (2, .int num)]) (fun k => (cw g a A nb nl nc r b od (nI n) (xU r og n am num) bn suf)) rfl rfl (by omega) ?_ ?_
      · skip
        refine v_iload C dX0_findTakes_47 0 rfl ?_
        refine v_aload_n C dX0_findTakes_49 2 rfl ?_
        refine v_get C in_X0 rfl 0 rfl 4 (by decide) q487 (fun _ h => h) rfl dX0_findTakes_50 ?_
        refine v_icmp_ge C 103 dX0_findTakes_53 (by decide) (fun c53_2 => ?_) (fun c53_2 => ?_)
        · skip
          refine v_lload_n C dX0_findTakes_103 1 rfl ?_
          exact v_lret C dX0_findTakes_104 (Nat.le_of_ble_eq_true rfl) (Nat.le_of_ble_eq_true rfl) ⟨rfl, rfl⟩
        · exact absurd (Int32.le_refl _) c53_2
      · intro k hk hk0 hback
        have hok := hog k hk
        refine v_iload C dX0_findTakes_47 0 rfl ?_
        refine v_aload_n C dX0_findTakes_49 2 rfl ?_
        refine v_get C in_X0 rfl 0 rfl 4 (by decide) q487 (fun _ h => h) rfl dX0_findTakes_50 ?_
        refine v_icmp_ge C 103 dX0_findTakes_53 (by decide) (fun c53_3 => ?_) (fun c53_3 => ?_)
        · exact absurd c53_3 (nI_ge hk (by first | decide | omega))
        · skip
          refine v_lload_n C dX0_findTakes_56 1 rfl ?_
          refine v_aload_n C dX0_findTakes_57 2 rfl ?_
          refine v_get C in_X0 rfl 0 rfl 5 (by decide) q488 (fun _ h => h) rfl dX0_findTakes_58 ?_
          refine v_aload_n C dX0_findTakes_61 2 rfl ?_
          refine v_get C in_X0 rfl 0 rfl 3 (by decide) q486 (fun _ h => h) rfl dX0_findTakes_62 ?_
          refine v_iload C dX0_findTakes_65 0 rfl ?_
          refine v_iald C dX0_findTakes_67 1 rfl (ixn (by omega) (by decide)) ?_
          refine v_eqi (hord k hk) ?_
          refine v_iald C dX0_findTakes_68 2 rfl (ixn (by omega) (by decide)) ?_
          refine v_i2l C dX0_findTakes_69 ?_
          refine v_aload_n C dX0_findTakes_70 2 rfl ?_
          refine v_get C in_X0 rfl 0 rfl 0 (by decide) q483 (fun _ h => h) rfl dX0_findTakes_71 ?_
          refine v_getN C in_X1 rfl 3 rfl 0 (by decide) q155 (fun _ h => h) rfl dX0_findTakes_74 ?_
          refine v_aload_n C dX0_findTakes_77 2 rfl ?_
          refine v_get C in_X0 rfl 0 rfl 3 (by decide) q486 (fun _ h => h) rfl dX0_findTakes_78 ?_
          refine v_iload C dX0_findTakes_81 0 rfl ?_
          refine v_iald C dX0_findTakes_83 1 rfl (ixn (by omega) (by decide)) ?_
          refine v_eqi (hord k hk) ?_
          refine v_zMV (ws' := (cw g a A nb nl nc r b od (nI n) (xU r og n am num) bn suf)) C (j_get l g (A 1) (A 2) 8 (nI nb) nb (rfs A 10 nb) (og k) (A (10 + (og k))) (hog k hk) hnb (by decide) (rfs_at A 10 (hog k hk))) [_, _, _, _] rfl ok_J2_get rfl q359 rfl (Nat.le_of_ble_eq_true rfl) 0 rfl rfl rfl dX0_findTakes_84 (roomL rfl rfl) ⟨rfl, rfl⟩ rfl ?_
          refine v_castS (r := (RX4, TX4, 9)) C q360 ((og k) + 11) (cw_bin (hog k hk)) rfl dX0_findTakes_87 ?_
          refine v_zFV (ws' := (cw g a A nb nl nc r b od (nI n) (xU r og n am num) bn suf)) C (x_moisture l g _ (bv r (og k))) ok_X4_moisture rfl q474 rfl (Nat.le_of_ble_eq_true rfl) ((og k) + 11) (cw_bin (hog k hk)) rfl rfl dX0_findTakes_90 (roomL rfl rfl) ⟨rfl, rfl⟩ (set_same (cw_bin (hog k hk))) ?_
          refine v_i2l C dX0_findTakes_93 ?_
          refine v_lmul C dX0_findTakes_94 ?_
          refine v_ladd C dX0_findTakes_95 ?_
          refine v_lstore_n (lv' := [(3, _), (5, _), (0, _), (1, _), (2, _)]) C dX0_findTakes_96 rfl (by decide) rfl ?_
          refine v_iinc (lv' := [(5, _), (3, _), (0, _), (1, _), (2, _)]) C dX0_findTakes_97 1 rfl (nI_1 k) (by decide) rfl ?_
          refine v_goto C 47 dX0_findTakes_100 (by decide) ?_
          exact hback
    · exact absurd (Int32.le_refl _) c5_1
  · intro k hk hk0 hback
    refine v_iload_n C dX0_findTakes_2 0 rfl ?_
    refine v_bipush (v := 8) C dX0_findTakes_3 (by decide) ?_
    refine v_icmp_ge C 21 dX0_findTakes_5 (by decide) (fun c5_4 => ?_) (fun c5_4 => ?_)
    · exact absurd c5_4 (nI_ge hk (by first | decide | omega))
    · skip
      refine v_aload_n C dX0_findTakes_8 1 rfl ?_
      refine v_get C in_X0 rfl 0 rfl 5 (by decide) q488 (fun _ h => h) rfl dX0_findTakes_9 ?_
      refine v_iload_n C dX0_findTakes_12 0 rfl ?_
      refine v_iconst (v := 0) C dX0_findTakes_13 (by decide) ?_
      refine v_iast (ws' := (cw g a A nb nl nc r b od (nI n) (upd (z8 tk k) k 0) bn suf)) C dX0_findTakes_14 2 rfl (ixn (by omega) (by decide)) rfl ?_
      refine v_iinc (lv' := [(3, _), (0, _), (1, _), (2, _)]) C dX0_findTakes_15 0 rfl (nI_1 k) (by decide) rfl ?_
      refine v_goto C 2 dX0_findTakes_18 (by decide) ?_
      exact hback
