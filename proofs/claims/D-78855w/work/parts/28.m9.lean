/-! the reference: text -/
set_option maxRecDepth 100000
def skp (t : Nat → Int32) : Nat → Nat → Nat
  | 0, k => k
  | f + 1, k => if t k = 32 then skp t f (k + 1) else k
def sk (t : Nat → Int32) (ln k : Nat) : Nat := skp t (ln - k) k
theorem sk_ge {t : Nat → Int32} {ln k : Nat} (h : ln ≤ k) : sk t ln k = k := by
  unfold sk; rw [show ln - k = 0 by omega]; rfl
theorem sk_sp {t : Nat → Int32} {ln k : Nat} (h : k < ln) (e : t k = 32) : sk t ln k = sk t ln (k + 1) := by
  unfold sk; rw [show ln - k = (ln - (k + 1)) + 1 by omega, skp, if_pos e]
theorem sk_ns {t : Nat → Int32} {ln k : Nat} (h : k < ln) (e : ¬ t k = 32) : sk t ln k = k := by
  unfold sk; rw [show ln - k = (ln - (k + 1)) + 1 by omega, skp, if_neg e]
theorem skp_le (t : Nat → Int32) (f k : Nat) : k ≤ skp t f k ∧ skp t f k ≤ k + f := by
  induction f generalizing k with
  | zero => exact ⟨Nat.le_refl _, Nat.le_refl _⟩
  | succ f ih =>
    unfold skp
    split
    · have := ih (k + 1); omega
    · omega
theorem sk_le {t : Nat → Int32} {ln k : Nat} (h : k ≤ ln) : k ≤ sk t ln k ∧ sk t ln k ≤ ln := by
  have := skp_le t (ln - k) k; unfold sk; omega
def hv (t : Nat → Int32) (ln k : Nat) : Int32 := if k < ln then t k else -1
def dgs (t : Nat → Int32) (ln : Nat) : Nat → Nat → Int32 → Nat × Int32
  | 0, e, v => (e, v)
  | f + 1, e, v => if e < ln ∧ (48 ≤ t e ∧ t e ≤ 57) then dgs t ln f (e + 1) (10 * v + t e - 48) else (e, v)
theorem dgs_stop {t : Nat → Int32} {ln f e : Nat} {v : Int32} (h : f = 0 ∨ ¬ (e < ln ∧ (48 ≤ t e ∧ t e ≤ 57))) : dgs t ln f e v = (e, v) := by
  cases f with
  | zero => rfl
  | succ f => rw [dgs, if_neg (by rcases h with h | h; omega; exact h)]
theorem dgs_le (t : Nat → Int32) (ln f e : Nat) (v : Int32) (h : e ≤ ln) : e ≤ (dgs t ln f e v).1 ∧ (dgs t ln f e v).1 ≤ ln := by
  induction f generalizing e v with
  | zero => exact ⟨Nat.le_refl _, h⟩
  | succ f ih =>
    unfold dgs
    split
    · rename_i q
      have := ih (e + 1) (10 * v + t e - 48) (by omega); omega
    · exact ⟨Nat.le_refl _, h⟩
theorem bI_iff {P1 P2 : Prop} [Decidable P1] [Decidable P2] (h : P1 ↔ P2) : bI P1 = bI P2 := by
  by_cases q : P1
  · rw [bI_t q, bI_t (h.mp q)]
  · rw [bI_f q, bI_f (fun z => q (h.mpr z))]
def M_X3_here : Md := (yX3_here, cX3_here, 1, (some .int), 1, 40, 0, 0)
theorem ok_X3_here : MOKv M_X3_here 0 := ⟨q1529, qs84, q103, q1530, ⟨by decide +kernel, by decide +kernel, by decide +kernel⟩⟩
set_option maxHeartbeats 4000000 in
theorem m_here (l : Launch) (g : GT) (a : Nat → Nat) (row : Nat → Int32) (books : Nat → Int64) (S : Int32 × (Nat → Int32)) (B : (Nat → Int32) × Int32 × (Nat → Int32)) (T : (Nat → Int32) × Int32) (P : Int32 × Int32 × (Nat → Int32) × Int32 × Int32) (h : Int64) (ln k : Nat) (hT : T.2 = nI ln) (hP : P.1 = nI k) (h120 : ln ≤ 120) (hk : k ≤ ln) : CtE l g M_X3_here [.ref (a 0)] (mw g a row books S B T P h) (some (.int (hv T.1 ln (sk T.1 ln k)))) (mw g a row books S B T (nI (sk T.1 ln k), P.2) h) := by
  refine Ct.start2 (M := M_X3_here) rfl [(0, .ref (a 0))] rfl (by decide +kernel) (Nat.le_of_ble_eq_true rfl) ?_
  intro p e s m args below meth c A C
  obtain ⟨t, lnI⟩ := T
  obtain ⟨at0, num, td, dn, gs⟩ := P
  dsimp only at hT hP ⊢
  subst hT; subst hP
  refine v_while (α := Nat) (fun x => ln - x) (fun x => x ≤ ln ∧ sk t ln k = sk t ln x) (fun x => [(0, .ref (a 0))]) (fun x => mw g a row books S B (t, nI ln) (nI x, num, td, dn, gs) h) k rfl rfl ⟨hk, rfl⟩ ?_
  rintro z ⟨h1, h2⟩ ih
  (try dsimp only at h1 h2 ih ⊢)
  refine v_aload_n C dX3_here_0 0 rfl ?_
  refine v_get C in_X3 rfl 0 rfl 9 (by decide) q1175 (fun _ h => h) rfl dX3_here_1 ?_
  refine v_eqi (show _ = (nI z) from rfl) ?_
  refine v_aload_n C dX3_here_4 0 rfl ?_
  refine v_get C in_X3 rfl 0 rfl 8 (by decide) q1174 (fun _ h => h) rfl dX3_here_5 ?_
  refine v_eqi (show _ = (nI ln) from rfl) ?_
  refine v_icmp_ge C 38 dX3_here_8 (by decide) (fun c8_1 => ?_) (fun c8_1 => ?_)
  · skip
    have hz : ln ≤ z := (nI_leI (by omega) (by omega)).mp c8_1
    refine v_aload_n C dX3_here_38 0 rfl ?_
    refine v_get C in_X3 rfl 0 rfl 9 (by decide) q1175 (fun _ h => h) rfl dX3_here_39 ?_
    refine v_eqi (show _ = (nI z) from rfl) ?_
    refine v_aload_n C dX3_here_42 0 rfl ?_
    refine v_get C in_X3 rfl 0 rfl 8 (by decide) q1174 (fun _ h => h) rfl dX3_here_43 ?_
    refine v_eqi (show _ = (nI ln) from rfl) ?_
    refine v_icmp_ge C 61 dX3_here_46 (by decide) (fun c46_2 => ?_) (fun c46_2 => ?_)
    · skip
      refine v_iconst (v := -1) C dX3_here_61 (by decide) ?_
      exact v_iret C dX3_here_62 (Nat.le_of_ble_eq_true rfl) (Nat.le_of_ble_eq_true rfl) (by rw [h2, sk_ge hz, hv, if_neg (by omega)]; exact ⟨rfl, rfl⟩)
    · exact absurd c8_1 c46_2
  · skip
    have hz : z < ln := Nat.lt_of_not_le (fun q => c8_1 ((nI_leI (by omega) (by omega)).mpr q))
    refine v_aload_n C dX3_here_11 0 rfl ?_
    refine v_get C in_X3 rfl 0 rfl 7 (by decide) q1173 (fun _ h => h) rfl dX3_here_12 ?_
    refine v_aload_n C dX3_here_15 0 rfl ?_
    refine v_get C in_X3 rfl 0 rfl 9 (by decide) q1175 (fun _ h => h) rfl dX3_here_16 ?_
    refine v_eqi (show _ = (nI z) from rfl) ?_
    refine v_iald C dX3_here_19 6 rfl (ixn (by omega) (by decide)) ?_
    refine v_bipush (v := 32) C dX3_here_20 (by decide) ?_
    refine v_icmp_ne C 38 dX3_here_22 (by decide) (fun c22_3 => ?_) (fun c22_3 => ?_)
    · skip
      refine v_aload_n C dX3_here_38 0 rfl ?_
      refine v_get C in_X3 rfl 0 rfl 9 (by decide) q1175 (fun _ h => h) rfl dX3_here_39 ?_
      refine v_eqi (show _ = (nI z) from rfl) ?_
      refine v_aload_n C dX3_here_42 0 rfl ?_
      refine v_get C in_X3 rfl 0 rfl 8 (by decide) q1174 (fun _ h => h) rfl dX3_here_43 ?_
      refine v_eqi (show _ = (nI ln) from rfl) ?_
      refine v_icmp_ge C 61 dX3_here_46 (by decide) (fun c46_4 => ?_) (fun c46_4 => ?_)
      · exact absurd c46_4 c8_1
      · skip
        refine v_aload_n C dX3_here_49 0 rfl ?_
        refine v_get C in_X3 rfl 0 rfl 7 (by decide) q1173 (fun _ h => h) rfl dX3_here_50 ?_
        refine v_aload_n C dX3_here_53 0 rfl ?_
        refine v_get C in_X3 rfl 0 rfl 9 (by decide) q1175 (fun _ h => h) rfl dX3_here_54 ?_
        refine v_eqi (show _ = (nI z) from rfl) ?_
        refine v_iald C dX3_here_57 6 rfl (ixn (by omega) (by decide)) ?_
        refine v_goto C 62 dX3_here_58 (by decide) ?_
        exact v_iret C dX3_here_62 (Nat.le_of_ble_eq_true rfl) (Nat.le_of_ble_eq_true rfl) (by rw [h2, sk_ns hz c22_3, hv, if_pos hz]; exact ⟨rfl, rfl⟩)
    · skip
      refine v_aload_n C dX3_here_25 0 rfl ?_
      refine v_dup C dX3_here_26 rfl ?_
      refine v_get C in_X3 rfl 0 rfl 9 (by decide) q1175 (fun _ h => h) rfl dX3_here_27 ?_
      refine v_eqi (show _ = (nI z) from rfl) ?_
      refine v_iconst (v := 1) C dX3_here_30 (by decide) ?_
      refine v_iadd C dX3_here_31 ?_
      refine v_eqi (nI_add z 1) ?_
      refine v_put (ws' := mw g a _ _ _ _ _ ((nI (z + 1)), num, td, dn, gs) _) C in_X3 tyX3 tyX3_ok nmX3 rfl 0 rfl 9 (by decide) q1175 (fun _ h => h) rfl rfl rfl (Nat.le_of_ble_eq_true rfl) dX3_here_32 rfl ?_
      refine v_goto C 0 dX3_here_35 (by decide) ?_
      exact ih (z + 1) ⟨by omega, by rw [h2, sk_sp hz (show t z = 32 by assumption)]⟩ (by omega)
def M_X3_reads : Md := (yX3_reads, cX3_reads, 5, (some .boolean), 2, 62, 0, 0)
theorem ok_X3_reads : MOKv M_X3_reads 0 := ⟨q1533, qs85, q103, q1534, ⟨by decide +kernel, by decide +kernel, by decide +kernel⟩⟩
set_option maxHeartbeats 4000000 in
theorem m_reads (l : Launch) (g : GT) (a : Nat → Nat) (row : Nat → Int32) (books : Nat → Int64) (S : Int32 × (Nat → Int32)) (B : (Nat → Int32) × Int32 × (Nat → Int32)) (T : (Nat → Int32) × Int32) (P : Int32 × Int32 × (Nat → Int32) × Int32 × Int32) (h : Int64) (ln k : Nat) (hT : T.2 = nI ln) (hP : P.1 = nI k) (h120 : ln ≤ 120) (hk : k ≤ ln) (hch : ∀ j, j < ln → 0 ≤ T.1 j) : CtE l g M_X3_reads [.ref (a 0)] (mw g a row books S B T P h) (some (.int (bI (sk T.1 ln k < (dgs T.1 ln 5 (sk T.1 ln k) 0).1)))) (mw g a row books S B T (nI (dgs T.1 ln 5 (sk T.1 ln k) 0).1, (dgs T.1 ln 5 (sk T.1 ln k) 0).2, P.2.2) h) := by
  refine Ct.start2 (M := M_X3_reads) rfl [(0, .ref (a 0))] rfl (by decide +kernel) (Nat.le_of_ble_eq_true rfl) ?_
  intro p e s m args below meth c A C
  obtain ⟨t, lnI⟩ := T
  obtain ⟨at0, num, td, dn, gs⟩ := P
  dsimp only at hT hP hch ⊢
  subst hT; subst hP
  refine v_aload_n C dX3_reads_0 0 rfl ?_
  refine v_callVw C (m_here l g a _ _ _ _ _ _ _ ln k rfl rfl h120 (by omega)) ok_X3_here rfl q1527 rfl (Nat.le_of_ble_eq_true rfl) 0 rfl rfl rfl dX3_reads_1 (roomL rfl rfl) ⟨rfl, rfl⟩ ?_
  obtain ⟨hs1, hs2⟩ := sk_le (t := t) hk
  refine v_istore_n (lv' := [(1, _), (0, _)]) C dX3_reads_4 rfl (by decide) rfl ?_
  refine v_aload_n C dX3_reads_5 1 rfl ?_
  refine v_get C in_X3 rfl 0 rfl 9 (by decide) q1175 (fun _ h => h) rfl dX3_reads_6 ?_
  refine v_eqi (show _ = (nI (sk t ln k)) from rfl) ?_
  refine v_istore_n (lv' := [(2, _), (1, _), (0, _)]) C dX3_reads_9 rfl (by decide) rfl ?_
  refine v_iconst (v := 0) C dX3_reads_10 (by decide) ?_
  refine v_istore_n (lv' := [(3, _), (2, _), (1, _), (0, _)]) C dX3_reads_11 rfl (by decide) rfl ?_
  refine v_while (α := Nat × Nat × Int32) (fun x => x.1) (fun x => x.1 + x.2.1 = (sk t ln k) + 5 ∧ x.2.1 ≤ ln ∧ (sk t ln k) ≤ x.2.1 ∧ dgs t ln 5 (sk t ln k) 0 = dgs t ln x.1 x.2.1 x.2.2) (fun x => [(3, .int x.2.2), (2, .int (nI x.2.1)), (1, .int (hv t ln (sk t ln k))), (0, .ref (a 0))]) (fun _ => mw g a row books S B (t, nI ln) (nI (sk t ln k), num, td, dn, gs) h) (5, (sk t ln k), 0) rfl rfl ⟨by dsimp only; omega, hs2, Nat.le_refl _, rfl⟩ ?_
  rintro ⟨f, en, v⟩ ⟨h1, h2, h3, h4⟩ ih
  dsimp only at h1 h2 h3 h4 ih ⊢
  refine v_iload_n C dX3_reads_12 2 rfl ?_
  refine v_if_lt C 71 dX3_reads_13 (by decide) (fun c13_1 => ?_) (fun c13_1 => ?_)
  · skip
    have hge : ¬ (sk t ln k) < ln := fun q => by
      have h9 := c13_1
      rw [hv, if_pos q] at h9
      exact absurd h9 (Int32.not_lt.mpr (hch _ q))
    have hx : dgs t ln 5 (sk t ln k) 0 = (en, v) := by rw [h4]; exact dgs_stop (Or.inr (fun q => by omega))
    refine v_iload_n C dX3_reads_71 1 rfl ?_
    refine v_aload_n C dX3_reads_72 3 rfl ?_
    refine v_get C in_X3 rfl 0 rfl 9 (by decide) q1175 (fun _ h => h) rfl dX3_reads_73 ?_
    refine v_eqi (show _ = (nI (sk t ln k)) from rfl) ?_
    refine v_ternI C 83 84 dX3_reads_79 dX3_reads_80 dX3_reads_83 (by decide) rfl (fun ht hf => v_icmp_le C 83 dX3_reads_76 (by decide) (fun q => ht (fun n => n q)) (fun q => hf q)) ?_
    refine v_istore (lv' := [(4, _), (3, _), (2, _), (1, _), (0, _)]) C dX3_reads_84 (by decide) rfl ?_
    refine v_aload_n C dX3_reads_86 4 rfl ?_
    refine v_iload_n C dX3_reads_87 2 rfl ?_
    refine v_put (ws' := mw g a _ _ _ _ _ ((nI en), num, td, dn, gs) _) C in_X3 tyX3 tyX3_ok nmX3 rfl 0 rfl 9 (by decide) q1175 (fun _ h => h) rfl rfl rfl (Nat.le_of_ble_eq_true rfl) dX3_reads_88 rfl ?_
    refine v_aload_n C dX3_reads_91 4 rfl ?_
    refine v_iload_n C dX3_reads_92 1 rfl ?_
    refine v_topi (fun z2 ez2 => ?_)
    refine v_put (ws' := mw g a _ _ _ _ _ ((nI en), z2, td, dn, gs) _) C in_X3 tyX3 tyX3_ok nmX3 rfl 0 rfl 10 (by decide) q1176 (fun _ h => h) rfl rfl rfl (Nat.le_of_ble_eq_true rfl) dX3_reads_93 rfl ?_
    refine v_iload C dX3_reads_96 0 rfl ?_
    exact v_zret C (bI_nar _) dX3_reads_98 (Nat.le_of_ble_eq_true rfl) (Nat.le_of_ble_eq_true rfl) (by subst ez2; rw [hx]; exact ⟨si (bI_iff (by rw [nI_leI (by omega) (by omega)]; (try dsimp only); omega)), rfl⟩)
  · skip
    refine v_iload_n C dX3_reads_16 1 rfl ?_
    refine v_aload_n C dX3_reads_17 3 rfl ?_
    refine v_get C in_X3 rfl 0 rfl 8 (by decide) q1174 (fun _ h => h) rfl dX3_reads_18 ?_
    refine v_eqi (show _ = (nI ln) from rfl) ?_
    refine v_icmp_ge C 71 dX3_reads_21 (by decide) (fun c21_3 => ?_) (fun c21_3 => ?_)
    · skip
      have hge : ln ≤ en := (nI_leI (by omega) (by omega)).mp c21_3
      have hx : dgs t ln 5 (sk t ln k) 0 = (en, v) := by rw [h4]; exact dgs_stop (Or.inr (fun q => by omega))
      refine v_iload_n C dX3_reads_71 1 rfl ?_
      refine v_aload_n C dX3_reads_72 3 rfl ?_
      refine v_get C in_X3 rfl 0 rfl 9 (by decide) q1175 (fun _ h => h) rfl dX3_reads_73 ?_
      refine v_eqi (show _ = (nI (sk t ln k)) from rfl) ?_
      refine v_ternI C 83 84 dX3_reads_79 dX3_reads_80 dX3_reads_83 (by decide) rfl (fun ht hf => v_icmp_le C 83 dX3_reads_76 (by decide) (fun q => ht (fun n => n q)) (fun q => hf q)) ?_
      refine v_istore (lv' := [(4, _), (3, _), (2, _), (1, _), (0, _)]) C dX3_reads_84 (by decide) rfl ?_
      refine v_aload_n C dX3_reads_86 4 rfl ?_
      refine v_iload_n C dX3_reads_87 2 rfl ?_
      refine v_put (ws' := mw g a _ _ _ _ _ ((nI en), num, td, dn, gs) _) C in_X3 tyX3 tyX3_ok nmX3 rfl 0 rfl 9 (by decide) q1175 (fun _ h => h) rfl rfl rfl (Nat.le_of_ble_eq_true rfl) dX3_reads_88 rfl ?_
      refine v_aload_n C dX3_reads_91 4 rfl ?_
      refine v_iload_n C dX3_reads_92 1 rfl ?_
      refine v_topi (fun z4 ez4 => ?_)
      refine v_put (ws' := mw g a _ _ _ _ _ ((nI en), z4, td, dn, gs) _) C in_X3 tyX3 tyX3_ok nmX3 rfl 0 rfl 10 (by decide) q1176 (fun _ h => h) rfl rfl rfl (Nat.le_of_ble_eq_true rfl) dX3_reads_93 rfl ?_
      refine v_iload C dX3_reads_96 0 rfl ?_
      exact v_zret C (bI_nar _) dX3_reads_98 (Nat.le_of_ble_eq_true rfl) (Nat.le_of_ble_eq_true rfl) (by subst ez4; rw [hx]; exact ⟨si (bI_iff (by rw [nI_leI (by omega) (by omega)]; (try dsimp only); omega)), rfl⟩)
    · skip
      have hlt : en < ln := Nat.lt_of_not_le (fun q => c21_3 ((nI_leI (by omega) (by omega)).mpr q))
      refine v_iload_n C dX3_reads_24 1 rfl ?_
      refine v_aload_n C dX3_reads_25 3 rfl ?_
      refine v_get C in_X3 rfl 0 rfl 9 (by decide) q1175 (fun _ h => h) rfl dX3_reads_26 ?_
      refine v_eqi (show _ = (nI (sk t ln k)) from rfl) ?_
      refine v_iconst (v := 5) C dX3_reads_29 (by decide) ?_
      refine v_iadd C dX3_reads_30 ?_
      refine v_eqi (nI_add ((sk t ln k)) 5) ?_
      refine v_icmp_ge C 71 dX3_reads_31 (by decide) (fun c31_5 => ?_) (fun c31_5 => ?_)
      · skip
        have hge : (sk t ln k) + 5 ≤ en := (nI_leI (by omega) (by omega)).mp c31_5
        have hx : dgs t ln 5 (sk t ln k) 0 = (en, v) := by rw [h4]; exact dgs_stop (Or.inl (by omega))
        refine v_iload_n C dX3_reads_71 1 rfl ?_
        refine v_aload_n C dX3_reads_72 3 rfl ?_
        refine v_get C in_X3 rfl 0 rfl 9 (by decide) q1175 (fun _ h => h) rfl dX3_reads_73 ?_
        refine v_eqi (show _ = (nI (sk t ln k)) from rfl) ?_
        refine v_ternI C 83 84 dX3_reads_79 dX3_reads_80 dX3_reads_83 (by decide) rfl (fun ht hf => v_icmp_le C 83 dX3_reads_76 (by decide) (fun q => ht (fun n => n q)) (fun q => hf q)) ?_
        refine v_istore (lv' := [(4, _), (3, _), (2, _), (1, _), (0, _)]) C dX3_reads_84 (by decide) rfl ?_
        refine v_aload_n C dX3_reads_86 4 rfl ?_
        refine v_iload_n C dX3_reads_87 2 rfl ?_
        refine v_put (ws' := mw g a _ _ _ _ _ ((nI en), num, td, dn, gs) _) C in_X3 tyX3 tyX3_ok nmX3 rfl 0 rfl 9 (by decide) q1175 (fun _ h => h) rfl rfl rfl (Nat.le_of_ble_eq_true rfl) dX3_reads_88 rfl ?_
        refine v_aload_n C dX3_reads_91 4 rfl ?_
        refine v_iload_n C dX3_reads_92 1 rfl ?_
        refine v_topi (fun z6 ez6 => ?_)
        refine v_put (ws' := mw g a _ _ _ _ _ ((nI en), z6, td, dn, gs) _) C in_X3 tyX3 tyX3_ok nmX3 rfl 0 rfl 10 (by decide) q1176 (fun _ h => h) rfl rfl rfl (Nat.le_of_ble_eq_true rfl) dX3_reads_93 rfl ?_
        refine v_iload C dX3_reads_96 0 rfl ?_
        exact v_zret C (bI_nar _) dX3_reads_98 (Nat.le_of_ble_eq_true rfl) (Nat.le_of_ble_eq_true rfl) (by subst ez6; rw [hx]; exact ⟨si (bI_iff (by rw [nI_leI (by omega) (by omega)]; (try dsimp only); omega)), rfl⟩)
      · skip
        have hl5 : en < (sk t ln k) + 5 := Nat.lt_of_not_le (fun q => c31_5 ((nI_leI (by omega) (by omega)).mpr q))
        obtain ⟨f, rfl⟩ : ∃ y, f = y + 1 := ⟨f - 1, by omega⟩
        refine v_aload_n C dX3_reads_34 3 rfl ?_
        refine v_get C in_X3 rfl 0 rfl 7 (by decide) q1173 (fun _ h => h) rfl dX3_reads_35 ?_
        refine v_iload_n C dX3_reads_38 1 rfl ?_
        refine v_iald C dX3_reads_39 6 rfl (ixn (by omega) (by decide)) ?_
        refine v_bipush (v := 48) C dX3_reads_40 (by decide) ?_
        refine v_bipush (v := 57) C dX3_reads_42 (by decide) ?_
        refine v_callSp C (m_in l g _ _ _) ok_X3_in rfl q1218 rfl (Nat.le_of_ble_eq_true rfl) dX3_reads_44 (roomL rfl rfl) ⟨rfl, rfl⟩ ?_
        refine v_if_eqB C 71 dX3_reads_47 (by decide) (fun c47_7 => ?_) (fun c47_7 => ?_)
        · skip
          have hx : dgs t ln 5 (sk t ln k) 0 = (en, v) := by rw [h4]; exact dgs_stop (Or.inr (fun q => c47_7 q.2))
          refine v_iload_n C dX3_reads_71 1 rfl ?_
          refine v_aload_n C dX3_reads_72 3 rfl ?_
          refine v_get C in_X3 rfl 0 rfl 9 (by decide) q1175 (fun _ h => h) rfl dX3_reads_73 ?_
          refine v_eqi (show _ = (nI (sk t ln k)) from rfl) ?_
          refine v_ternI C 83 84 dX3_reads_79 dX3_reads_80 dX3_reads_83 (by decide) rfl (fun ht hf => v_icmp_le C 83 dX3_reads_76 (by decide) (fun q => ht (fun n => n q)) (fun q => hf q)) ?_
          refine v_istore (lv' := [(4, _), (3, _), (2, _), (1, _), (0, _)]) C dX3_reads_84 (by decide) rfl ?_
          refine v_aload_n C dX3_reads_86 4 rfl ?_
          refine v_iload_n C dX3_reads_87 2 rfl ?_
          refine v_put (ws' := mw g a _ _ _ _ _ ((nI en), num, td, dn, gs) _) C in_X3 tyX3 tyX3_ok nmX3 rfl 0 rfl 9 (by decide) q1175 (fun _ h => h) rfl rfl rfl (Nat.le_of_ble_eq_true rfl) dX3_reads_88 rfl ?_
          refine v_aload_n C dX3_reads_91 4 rfl ?_
          refine v_iload_n C dX3_reads_92 1 rfl ?_
          refine v_topi (fun z8 ez8 => ?_)
          refine v_put (ws' := mw g a _ _ _ _ _ ((nI en), z8, td, dn, gs) _) C in_X3 tyX3 tyX3_ok nmX3 rfl 0 rfl 10 (by decide) q1176 (fun _ h => h) rfl rfl rfl (Nat.le_of_ble_eq_true rfl) dX3_reads_93 rfl ?_
          refine v_iload C dX3_reads_96 0 rfl ?_
          exact v_zret C (bI_nar _) dX3_reads_98 (Nat.le_of_ble_eq_true rfl) (Nat.le_of_ble_eq_true rfl) (by subst ez8; rw [hx]; exact ⟨si (bI_iff (by rw [nI_leI (by omega) (by omega)]; (try dsimp only); omega)), rfl⟩)
        · skip
          refine v_bipush (v := 10) C dX3_reads_50 (by decide) ?_
          refine v_iload_n C dX3_reads_52 0 rfl ?_
          refine v_imul C dX3_reads_53 ?_
          refine v_aload_n C dX3_reads_54 3 rfl ?_
          refine v_get C in_X3 rfl 0 rfl 7 (by decide) q1173 (fun _ h => h) rfl dX3_reads_55 ?_
          refine v_iload_n C dX3_reads_58 1 rfl ?_
          refine v_iald C dX3_reads_59 6 rfl (ixn (by omega) (by decide)) ?_
          refine v_iadd C dX3_reads_60 ?_
          refine v_bipush (v := 48) C dX3_reads_61 (by decide) ?_
          refine v_isub C dX3_reads_63 ?_
          refine v_istore_n (lv' := [(3, _), (2, _), (1, _), (0, _)]) C dX3_reads_64 rfl (by decide) rfl ?_
          refine v_iinc (lv' := [(2, _), (3, _), (1, _), (0, _)]) C dX3_reads_65 1 rfl (nI_1 en) (by decide) rfl ?_
          refine v_goto C 12 dX3_reads_68 (by decide) ?_
          refine v_lvp (lv' := [(3, _), (2, _), (1, _), (0, _)]) [1, 0, 2, 3] rfl ?_
          exact ih (f, en + 1, 10 * v + t en - 48) ⟨by dsimp only; omega, by dsimp only; omega, by dsimp only; omega, by dsimp only; rw [h4, dgs, if_pos ⟨hlt, c47_7⟩]⟩ (by dsimp only; omega)
