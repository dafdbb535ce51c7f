/-! Reader -/
set_option maxRecDepth 100000
/-- the reader's cells: itself, its numbers, the elevator, the text, the kinds with their orders -/
def rdW (g : GT) (a : Nat → Nat) (us bn : Int32) (s0 t1 : Nat) (mb : Int32) (ln : Nat) (t : Nat → Int32) (ko fo dd : Nat → Nat) (q qn : Nat) (td : Nat → Int32) (od : Option Nat) (k : Nat) : va_W :=
  [(q, .inr (7, [.ref qn, va_rf od, .int (nI k), .ref (a 0)])), (qn, .inl (g.2 0, 5, .inl td)), elC a us bn s0, (a 5, .inr (10, [.ref t1, .int 0, .int mb, .int (nI ln)])), (t1, .inl (g.2 3, 120, .inl (fun j => bt (t j)))),
   (a 6, .inl (g.2 6, 4, .inr (.inr (.inr (.inr (rfs ko 0 4)))))), (ko 0, .inr (2, [.int 114, .int 5, .ref (fo 0), .ref (dd 0)])), (ko 1, .inr (2, [.int 109, .int 4, .ref (fo 1), .ref (dd 1)])), (ko 2, .inr (2, [.int 99, .int 2, .ref (fo 2), .ref (dd 2)])), (ko 3, .inr (2, [.int 100, .int 2, .ref (fo 3), .ref (dd 3)]))]
def chOk (ln : Nat) (t : Nat → Int32) : Prop := ∀ j, j < ln → 0 ≤ t j ∧ t j ≤ 255
abbrev xP (t : Nat → Int32) (ln k : Nat) (sg : Int32) : Prop := hv t ln (sk t ln k) = sg
abbrev xA (t : Nat → Int32) (ln k : Nat) (sg : Int32) : Nat := if xP t ln k sg then sk t ln k + 1 else sk t ln k
abbrev xD (t : Nat → Int32) (ln q : Nat) : Nat × Int32 := dgs t ln 5 (sk t ln q) 0
abbrev xNm (t : Nat → Int32) (ln q : Nat) : Prop := sk t ln q < (xD t ln q).1 ∧ ¬ ((xD t ln q).1 < ln ∧ (xD t ln q).1 = sk t ln q + 5 ∧ (48 ≤ t (xD t ln q).1 ∧ t (xD t ln q).1 ≤ 57))
def xrL (t : Nat → Int32) (ln : Nat) : Nat → Nat → Bool → Nat → (Nat → Int32) → Bool × Nat × (Nat → Int32)
  | 0, _, ok, q, td => (ok, q, td)
  | f + 1, i, ok, q, td => if ok = true then
      if xP t ln q 44 then xrL t ln f (i + 1) (decide (xNm t ln (sk t ln q + 1))) (xD t ln (sk t ln q + 1)).1 (upd td i (xD t ln (sk t ln q + 1)).2)
      else xrL t ln f (i + 1) false (sk t ln q) td
    else (false, q, td)
theorem xrL_f (t : Nat → Int32) (ln f i q : Nat) (td : Nat → Int32) : xrL t ln f i false q td = (false, q, td) := by
  cases f with
  | zero => rfl
  | succ f => rw [xrL, if_neg Bool.false_ne_true]
def xro (t : Nat → Int32) (ln k : Nat) (td : Nat → Int32) : Bool × Nat × (Nat → Int32) :=
  if mny (hv t ln (sk t ln k)) = 0 then (false, sk t ln k, td) else
  xrL t ln (mny (hv t ln (sk t ln k)) - 1) 1 (decide (xNm t ln (sk t ln k + 1))) (xD t ln (sk t ln k + 1)).1 (upd td 0 (xD t ln (sk t ln k + 1)).2)
def lts (k : Nat) : Int32 := if k = 0 then 114 else if k = 1 then 109 else if k = 2 then 99 else 100
def kf (ko : Nat → Nat) (sg : Int32) : Nat → Option Nat
  | 0 => none
  | k + 1 => if lts k = sg then some (ko k) else kf ko sg k
theorem kf_4 (ko : Nat → Nat) (sg : Int32) : (mny sg = 0 ∧ kf ko sg 4 = none) ∨ (sg = 114 ∧ kf ko sg 4 = some (ko 0)) ∨ (sg = 109 ∧ kf ko sg 4 = some (ko 1)) ∨ (sg = 99 ∧ kf ko sg 4 = some (ko 2)) ∨ (sg = 100 ∧ kf ko sg 4 = some (ko 3)) := by
  by_cases h1 : sg = 114
  · subst h1; exact Or.inr (Or.inl ⟨rfl, rfl⟩)
  · by_cases h2 : sg = 109
    · subst h2; exact Or.inr (Or.inr (Or.inl ⟨rfl, rfl⟩))
    · by_cases h3 : sg = 99
      · subst h3; exact Or.inr (Or.inr (Or.inr (Or.inl ⟨rfl, rfl⟩)))
      · by_cases h4 : sg = 100
        · subst h4; exact Or.inr (Or.inr (Or.inr (Or.inr ⟨rfl, rfl⟩)))
        · refine Or.inl ⟨by unfold mny; rw [if_neg h1, if_neg h2, if_neg h3, if_neg h4], ?_⟩
          show (if lts 3 = sg then some (ko 3) else if lts 2 = sg then some (ko 2) else if lts 1 = sg then some (ko 1) else if lts 0 = sg then some (ko 0) else none) = none
          rw [if_neg (show ¬ lts 3 = sg from fun q => h4 q.symm), if_neg (show ¬ lts 2 = sg from fun q => h3 q.symm), if_neg (show ¬ lts 1 = sg from fun q => h2 q.symm), if_neg (show ¬ lts 0 = sg from fun q => h1 q.symm)]
theorem rf_nar (n : String) (o : Option Nat) : narrow (.object n) (va_rf o) = va_rf o := by cases o <;> rfl
theorem rf_fit (n : String) (o : Option Nat) : fits (.object n) (va_rf o) = true := by cases o <;> rfl
theorem upd_at {α : Type} (f : Nat → Int32) (i : Nat) (x : Int32) : upd f i x i = x := if_pos rfl
theorem upd_2 (f : Nat → Int32) (i : Nat) (x z : Int32) : upd (upd f i x) i z = upd f i z := by
  funext j; unfold upd; split <;> rfl
theorem at_add (s : Nat) (P : Prop) [Decidable P] : nI s + bI P = nI (if P then s + 1 else s) := by
  by_cases h : P
  · rw [bI_t h, if_pos h]; exact nI_1 s
  · rw [bI_f h, if_neg h]; exact nI_add s 0
theorem bI_bB (P : Prop) [Decidable P] : bI P = bB (decide P) := by
  by_cases h : P
  · rw [bI_t h, decide_eq_true h]; rfl
  · rw [bI_f h, decide_eq_false h]; rfl
theorem xA_le {t : Nat → Int32} {ln k : Nat} {sg : Int32} (hk : k ≤ ln) (hs : ¬ sg = -1) : k ≤ xA t ln k sg ∧ xA t ln k sg ≤ ln ∧ sk t ln k ≤ xA t ln k sg := by
  have h := sk_le (t := t) hk
  by_cases c : xP t ln k sg
  · have hl := hv_lt (show hv t ln (sk t ln k) = sg from c) hs
    rw [xA, if_pos c]; omega
  · rw [xA, if_neg c]; omega
theorem xrL_le (t : Nat → Int32) (ln : Nat) (f : Nat) : ∀ (i : Nat) (ok : Bool) (q : Nat) (td : Nat → Int32), q ≤ ln → q ≤ (xrL t ln f i ok q td).2.1 ∧ (xrL t ln f i ok q td).2.1 ≤ ln := by
  induction f with
  | zero => intro i ok q td h; exact ⟨Nat.le_refl _, h⟩
  | succ f ih =>
    intro i ok q td h
    unfold xrL
    have h1 := sk_le (t := t) h
    split
    · split
      · rename_i c
        have hl := hv_lt (show hv t ln (sk t ln q) = 44 from c) (by decide)
        have h2 := sk_le (t := t) (show sk t ln q + 1 ≤ ln by omega)
        have h3 : sk t ln (sk t ln q + 1) ≤ (xD t ln (sk t ln q + 1)).1 ∧ (xD t ln (sk t ln q + 1)).1 ≤ ln := dgs_le t ln 5 (sk t ln (sk t ln q + 1)) 0 h2.2
        have h4 := ih (i + 1) (decide (xNm t ln (sk t ln q + 1))) (xD t ln (sk t ln q + 1)).1 (upd td i (xD t ln (sk t ln q + 1)).2) h3.2
        omega
      · have h4 := ih (i + 1) false (sk t ln q) td h1.2
        omega
    · exact ⟨Nat.le_refl _, h⟩
theorem xro_le (t : Nat → Int32) (ln k : Nat) (td : Nat → Int32) (h : k ≤ ln) : k ≤ (xro t ln k td).2.1 ∧ (xro t ln k td).2.1 ≤ ln := by
  have h1 := sk_le (t := t) h
  unfold xro
  by_cases c : mny (hv t ln (sk t ln k)) = 0
  · rw [if_pos c]; exact h1
  · rw [if_neg c]
    have h2 := mny_lt c
    have h3 := sk_le (t := t) (show sk t ln k + 1 ≤ ln by omega)
    have h4 : sk t ln (sk t ln k + 1) ≤ (xD t ln (sk t ln k + 1)).1 ∧ (xD t ln (sk t ln k + 1)).1 ≤ ln := dgs_le t ln 5 (sk t ln (sk t ln k + 1)) 0 h3.2
    have h5 := xrL_le t ln (mny (hv t ln (sk t ln k)) - 1) 1 (decide (xNm t ln (sk t ln k + 1))) (xD t ln (sk t ln k + 1)).1 (upd td 0 (xD t ln (sk t ln k + 1)).2) h4.2
    omega
def M_X7_here : Md := (yX7_here, cX7_here, 1, (some .int), 5, 128, 0, 0)
theorem ok_X7_here : MOKv M_X7_here 0 := ⟨q1078, qs41, q111, q1079, ⟨by decide +kernel, by decide +kernel, by decide +kernel⟩⟩
set_option maxHeartbeats 4000000 in
theorem x_here (l : Launch) (g : GT) (a : Nat → Nat) (us bn : Int32) (s0 t1 : Nat) (mb : Int32) (ln : Nat) (t : Nat → Int32) (ko fo dd : Nat → Nat) (q qn : Nat) (td : Nat → Int32) (od : Option Nat) (k : Nat) (h120 : ln ≤ 120) (hk : k ≤ ln) (hch : chOk ln t)  : CtE l g M_X7_here [.ref q] (rdW g a us bn s0 t1 mb ln t ko fo dd q qn td od k) (some (.int (hv t ln (sk t ln k)))) (rdW g a us bn s0 t1 mb ln t ko fo dd q qn td od (sk t ln k)) := by
  refine Ct.start2 (M := M_X7_here) rfl [(0, .ref q)] rfl (by decide +kernel) (Nat.le_of_ble_eq_true rfl) ?_
  intro p e s m args below meth c A9 C
  refine v_while (α := Nat) (fun z => ln - z) (fun z => z ≤ ln ∧ sk t ln k = sk t ln z) (fun z => [(0, .ref q)]) (fun z => (rdW g a us bn s0 t1 mb ln t ko fo dd q qn td od z)) k rfl rfl ⟨hk, rfl⟩ ?_
  rintro z ⟨hz, hsk⟩ ih
  refine v_aload_n C dX7_here_0 0 rfl ?_
  refine v_get C in_X7 rfl 0 rfl 2 (by decide) q1060 (fun _ h => h) rfl dX7_here_1 ?_
  refine v_aload_n C dX7_here_4 0 rfl ?_
  refine v_get C in_X7 rfl 0 rfl 3 (by decide) q1062 (fun _ h => h) rfl dX7_here_5 ?_
  refine v_getN C in_X0 rfl 2 rfl 7 (by decide) q490 (fun _ h => h) rfl dX7_here_8 ?_
  refine v_zMV (ws' := (rdW g a us bn s0 t1 mb ln t ko fo dd q qn td od z)) C (j_sblen l g (a 5) t1 mb ln t h120) [_, _, _] rfl ok_J5_length rfl q1080 rfl (Nat.le_of_ble_eq_true rfl) 0 rfl rfl rfl dX7_here_11 (roomL rfl rfl) ⟨rfl, rfl⟩ rfl ?_
  refine v_icmp_ge C 49 dX7_here_14 (by decide) (fun c14_1 => ?_) (fun c14_1 => ?_)
  · skip
    have hge : ln ≤ z := (nI_leI (by omega) (by omega)).mp c14_1
    have hfin : sk t ln k = z := hsk.trans (sk_ge hge)
    refine v_aload_n C dX7_here_49 0 rfl ?_
    refine v_get C in_X7 rfl 0 rfl 2 (by decide) q1060 (fun _ h => h) rfl dX7_here_50 ?_
    refine v_aload_n C dX7_here_53 0 rfl ?_
    refine v_get C in_X7 rfl 0 rfl 3 (by decide) q1062 (fun _ h => h) rfl dX7_here_54 ?_
    refine v_getN C in_X0 rfl 2 rfl 7 (by decide) q490 (fun _ h => h) rfl dX7_here_57 ?_
    refine v_zMV (ws' := (rdW g a us bn s0 t1 mb ln t ko fo dd q qn td od z)) C (j_sblen l g (a 5) t1 mb ln t h120) [_, _, _] rfl ok_J5_length rfl q1080 rfl (Nat.le_of_ble_eq_true rfl) 0 rfl rfl rfl dX7_here_60 (roomL rfl rfl) ⟨rfl, rfl⟩ rfl ?_
    refine v_icmp_ge C 83 dX7_here_63 (by decide) (fun c63_2 => ?_) (fun c63_2 => ?_)
    · skip
      have hg2 : ¬ z < ln := Nat.not_lt.mpr ((nI_leI (by omega) (by omega)).mp c63_2)
      refine v_iconst (v := -1) C dX7_here_83 (by decide) ?_
      exact v_iret C dX7_here_84 (Nat.le_of_ble_eq_true rfl) (Nat.le_of_ble_eq_true rfl) (by rw [hfin, hv, if_neg hg2]; exact ⟨rfl, rfl⟩)
    · skip
      have hlt : z < ln := Nat.lt_of_not_le (fun q9 => c63_2 ((nI_leI (by omega) (by omega)).mpr q9))
      refine v_aload_n C dX7_here_66 0 rfl ?_
      refine v_get C in_X7 rfl 0 rfl 3 (by decide) q1062 (fun _ h => h) rfl dX7_here_67 ?_
      refine v_getN C in_X0 rfl 2 rfl 7 (by decide) q490 (fun _ h => h) rfl dX7_here_70 ?_
      refine v_aload_n C dX7_here_73 0 rfl ?_
      refine v_get C in_X7 rfl 0 rfl 2 (by decide) q1060 (fun _ h => h) rfl dX7_here_74 ?_
      refine v_zMV (ws' := (rdW g a us bn s0 t1 mb ln t ko fo dd q qn td od z)) C (j_charAt l g (a 5) t1 mb ln t h120 z hlt (hch _ hlt)) [_, _, _] rfl ok_J5_charAt rfl q1081 rfl (Nat.le_of_ble_eq_true rfl) 0 rfl rfl rfl dX7_here_77 (roomL rfl rfl) ⟨rfl, rfl⟩ rfl ?_
      refine v_goto C 84 dX7_here_80 (by decide) ?_
      exact v_iret C dX7_here_84 (Nat.le_of_ble_eq_true rfl) (Nat.le_of_ble_eq_true rfl) (by rw [hfin, hv, if_pos hlt]; exact ⟨rfl, rfl⟩)
  · skip
    have hlt : z < ln := Nat.lt_of_not_le (fun q9 => c14_1 ((nI_leI (by omega) (by omega)).mpr q9))
    refine v_aload_n C dX7_here_17 0 rfl ?_
    refine v_get C in_X7 rfl 0 rfl 3 (by decide) q1062 (fun _ h => h) rfl dX7_here_18 ?_
    refine v_getN C in_X0 rfl 2 rfl 7 (by decide) q490 (fun _ h => h) rfl dX7_here_21 ?_
    refine v_aload_n C dX7_here_24 0 rfl ?_
    refine v_get C in_X7 rfl 0 rfl 2 (by decide) q1060 (fun _ h => h) rfl dX7_here_25 ?_
    refine v_zMV (ws' := (rdW g a us bn s0 t1 mb ln t ko fo dd q qn td od z)) C (j_charAt l g (a 5) t1 mb ln t h120 z hlt (hch _ hlt)) [_, _, _] rfl ok_J5_charAt rfl q1081 rfl (Nat.le_of_ble_eq_true rfl) 0 rfl rfl rfl dX7_here_28 (roomL rfl rfl) ⟨rfl, rfl⟩ rfl ?_
    refine v_bipush (v := 32) C dX7_here_31 (by decide) ?_
    refine v_icmp_ne C 49 dX7_here_33 (by decide) (fun c33_3 => ?_) (fun c33_3 => ?_)
    · skip
      have hfin : sk t ln k = z := hsk.trans (sk_ns hlt c33_3)
      refine v_aload_n C dX7_here_49 0 rfl ?_
      refine v_get C in_X7 rfl 0 rfl 2 (by decide) q1060 (fun _ h => h) rfl dX7_here_50 ?_
      refine v_aload_n C dX7_here_53 0 rfl ?_
      refine v_get C in_X7 rfl 0 rfl 3 (by decide) q1062 (fun _ h => h) rfl dX7_here_54 ?_
      refine v_getN C in_X0 rfl 2 rfl 7 (by decide) q490 (fun _ h => h) rfl dX7_here_57 ?_
      refine v_zMV (ws' := (rdW g a us bn s0 t1 mb ln t ko fo dd q qn td od z)) C (j_sblen l g (a 5) t1 mb ln t h120) [_, _, _] rfl ok_J5_length rfl q1080 rfl (Nat.le_of_ble_eq_true rfl) 0 rfl rfl rfl dX7_here_60 (roomL rfl rfl) ⟨rfl, rfl⟩ rfl ?_
      refine v_icmp_ge C 83 dX7_here_63 (by decide) (fun c63_4 => ?_) (fun c63_4 => ?_)
      · skip
        have hg2 : ¬ z < ln := Nat.not_lt.mpr ((nI_leI (by omega) (by omega)).mp c63_4)
        refine v_iconst (v := -1) C dX7_here_83 (by decide) ?_
        exact v_iret C dX7_here_84 (Nat.le_of_ble_eq_true rfl) (Nat.le_of_ble_eq_true rfl) (by rw [hfin, hv, if_neg hg2]; exact ⟨rfl, rfl⟩)
      · skip
        have hlt : z < ln := Nat.lt_of_not_le (fun q9 => c63_4 ((nI_leI (by omega) (by omega)).mpr q9))
        refine v_aload_n C dX7_here_66 0 rfl ?_
        refine v_get C in_X7 rfl 0 rfl 3 (by decide) q1062 (fun _ h => h) rfl dX7_here_67 ?_
        refine v_getN C in_X0 rfl 2 rfl 7 (by decide) q490 (fun _ h => h) rfl dX7_here_70 ?_
        refine v_aload_n C dX7_here_73 0 rfl ?_
        refine v_get C in_X7 rfl 0 rfl 2 (by decide) q1060 (fun _ h => h) rfl dX7_here_74 ?_
        refine v_zMV (ws' := (rdW g a us bn s0 t1 mb ln t ko fo dd q qn td od z)) C (j_charAt l g (a 5) t1 mb ln t h120 z hlt (hch _ hlt)) [_, _, _] rfl ok_J5_charAt rfl q1081 rfl (Nat.le_of_ble_eq_true rfl) 0 rfl rfl rfl dX7_here_77 (roomL rfl rfl) ⟨rfl, rfl⟩ rfl ?_
        refine v_goto C 84 dX7_here_80 (by decide) ?_
        exact v_iret C dX7_here_84 (Nat.le_of_ble_eq_true rfl) (Nat.le_of_ble_eq_true rfl) (by rw [hfin, hv, if_pos hlt]; exact ⟨rfl, rfl⟩)
    · skip
      have hsp := c33_3
      refine v_aload_n C dX7_here_36 0 rfl ?_
      refine v_dup C dX7_here_37 rfl ?_
      refine v_get C in_X7 rfl 0 rfl 2 (by decide) q1060 (fun _ h => h) rfl dX7_here_38 ?_
      refine v_iconst (v := 1) C dX7_here_41 (by decide) ?_
      refine v_iadd C dX7_here_42 ?_
      refine v_eqi (nI_add z 1) ?_
      refine v_put (ws' := (rdW g a us bn s0 t1 mb ln t ko fo dd q qn td od (z + 1))) C in_X7 tyX7 tyX7_ok nmX7 rfl 0 rfl 2 (by decide) q1060 (fun _ h => h) rfl rfl rfl (Nat.le_of_ble_eq_true rfl) dX7_here_43 rfl ?_
      refine v_goto C 0 dX7_here_46 (by decide) ?_
      exact ih (z + 1) ⟨by omega, by rw [hsk, sk_sp hlt hsp]⟩ (by omega)
def M_X7_reads : Md := (yX7_reads, cX7_reads, 3, (some .boolean), 6, 148, 0, 0)
theorem ok_X7_reads : MOKv M_X7_reads 1 := ⟨q1100, qs43, q111, q1101, ⟨by decide +kernel, by decide +kernel, by decide +kernel⟩⟩
set_option maxHeartbeats 4000000 in
theorem x_reads (l : Launch) (g : GT) (a : Nat → Nat) (us bn : Int32) (s0 t1 : Nat) (mb : Int32) (ln : Nat) (t : Nat → Int32) (ko fo dd : Nat → Nat) (q qn : Nat) (td : Nat → Int32) (od : Option Nat) (k : Nat) (h120 : ln ≤ 120) (hk : k ≤ ln) (hch : chOk ln t) (sg : Int32) : CtE l g M_X7_reads [.ref q, .int sg] (rdW g a us bn s0 t1 mb ln t ko fo dd q qn td od k) (some (.int (bI (xP t ln k sg)))) (rdW g a us bn s0 t1 mb ln t ko fo dd q qn td od (xA t ln k sg)) := by
  refine Ct.start2 (M := M_X7_reads) rfl [(0, .ref q), (1, .int sg)] rfl (by decide +kernel) (Nat.le_of_ble_eq_true rfl) ?_
  intro p e s m args below meth c A9 C
  refine v_aload_n C dX7_reads_0 0 rfl ?_
  refine v_callVw C (x_here l g a us bn s0 t1 mb ln t ko fo dd q qn td od k h120 hk hch) ok_X7_here rfl q1076 rfl (Nat.le_of_ble_eq_true rfl) 0 rfl rfl rfl dX7_reads_1 (roomL rfl rfl) ⟨rfl, rfl⟩ ?_
  refine v_iload_n C dX7_reads_4 1 rfl ?_
  refine v_ternI C 12 13 dX7_reads_8 dX7_reads_9 dX7_reads_12 (by decide) rfl (fun ht hf => v_icmp_ne C 12 dX7_reads_5 (by decide) (fun q => ht q) (fun q => hf q)) ?_
  refine v_istore_n (lv' := [(2, _), (0, _), (1, _)]) C dX7_reads_13 rfl (by decide) rfl ?_
  refine v_aload_n C dX7_reads_14 1 rfl ?_
  refine v_dup C dX7_reads_15 rfl ?_
  refine v_get C in_X7 rfl 0 rfl 2 (by decide) q1060 (fun _ h => h) rfl dX7_reads_16 ?_
  refine v_iload_n C dX7_reads_19 0 rfl ?_
  refine v_ternB C 27 28 dX7_reads_20 dX7_reads_23 dX7_reads_24 dX7_reads_27 (by decide) (by decide) rfl ?_
  refine v_iadd C dX7_reads_28 ?_
  refine v_eqi (at_add _ _) ?_
  refine v_put (ws' := (rdW g a us bn s0 t1 mb ln t ko fo dd q qn td od (xA t ln k sg))) C in_X7 tyX7 tyX7_ok nmX7 rfl 0 rfl 2 (by decide) q1060 (fun _ h => h) rfl rfl rfl (Nat.le_of_ble_eq_true rfl) dX7_reads_29 rfl ?_
  refine v_iload_n C dX7_reads_32 0 rfl ?_
  exact v_zret C (bI_nar _) dX7_reads_33 (Nat.le_of_ble_eq_true rfl) (Nat.le_of_ble_eq_true rfl) ⟨rfl, rfl⟩
def M_X7_goesOn : Md := (yX7_goesOn, cX7_goesOn, 1, (some .boolean), 7, 170, 0, 0)
theorem ok_X7_goesOn : MOKv M_X7_goesOn 0 := ⟨q1103, q1104, q111, q1105, ⟨by decide +kernel, by decide +kernel, by decide +kernel⟩⟩
set_option maxHeartbeats 4000000 in
theorem x_goesOn (l : Launch) (g : GT) (a : Nat → Nat) (us bn : Int32) (s0 t1 : Nat) (mb : Int32) (ln : Nat) (t : Nat → Int32) (ko fo dd : Nat → Nat) (q qn : Nat) (td : Nat → Int32) (od : Option Nat) (k : Nat) (h120 : ln ≤ 120) (hk : k ≤ ln) (hch : chOk ln t)  : CtE l g M_X7_goesOn [.ref q] (rdW g a us bn s0 t1 mb ln t ko fo dd q qn td od k) (some (.int (bI (xP t ln k 59)))) (rdW g a us bn s0 t1 mb ln t ko fo dd q qn td od (xA t ln k 59)) := by
  refine Ct.start2 (M := M_X7_goesOn) rfl [(0, .ref q)] rfl (by decide +kernel) (Nat.le_of_ble_eq_true rfl) ?_
  intro p e s m args below meth c A9 C
  refine v_aload_n C dX7_goesOn_0 0 rfl ?_
  refine v_bipush (v := 59) C dX7_goesOn_1 (by decide) ?_
  refine v_callVw C (x_reads l g a us bn s0 t1 mb ln t ko fo dd q qn td od k h120 hk hch 59) ok_X7_reads rfl q1098 rfl (Nat.le_of_ble_eq_true rfl) 0 rfl rfl rfl dX7_goesOn_3 (roomL rfl rfl) ⟨rfl, rfl⟩ ?_
  exact v_zret C (bI_nar _) dX7_goesOn_6 (Nat.le_of_ble_eq_true rfl) (Nat.le_of_ble_eq_true rfl) ⟨rfl, rfl⟩
def M_X7_hasEnded : Md := (yX7_hasEnded, cX7_hasEnded, 1, (some .boolean), 6, 148, 0, 0)
theorem ok_X7_hasEnded : MOKv M_X7_hasEnded 0 := ⟨q1107, q1108, q111, q1109, ⟨by decide +kernel, by decide +kernel, by decide +kernel⟩⟩
set_option maxHeartbeats 4000000 in
theorem x_hasEnded (l : Launch) (g : GT) (a : Nat → Nat) (us bn : Int32) (s0 t1 : Nat) (mb : Int32) (ln : Nat) (t : Nat → Int32) (ko fo dd : Nat → Nat) (q qn : Nat) (td : Nat → Int32) (od : Option Nat) (k : Nat) (h120 : ln ≤ 120) (hk : k ≤ ln) (hch : chOk ln t)  : CtE l g M_X7_hasEnded [.ref q] (rdW g a us bn s0 t1 mb ln t ko fo dd q qn td od k) (some (.int (bI (xP t ln k (-1))))) (rdW g a us bn s0 t1 mb ln t ko fo dd q qn td od (sk t ln k)) := by
  refine Ct.start2 (M := M_X7_hasEnded) rfl [(0, .ref q)] rfl (by decide +kernel) (Nat.le_of_ble_eq_true rfl) ?_
  intro p e s m args below meth c A9 C
  refine v_aload_n C dX7_hasEnded_0 0 rfl ?_
  refine v_callVw C (x_here l g a us bn s0 t1 mb ln t ko fo dd q qn td od k h120 hk hch) ok_X7_here rfl q1076 rfl (Nat.le_of_ble_eq_true rfl) 0 rfl rfl rfl dX7_hasEnded_1 (roomL rfl rfl) ⟨rfl, rfl⟩ ?_
  refine v_iconst (v := -1) C dX7_hasEnded_4 (by decide) ?_
  refine v_ternI C 12 13 dX7_hasEnded_8 dX7_hasEnded_9 dX7_hasEnded_12 (by decide) rfl (fun ht hf => v_icmp_ne C 12 dX7_hasEnded_5 (by decide) (fun q => ht q) (fun q => hf q)) ?_
  exact v_zret C (bI_nar _) dX7_hasEnded_13 (Nat.le_of_ble_eq_true rfl) (Nat.le_of_ble_eq_true rfl) ⟨rfl, rfl⟩
def M_X7_readsNumber : Md := (yX7_readsNumber, cX7_readsNumber, 4, (some .boolean), 6, 148, 0, 0)
theorem ok_X7_readsNumber : MOKv M_X7_readsNumber 1 := ⟨q1095, qs42, q111, q1096, ⟨by decide +kernel, by decide +kernel, by decide +kernel⟩⟩
set_option maxHeartbeats 4000000 in
theorem x_readsNum (l : Launch) (g : GT) (a : Nat → Nat) (us bn : Int32) (s0 t1 : Nat) (mb : Int32) (ln : Nat) (t : Nat → Int32) (ko fo dd : Nat → Nat) (q qn : Nat) (td : Nat → Int32) (od : Option Nat) (k : Nat) (h120 : ln ≤ 120) (hk : k ≤ ln) (hch : chOk ln t) (i : Nat) (hi : i < 5) : CtE l g M_X7_readsNumber [.ref q, .int (nI i)] (rdW g a us bn s0 t1 mb ln t ko fo dd q qn td od k) (some (.int (bI (xNm t ln k)))) (rdW g a us bn s0 t1 mb ln t ko fo dd q qn (upd td i (xD t ln k).2) od (xD t ln k).1) := by
  refine Ct.start2 (M := M_X7_readsNumber) rfl [(0, .ref q), (1, .int (nI i))] rfl (by decide +kernel) (Nat.le_of_ble_eq_true rfl) ?_
  intro p e s m args below meth c A9 C
  refine v_aload_n C dX7_readsNumber_0 0 rfl ?_
  refine v_callVw C (x_here l g a us bn s0 t1 mb ln t ko fo dd q qn td od k h120 hk hch) ok_X7_here rfl q1076 rfl (Nat.le_of_ble_eq_true rfl) 0 rfl rfl rfl dX7_readsNumber_1 (roomL rfl rfl) ⟨rfl, rfl⟩ ?_
  refine v_pop C dX7_readsNumber_4 rfl ?_
  obtain ⟨hp1, hp2⟩ := sk_le (t := t) hk
  refine v_aload_n C dX7_readsNumber_5 0 rfl ?_
  refine v_get C in_X7 rfl 0 rfl 2 (by decide) q1060 (fun _ h => h) rfl dX7_readsNumber_6 ?_
  refine v_istore_n (lv' := [(2, _), (0, _), (1, _)]) C dX7_readsNumber_9 rfl (by decide) rfl ?_
  refine v_aload_n C dX7_readsNumber_10 1 rfl ?_
  refine v_get C in_X7 rfl 0 rfl 0 (by decide) q1056 (fun _ h => h) rfl dX7_readsNumber_11 ?_
  refine v_iload_n C dX7_readsNumber_14 2 rfl ?_
  refine v_iconst (v := 0) C dX7_readsNumber_15 (by decide) ?_
  refine v_iast (ws' := (rdW g a us bn s0 t1 mb ln t ko fo dd q qn (upd td i 0) od (sk t ln k))) C dX7_readsNumber_16 1 rfl (ixn hi (by decide)) rfl ?_
  refine v_while (α := Nat × Int32) (fun x => ln - x.1) (fun x => (sk t ln k) ≤ x.1 ∧ x.1 ≤ (sk t ln k) + 5 ∧ x.1 ≤ ln ∧ dgs t ln 5 (sk t ln k) 0 = dgs t ln ((sk t ln k) + 5 - x.1) x.1 x.2) (fun x => [(2, .int (nI (sk t ln k))), (0, .ref q), (1, .int (nI i))]) (fun x => (rdW g a us bn s0 t1 mb ln t ko fo dd q qn (upd td i x.2) od x.1)) ((sk t ln k), 0) rfl rfl ⟨Nat.le_refl _, by dsimp only; omega, hp2, by dsimp only; rw [Nat.add_sub_cancel_left]⟩ ?_
  rintro ⟨e9, v⟩ ⟨h1, h2, h3, hx⟩ ih
  dsimp only at h1 h2 h3 hx ih ⊢
  refine v_aload_n C dX7_readsNumber_17 1 rfl ?_
  refine v_get C in_X7 rfl 0 rfl 2 (by decide) q1060 (fun _ h => h) rfl dX7_readsNumber_18 ?_
  refine v_aload_n C dX7_readsNumber_21 1 rfl ?_
  refine v_get C in_X7 rfl 0 rfl 3 (by decide) q1062 (fun _ h => h) rfl dX7_readsNumber_22 ?_
  refine v_getN C in_X0 rfl 2 rfl 7 (by decide) q490 (fun _ h => h) rfl dX7_readsNumber_25 ?_
  refine v_zMV (ws' := (rdW g a us bn s0 t1 mb ln t ko fo dd q qn (upd td i v) od e9)) C (j_sblen l g (a 5) t1 mb ln t h120) [_, _, _] rfl ok_J5_length rfl q1080 rfl (Nat.le_of_ble_eq_true rfl) 0 rfl rfl rfl dX7_readsNumber_28 (roomL rfl rfl) ⟨rfl, rfl⟩ rfl ?_
  refine v_icmp_ge C 114 dX7_readsNumber_31 (by decide) (fun c31_1 => ?_) (fun c31_1 => ?_)
  · skip
    have hge : ln ≤ e9 := ((nI_leI (by omega) (by omega)).mp c31_1)
    have hfin : dgs t ln 5 (sk t ln k) 0 = (e9, v) := hx.trans (dgs_stop (Or.inr (fun q9 => by omega)))
    refine v_aload_n C dX7_readsNumber_114 1 rfl ?_
    refine v_get C in_X7 rfl 0 rfl 2 (by decide) q1060 (fun _ h => h) rfl dX7_readsNumber_115 ?_
    refine v_aload_n C dX7_readsNumber_118 1 rfl ?_
    refine v_get C in_X7 rfl 0 rfl 3 (by decide) q1062 (fun _ h => h) rfl dX7_readsNumber_119 ?_
    refine v_getN C in_X0 rfl 2 rfl 7 (by decide) q490 (fun _ h => h) rfl dX7_readsNumber_122 ?_
    refine v_zMV (ws' := (rdW g a us bn s0 t1 mb ln t ko fo dd q qn (upd td i v) od e9)) C (j_sblen l g (a 5) t1 mb ln t h120) [_, _, _] rfl ok_J5_length rfl q1080 rfl (Nat.le_of_ble_eq_true rfl) 0 rfl rfl rfl dX7_readsNumber_125 (roomL rfl rfl) ⟨rfl, rfl⟩ rfl ?_
    refine v_icmp_ge C 169 dX7_readsNumber_128 (by decide) (fun c128_2 => ?_) (fun c128_2 => ?_)
    · skip
      have hA : ¬ e9 < ln := Nat.not_lt.mpr ((nI_leI (by omega) (by omega)).mp c128_2)
      refine v_iconst (v := 0) C dX7_readsNumber_169 (by decide) ?_
      refine v_istore_n (lv' := [(3, _), (2, _), (0, _), (1, _)]) C dX7_readsNumber_170 rfl (by decide) rfl ?_
      refine v_aload_n C dX7_readsNumber_171 2 rfl ?_
      refine v_get C in_X7 rfl 0 rfl 2 (by decide) q1060 (fun _ h => h) rfl dX7_readsNumber_172 ?_
      refine v_iload_n C dX7_readsNumber_175 1 rfl ?_
      refine v_icmp_le C 187 dX7_readsNumber_176 (by decide) (fun c176_3 => ?_) (fun c176_3 => ?_)
      · skip
        have hC : ¬ (sk t ln k) < e9 := Nat.not_lt.mpr ((nI_leI (by omega) (by omega)).mp c176_3)
        refine v_iconst (v := 0) C dX7_readsNumber_187 (by decide) ?_
        exact v_zret C rfl dX7_readsNumber_188 (Nat.le_of_ble_eq_true rfl) (Nat.le_of_ble_eq_true rfl) (by unfold xNm xD; rw [hfin]; exact ⟨si (bI_f (fun z => hC z.1)).symm, rfl⟩)
      · skip
        have hC : (sk t ln k) < e9 := (Nat.lt_of_not_le (fun q9 => c176_3 ((nI_leI (by omega) (by omega)).mpr q9)))
        refine v_iload_n C dX7_readsNumber_179 0 rfl ?_
        refine v_if_ne C 187 dX7_readsNumber_180 (by decide) (fun c180_4 => ?_) (fun c180_4 => ?_)
        · exact absurd (by decide) c180_4
        · skip
          refine v_iconst (v := 1) C dX7_readsNumber_183 (by decide) ?_
          refine v_goto C 188 dX7_readsNumber_184 (by decide) ?_
          exact v_zret C rfl dX7_readsNumber_188 (Nat.le_of_ble_eq_true rfl) (Nat.le_of_ble_eq_true rfl) (by unfold xNm xD; rw [hfin]; exact ⟨si (bI_t ⟨hC, fun z => hA z.1⟩).symm, rfl⟩)
    · skip
      have hA : e9 < ln := (Nat.lt_of_not_le (fun q9 => c128_2 ((nI_leI (by omega) (by omega)).mpr q9)))
      have hlt := hA
      refine v_aload_n C dX7_readsNumber_131 1 rfl ?_
      refine v_get C in_X7 rfl 0 rfl 2 (by decide) q1060 (fun _ h => h) rfl dX7_readsNumber_132 ?_
      refine v_iload_n C dX7_readsNumber_135 0 rfl ?_
      refine v_iconst (v := 5) C dX7_readsNumber_136 (by decide) ?_
      refine v_iadd C dX7_readsNumber_137 ?_
      refine v_eqi (nI_add ((sk t ln k)) 5) ?_
      refine v_icmp_ne C 169 dX7_readsNumber_138 (by decide) (fun c138_5 => ?_) (fun c138_5 => ?_)
      · skip
        have hB : ¬ e9 = (sk t ln k) + 5 := fun q9 => c138_5 (by rw [q9])
        refine v_iconst (v := 0) C dX7_readsNumber_169 (by decide) ?_
        refine v_istore_n (lv' := [(3, _), (2, _), (0, _), (1, _)]) C dX7_readsNumber_170 rfl (by decide) rfl ?_
        refine v_aload_n C dX7_readsNumber_171 2 rfl ?_
        refine v_get C in_X7 rfl 0 rfl 2 (by decide) q1060 (fun _ h => h) rfl dX7_readsNumber_172 ?_
        refine v_iload_n C dX7_readsNumber_175 1 rfl ?_
        refine v_icmp_le C 187 dX7_readsNumber_176 (by decide) (fun c176_6 => ?_) (fun c176_6 => ?_)
        · skip
          have hC : ¬ (sk t ln k) < e9 := Nat.not_lt.mpr ((nI_leI (by omega) (by omega)).mp c176_6)
          refine v_iconst (v := 0) C dX7_readsNumber_187 (by decide) ?_
          exact v_zret C rfl dX7_readsNumber_188 (Nat.le_of_ble_eq_true rfl) (Nat.le_of_ble_eq_true rfl) (by unfold xNm xD; rw [hfin]; exact ⟨si (bI_f (fun z => hC z.1)).symm, rfl⟩)
        · skip
          have hC : (sk t ln k) < e9 := (Nat.lt_of_not_le (fun q9 => c176_6 ((nI_leI (by omega) (by omega)).mpr q9)))
          refine v_iload_n C dX7_readsNumber_179 0 rfl ?_
          refine v_if_ne C 187 dX7_readsNumber_180 (by decide) (fun c180_7 => ?_) (fun c180_7 => ?_)
          · exact absurd (by decide) c180_7
          · skip
            refine v_iconst (v := 1) C dX7_readsNumber_183 (by decide) ?_
            refine v_goto C 188 dX7_readsNumber_184 (by decide) ?_
            exact v_zret C rfl dX7_readsNumber_188 (Nat.le_of_ble_eq_true rfl) (Nat.le_of_ble_eq_true rfl) (by unfold xNm xD; rw [hfin]; exact ⟨si (bI_t ⟨hC, fun z => hB z.2.1⟩).symm, rfl⟩)
      · skip
        have hB : e9 = (sk t ln k) + 5 := nI_inj (by omega) (by omega) c138_5
        refine v_aload_n C dX7_readsNumber_141 1 rfl ?_
        refine v_get C in_X7 rfl 0 rfl 3 (by decide) q1062 (fun _ h => h) rfl dX7_readsNumber_142 ?_
        refine v_getN C in_X0 rfl 2 rfl 7 (by decide) q490 (fun _ h => h) rfl dX7_readsNumber_145 ?_
        refine v_aload_n C dX7_readsNumber_148 1 rfl ?_
        refine v_get C in_X7 rfl 0 rfl 2 (by decide) q1060 (fun _ h => h) rfl dX7_readsNumber_149 ?_
        refine v_zMV (ws' := (rdW g a us bn s0 t1 mb ln t ko fo dd q qn (upd td i v) od e9)) C (j_charAt l g (a 5) t1 mb ln t h120 e9 hlt (hch _ hlt)) [_, _, _] rfl ok_J5_charAt rfl q1081 rfl (Nat.le_of_ble_eq_true rfl) 0 rfl rfl rfl dX7_readsNumber_152 (roomL rfl rfl) ⟨rfl, rfl⟩ rfl ?_
        refine v_bipush (v := 48) C dX7_readsNumber_155 (by decide) ?_
        refine v_bipush (v := 57) C dX7_readsNumber_157 (by decide) ?_
        refine v_callSNp C (x_isIn l g _ _ _) ok_X0_isIn rfl q1097 rfl (Nat.le_of_ble_eq_true rfl) dX7_readsNumber_159 (roomL rfl rfl) ⟨rfl, rfl⟩ ?_
        refine v_ternB C 169 170 dX7_readsNumber_162 dX7_readsNumber_165 dX7_readsNumber_166 dX7_readsNumber_169 (by decide) (by decide) rfl ?_
        refine v_istore_n (lv' := [(3, _), (2, _), (0, _), (1, _)]) C dX7_readsNumber_170 rfl (by decide) rfl ?_
        refine v_aload_n C dX7_readsNumber_171 2 rfl ?_
        refine v_get C in_X7 rfl 0 rfl 2 (by decide) q1060 (fun _ h => h) rfl dX7_readsNumber_172 ?_
        refine v_iload_n C dX7_readsNumber_175 1 rfl ?_
        refine v_icmp_le C 187 dX7_readsNumber_176 (by decide) (fun c176_8 => ?_) (fun c176_8 => ?_)
        · skip
          have hC : ¬ (sk t ln k) < e9 := Nat.not_lt.mpr ((nI_leI (by omega) (by omega)).mp c176_8)
          refine v_iconst (v := 0) C dX7_readsNumber_187 (by decide) ?_
          exact v_zret C rfl dX7_readsNumber_188 (Nat.le_of_ble_eq_true rfl) (Nat.le_of_ble_eq_true rfl) (by unfold xNm xD; rw [hfin]; exact ⟨si (bI_f (fun z => hC z.1)).symm, rfl⟩)
        · skip
          have hC : (sk t ln k) < e9 := (Nat.lt_of_not_le (fun q9 => c176_8 ((nI_leI (by omega) (by omega)).mpr q9)))
          refine v_iload_n C dX7_readsNumber_179 0 rfl ?_
          refine v_if_neB C 187 dX7_readsNumber_180 (by decide) (fun c180_9 => ?_) (fun c180_9 => ?_)
          · skip
            refine v_iconst (v := 0) C dX7_readsNumber_187 (by decide) ?_
            exact v_zret C rfl dX7_readsNumber_188 (Nat.le_of_ble_eq_true rfl) (Nat.le_of_ble_eq_true rfl) (by unfold xNm xD; rw [hfin]; exact ⟨si (bI_f (fun z => z.2 ⟨hA, hB, c180_9⟩)).symm, rfl⟩)
          · skip
            refine v_iconst (v := 1) C dX7_readsNumber_183 (by decide) ?_
            refine v_goto C 188 dX7_readsNumber_184 (by decide) ?_
            exact v_zret C rfl dX7_readsNumber_188 (Nat.le_of_ble_eq_true rfl) (Nat.le_of_ble_eq_true rfl) (by unfold xNm xD; rw [hfin]; exact ⟨si (bI_t ⟨hC, fun z => c180_9 z.2.2⟩).symm, rfl⟩)
  · skip
    have hlt : e9 < ln := (Nat.lt_of_not_le (fun q9 => c31_1 ((nI_leI (by omega) (by omega)).mpr q9)))
    refine v_aload_n C dX7_readsNumber_34 1 rfl ?_
    refine v_get C in_X7 rfl 0 rfl 2 (by decide) q1060 (fun _ h => h) rfl dX7_readsNumber_35 ?_
    refine v_iload_n C dX7_readsNumber_38 0 rfl ?_
    refine v_iconst (v := 5) C dX7_readsNumber_39 (by decide) ?_
    refine v_iadd C dX7_readsNumber_40 ?_
    refine v_eqi (nI_add ((sk t ln k)) 5) ?_
    refine v_icmp_ge C 114 dX7_readsNumber_41 (by decide) (fun c41_10 => ?_) (fun c41_10 => ?_)
    · skip
      have hge5 : (sk t ln k) + 5 ≤ e9 := ((nI_leI (by omega) (by omega)).mp c41_10)
      have hfin : dgs t ln 5 (sk t ln k) 0 = (e9, v) := hx.trans (dgs_stop (Or.inl (by omega)))
      refine v_aload_n C dX7_readsNumber_114 1 rfl ?_
      refine v_get C in_X7 rfl 0 rfl 2 (by decide) q1060 (fun _ h => h) rfl dX7_readsNumber_115 ?_
      refine v_aload_n C dX7_readsNumber_118 1 rfl ?_
      refine v_get C in_X7 rfl 0 rfl 3 (by decide) q1062 (fun _ h => h) rfl dX7_readsNumber_119 ?_
      refine v_getN C in_X0 rfl 2 rfl 7 (by decide) q490 (fun _ h => h) rfl dX7_readsNumber_122 ?_
      refine v_zMV (ws' := (rdW g a us bn s0 t1 mb ln t ko fo dd q qn (upd td i v) od e9)) C (j_sblen l g (a 5) t1 mb ln t h120) [_, _, _] rfl ok_J5_length rfl q1080 rfl (Nat.le_of_ble_eq_true rfl) 0 rfl rfl rfl dX7_readsNumber_125 (roomL rfl rfl) ⟨rfl, rfl⟩ rfl ?_
      refine v_icmp_ge C 169 dX7_readsNumber_128 (by decide) (fun c128_11 => ?_) (fun c128_11 => ?_)
      · skip
        have hA : ¬ e9 < ln := Nat.not_lt.mpr ((nI_leI (by omega) (by omega)).mp c128_11)
        refine v_iconst (v := 0) C dX7_readsNumber_169 (by decide) ?_
        refine v_istore_n (lv' := [(3, _), (2, _), (0, _), (1, _)]) C dX7_readsNumber_170 rfl (by decide) rfl ?_
        refine v_aload_n C dX7_readsNumber_171 2 rfl ?_
        refine v_get C in_X7 rfl 0 rfl 2 (by decide) q1060 (fun _ h => h) rfl dX7_readsNumber_172 ?_
        refine v_iload_n C dX7_readsNumber_175 1 rfl ?_
        refine v_icmp_le C 187 dX7_readsNumber_176 (by decide) (fun c176_12 => ?_) (fun c176_12 => ?_)
        · skip
          have hC : ¬ (sk t ln k) < e9 := Nat.not_lt.mpr ((nI_leI (by omega) (by omega)).mp c176_12)
          refine v_iconst (v := 0) C dX7_readsNumber_187 (by decide) ?_
          exact v_zret C rfl dX7_readsNumber_188 (Nat.le_of_ble_eq_true rfl) (Nat.le_of_ble_eq_true rfl) (by unfold xNm xD; rw [hfin]; exact ⟨si (bI_f (fun z => hC z.1)).symm, rfl⟩)
        · skip
          have hC : (sk t ln k) < e9 := (Nat.lt_of_not_le (fun q9 => c176_12 ((nI_leI (by omega) (by omega)).mpr q9)))
          refine v_iload_n C dX7_readsNumber_179 0 rfl ?_
          refine v_if_ne C 187 dX7_readsNumber_180 (by decide) (fun c180_13 => ?_) (fun c180_13 => ?_)
          · exact absurd (by decide) c180_13
          · skip
            refine v_iconst (v := 1) C dX7_readsNumber_183 (by decide) ?_
            refine v_goto C 188 dX7_readsNumber_184 (by decide) ?_
            exact v_zret C rfl dX7_readsNumber_188 (Nat.le_of_ble_eq_true rfl) (Nat.le_of_ble_eq_true rfl) (by unfold xNm xD; rw [hfin]; exact ⟨si (bI_t ⟨hC, fun z => hA z.1⟩).symm, rfl⟩)
      · skip
        have hA : e9 < ln := (Nat.lt_of_not_le (fun q9 => c128_11 ((nI_leI (by omega) (by omega)).mpr q9)))
        have hlt := hA
        refine v_aload_n C dX7_readsNumber_131 1 rfl ?_
        refine v_get C in_X7 rfl 0 rfl 2 (by decide) q1060 (fun _ h => h) rfl dX7_readsNumber_132 ?_
        refine v_iload_n C dX7_readsNumber_135 0 rfl ?_
        refine v_iconst (v := 5) C dX7_readsNumber_136 (by decide) ?_
        refine v_iadd C dX7_readsNumber_137 ?_
        refine v_eqi (nI_add ((sk t ln k)) 5) ?_
        refine v_icmp_ne C 169 dX7_readsNumber_138 (by decide) (fun c138_14 => ?_) (fun c138_14 => ?_)
        · skip
          have hB : ¬ e9 = (sk t ln k) + 5 := fun q9 => c138_14 (by rw [q9])
          refine v_iconst (v := 0) C dX7_readsNumber_169 (by decide) ?_
          refine v_istore_n (lv' := [(3, _), (2, _), (0, _), (1, _)]) C dX7_readsNumber_170 rfl (by decide) rfl ?_
          refine v_aload_n C dX7_readsNumber_171 2 rfl ?_
          refine v_get C in_X7 rfl 0 rfl 2 (by decide) q1060 (fun _ h => h) rfl dX7_readsNumber_172 ?_
          refine v_iload_n C dX7_readsNumber_175 1 rfl ?_
          refine v_icmp_le C 187 dX7_readsNumber_176 (by decide) (fun c176_15 => ?_) (fun c176_15 => ?_)
          · skip
            have hC : ¬ (sk t ln k) < e9 := Nat.not_lt.mpr ((nI_leI (by omega) (by omega)).mp c176_15)
            refine v_iconst (v := 0) C dX7_readsNumber_187 (by decide) ?_
            exact v_zret C rfl dX7_readsNumber_188 (Nat.le_of_ble_eq_true rfl) (Nat.le_of_ble_eq_true rfl) (by unfold xNm xD; rw [hfin]; exact ⟨si (bI_f (fun z => hC z.1)).symm, rfl⟩)
          · skip
            have hC : (sk t ln k) < e9 := (Nat.lt_of_not_le (fun q9 => c176_15 ((nI_leI (by omega) (by omega)).mpr q9)))
            refine v_iload_n C dX7_readsNumber_179 0 rfl ?_
            refine v_if_ne C 187 dX7_readsNumber_180 (by decide) (fun c180_16 => ?_) (fun c180_16 => ?_)
            · exact absurd (by decide) c180_16
            · skip
              refine v_iconst (v := 1) C dX7_readsNumber_183 (by decide) ?_
              refine v_goto C 188 dX7_readsNumber_184 (by decide) ?_
              exact v_zret C rfl dX7_readsNumber_188 (Nat.le_of_ble_eq_true rfl) (Nat.le_of_ble_eq_true rfl) (by unfold xNm xD; rw [hfin]; exact ⟨si (bI_t ⟨hC, fun z => hB z.2.1⟩).symm, rfl⟩)
        · skip
          have hB : e9 = (sk t ln k) + 5 := nI_inj (by omega) (by omega) c138_14
          refine v_aload_n C dX7_readsNumber_141 1 rfl ?_
          refine v_get C in_X7 rfl 0 rfl 3 (by decide) q1062 (fun _ h => h) rfl dX7_readsNumber_142 ?_
          refine v_getN C in_X0 rfl 2 rfl 7 (by decide) q490 (fun _ h => h) rfl dX7_readsNumber_145 ?_
          refine v_aload_n C dX7_readsNumber_148 1 rfl ?_
          refine v_get C in_X7 rfl 0 rfl 2 (by decide) q1060 (fun _ h => h) rfl dX7_readsNumber_149 ?_
          refine v_zMV (ws' := (rdW g a us bn s0 t1 mb ln t ko fo dd q qn (upd td i v) od e9)) C (j_charAt l g (a 5) t1 mb ln t h120 e9 hlt (hch _ hlt)) [_, _, _] rfl ok_J5_charAt rfl q1081 rfl (Nat.le_of_ble_eq_true rfl) 0 rfl rfl rfl dX7_readsNumber_152 (roomL rfl rfl) ⟨rfl, rfl⟩ rfl ?_
          refine v_bipush (v := 48) C dX7_readsNumber_155 (by decide) ?_
          refine v_bipush (v := 57) C dX7_readsNumber_157 (by decide) ?_
          refine v_callSNp C (x_isIn l g _ _ _) ok_X0_isIn rfl q1097 rfl (Nat.le_of_ble_eq_true rfl) dX7_readsNumber_159 (roomL rfl rfl) ⟨rfl, rfl⟩ ?_
          refine v_ternB C 169 170 dX7_readsNumber_162 dX7_readsNumber_165 dX7_readsNumber_166 dX7_readsNumber_169 (by decide) (by decide) rfl ?_
          refine v_istore_n (lv' := [(3, _), (2, _), (0, _), (1, _)]) C dX7_readsNumber_170 rfl (by decide) rfl ?_
          refine v_aload_n C dX7_readsNumber_171 2 rfl ?_
          refine v_get C in_X7 rfl 0 rfl 2 (by decide) q1060 (fun _ h => h) rfl dX7_readsNumber_172 ?_
          refine v_iload_n C dX7_readsNumber_175 1 rfl ?_
          refine v_icmp_le C 187 dX7_readsNumber_176 (by decide) (fun c176_17 => ?_) (fun c176_17 => ?_)
          · skip
            have hC : ¬ (sk t ln k) < e9 := Nat.not_lt.mpr ((nI_leI (by omega) (by omega)).mp c176_17)
            refine v_iconst (v := 0) C dX7_readsNumber_187 (by decide) ?_
            exact v_zret C rfl dX7_readsNumber_188 (Nat.le_of_ble_eq_true rfl) (Nat.le_of_ble_eq_true rfl) (by unfold xNm xD; rw [hfin]; exact ⟨si (bI_f (fun z => hC z.1)).symm, rfl⟩)
          · skip
            have hC : (sk t ln k) < e9 := (Nat.lt_of_not_le (fun q9 => c176_17 ((nI_leI (by omega) (by omega)).mpr q9)))
            refine v_iload_n C dX7_readsNumber_179 0 rfl ?_
            refine v_if_neB C 187 dX7_readsNumber_180 (by decide) (fun c180_18 => ?_) (fun c180_18 => ?_)
            · skip
              refine v_iconst (v := 0) C dX7_readsNumber_187 (by decide) ?_
              exact v_zret C rfl dX7_readsNumber_188 (Nat.le_of_ble_eq_true rfl) (Nat.le_of_ble_eq_true rfl) (by unfold xNm xD; rw [hfin]; exact ⟨si (bI_f (fun z => z.2 ⟨hA, hB, c180_18⟩)).symm, rfl⟩)
            · skip
              refine v_iconst (v := 1) C dX7_readsNumber_183 (by decide) ?_
              refine v_goto C 188 dX7_readsNumber_184 (by decide) ?_
              exact v_zret C rfl dX7_readsNumber_188 (Nat.le_of_ble_eq_true rfl) (Nat.le_of_ble_eq_true rfl) (by unfold xNm xD; rw [hfin]; exact ⟨si (bI_t ⟨hC, fun z => c180_18 z.2.2⟩).symm, rfl⟩)
    · skip
      have hlt5 : e9 < (sk t ln k) + 5 := (Nat.lt_of_not_le (fun q9 => c41_10 ((nI_leI (by omega) (by omega)).mpr q9)))
      refine v_aload_n C dX7_readsNumber_44 1 rfl ?_
      refine v_get C in_X7 rfl 0 rfl 3 (by decide) q1062 (fun _ h => h) rfl dX7_readsNumber_45 ?_
      refine v_getN C in_X0 rfl 2 rfl 7 (by decide) q490 (fun _ h => h) rfl dX7_readsNumber_48 ?_
      refine v_aload_n C dX7_readsNumber_51 1 rfl ?_
      refine v_get C in_X7 rfl 0 rfl 2 (by decide) q1060 (fun _ h => h) rfl dX7_readsNumber_52 ?_
      refine v_zMV (ws' := (rdW g a us bn s0 t1 mb ln t ko fo dd q qn (upd td i v) od e9)) C (j_charAt l g (a 5) t1 mb ln t h120 e9 hlt (hch _ hlt)) [_, _, _] rfl ok_J5_charAt rfl q1081 rfl (Nat.le_of_ble_eq_true rfl) 0 rfl rfl rfl dX7_readsNumber_55 (roomL rfl rfl) ⟨rfl, rfl⟩ rfl ?_
      refine v_bipush (v := 48) C dX7_readsNumber_58 (by decide) ?_
      refine v_bipush (v := 57) C dX7_readsNumber_60 (by decide) ?_
      refine v_callSNp C (x_isIn l g _ _ _) ok_X0_isIn rfl q1097 rfl (Nat.le_of_ble_eq_true rfl) dX7_readsNumber_62 (roomL rfl rfl) ⟨rfl, rfl⟩ ?_
      refine v_if_eqB C 114 dX7_readsNumber_65 (by decide) (fun c65_19 => ?_) (fun c65_19 => ?_)
      · skip
        have hfin : dgs t ln 5 (sk t ln k) 0 = (e9, v) := hx.trans (dgs_stop (Or.inr (fun q9 => c65_19 q9.2)))
        refine v_aload_n C dX7_readsNumber_114 1 rfl ?_
        refine v_get C in_X7 rfl 0 rfl 2 (by decide) q1060 (fun _ h => h) rfl dX7_readsNumber_115 ?_
        refine v_aload_n C dX7_readsNumber_118 1 rfl ?_
        refine v_get C in_X7 rfl 0 rfl 3 (by decide) q1062 (fun _ h => h) rfl dX7_readsNumber_119 ?_
        refine v_getN C in_X0 rfl 2 rfl 7 (by decide) q490 (fun _ h => h) rfl dX7_readsNumber_122 ?_
        refine v_zMV (ws' := (rdW g a us bn s0 t1 mb ln t ko fo dd q qn (upd td i v) od e9)) C (j_sblen l g (a 5) t1 mb ln t h120) [_, _, _] rfl ok_J5_length rfl q1080 rfl (Nat.le_of_ble_eq_true rfl) 0 rfl rfl rfl dX7_readsNumber_125 (roomL rfl rfl) ⟨rfl, rfl⟩ rfl ?_
        refine v_icmp_ge C 169 dX7_readsNumber_128 (by decide) (fun c128_20 => ?_) (fun c128_20 => ?_)
        · skip
          have hA : ¬ e9 < ln := Nat.not_lt.mpr ((nI_leI (by omega) (by omega)).mp c128_20)
          refine v_iconst (v := 0) C dX7_readsNumber_169 (by decide) ?_
          refine v_istore_n (lv' := [(3, _), (2, _), (0, _), (1, _)]) C dX7_readsNumber_170 rfl (by decide) rfl ?_
          refine v_aload_n C dX7_readsNumber_171 2 rfl ?_
          refine v_get C in_X7 rfl 0 rfl 2 (by decide) q1060 (fun _ h => h) rfl dX7_readsNumber_172 ?_
          refine v_iload_n C dX7_readsNumber_175 1 rfl ?_
          refine v_icmp_le C 187 dX7_readsNumber_176 (by decide) (fun c176_21 => ?_) (fun c176_21 => ?_)
          · skip
            have hC : ¬ (sk t ln k) < e9 := Nat.not_lt.mpr ((nI_leI (by omega) (by omega)).mp c176_21)
            refine v_iconst (v := 0) C dX7_readsNumber_187 (by decide) ?_
            exact v_zret C rfl dX7_readsNumber_188 (Nat.le_of_ble_eq_true rfl) (Nat.le_of_ble_eq_true rfl) (by unfold xNm xD; rw [hfin]; exact ⟨si (bI_f (fun z => hC z.1)).symm, rfl⟩)
          · skip
            have hC : (sk t ln k) < e9 := (Nat.lt_of_not_le (fun q9 => c176_21 ((nI_leI (by omega) (by omega)).mpr q9)))
            refine v_iload_n C dX7_readsNumber_179 0 rfl ?_
            refine v_if_ne C 187 dX7_readsNumber_180 (by decide) (fun c180_22 => ?_) (fun c180_22 => ?_)
            · exact absurd (by decide) c180_22
            · skip
              refine v_iconst (v := 1) C dX7_readsNumber_183 (by decide) ?_
              refine v_goto C 188 dX7_readsNumber_184 (by decide) ?_
              exact v_zret C rfl dX7_readsNumber_188 (Nat.le_of_ble_eq_true rfl) (Nat.le_of_ble_eq_true rfl) (by unfold xNm xD; rw [hfin]; exact ⟨si (bI_t ⟨hC, fun z => hA z.1⟩).symm, rfl⟩)
        · skip
          have hA : e9 < ln := (Nat.lt_of_not_le (fun q9 => c128_20 ((nI_leI (by omega) (by omega)).mpr q9)))
          have hlt := hA
          refine v_aload_n C dX7_readsNumber_131 1 rfl ?_
          refine v_get C in_X7 rfl 0 rfl 2 (by decide) q1060 (fun _ h => h) rfl dX7_readsNumber_132 ?_
          refine v_iload_n C dX7_readsNumber_135 0 rfl ?_
          refine v_iconst (v := 5) C dX7_readsNumber_136 (by decide) ?_
          refine v_iadd C dX7_readsNumber_137 ?_
          refine v_eqi (nI_add ((sk t ln k)) 5) ?_
          refine v_icmp_ne C 169 dX7_readsNumber_138 (by decide) (fun c138_23 => ?_) (fun c138_23 => ?_)
          · skip
            have hB : ¬ e9 = (sk t ln k) + 5 := fun q9 => c138_23 (by rw [q9])
            refine v_iconst (v := 0) C dX7_readsNumber_169 (by decide) ?_
            refine v_istore_n (lv' := [(3, _), (2, _), (0, _), (1, _)]) C dX7_readsNumber_170 rfl (by decide) rfl ?_
            refine v_aload_n C dX7_readsNumber_171 2 rfl ?_
            refine v_get C in_X7 rfl 0 rfl 2 (by decide) q1060 (fun _ h => h) rfl dX7_readsNumber_172 ?_
            refine v_iload_n C dX7_readsNumber_175 1 rfl ?_
            refine v_icmp_le C 187 dX7_readsNumber_176 (by decide) (fun c176_24 => ?_) (fun c176_24 => ?_)
            · skip
              have hC : ¬ (sk t ln k) < e9 := Nat.not_lt.mpr ((nI_leI (by omega) (by omega)).mp c176_24)
              refine v_iconst (v := 0) C dX7_readsNumber_187 (by decide) ?_
              exact v_zret C rfl dX7_readsNumber_188 (Nat.le_of_ble_eq_true rfl) (Nat.le_of_ble_eq_true rfl) (by unfold xNm xD; rw [hfin]; exact ⟨si (bI_f (fun z => hC z.1)).symm, rfl⟩)
            · skip
              have hC : (sk t ln k) < e9 := (Nat.lt_of_not_le (fun q9 => c176_24 ((nI_leI (by omega) (by omega)).mpr q9)))
              refine v_iload_n C dX7_readsNumber_179 0 rfl ?_
              refine v_if_ne C 187 dX7_readsNumber_180 (by decide) (fun c180_25 => ?_) (fun c180_25 => ?_)
              · exact absurd (by decide) c180_25
              · skip
                refine v_iconst (v := 1) C dX7_readsNumber_183 (by decide) ?_
                refine v_goto C 188 dX7_readsNumber_184 (by decide) ?_
                exact v_zret C rfl dX7_readsNumber_188 (Nat.le_of_ble_eq_true rfl) (Nat.le_of_ble_eq_true rfl) (by unfold xNm xD; rw [hfin]; exact ⟨si (bI_t ⟨hC, fun z => hB z.2.1⟩).symm, rfl⟩)
          · skip
            have hB : e9 = (sk t ln k) + 5 := nI_inj (by omega) (by omega) c138_23
            refine v_aload_n C dX7_readsNumber_141 1 rfl ?_
            refine v_get C in_X7 rfl 0 rfl 3 (by decide) q1062 (fun _ h => h) rfl dX7_readsNumber_142 ?_
            refine v_getN C in_X0 rfl 2 rfl 7 (by decide) q490 (fun _ h => h) rfl dX7_readsNumber_145 ?_
            refine v_aload_n C dX7_readsNumber_148 1 rfl ?_
            refine v_get C in_X7 rfl 0 rfl 2 (by decide) q1060 (fun _ h => h) rfl dX7_readsNumber_149 ?_
            refine v_zMV (ws' := (rdW g a us bn s0 t1 mb ln t ko fo dd q qn (upd td i v) od e9)) C (j_charAt l g (a 5) t1 mb ln t h120 e9 hlt (hch _ hlt)) [_, _, _] rfl ok_J5_charAt rfl q1081 rfl (Nat.le_of_ble_eq_true rfl) 0 rfl rfl rfl dX7_readsNumber_152 (roomL rfl rfl) ⟨rfl, rfl⟩ rfl ?_
            refine v_bipush (v := 48) C dX7_readsNumber_155 (by decide) ?_
            refine v_bipush (v := 57) C dX7_readsNumber_157 (by decide) ?_
            refine v_callSNp C (x_isIn l g _ _ _) ok_X0_isIn rfl q1097 rfl (Nat.le_of_ble_eq_true rfl) dX7_readsNumber_159 (roomL rfl rfl) ⟨rfl, rfl⟩ ?_
            refine v_ternB C 169 170 dX7_readsNumber_162 dX7_readsNumber_165 dX7_readsNumber_166 dX7_readsNumber_169 (by decide) (by decide) rfl ?_
            refine v_istore_n (lv' := [(3, _), (2, _), (0, _), (1, _)]) C dX7_readsNumber_170 rfl (by decide) rfl ?_
            refine v_aload_n C dX7_readsNumber_171 2 rfl ?_
            refine v_get C in_X7 rfl 0 rfl 2 (by decide) q1060 (fun _ h => h) rfl dX7_readsNumber_172 ?_
            refine v_iload_n C dX7_readsNumber_175 1 rfl ?_
            refine v_icmp_le C 187 dX7_readsNumber_176 (by decide) (fun c176_26 => ?_) (fun c176_26 => ?_)
            · skip
              have hC : ¬ (sk t ln k) < e9 := Nat.not_lt.mpr ((nI_leI (by omega) (by omega)).mp c176_26)
              refine v_iconst (v := 0) C dX7_readsNumber_187 (by decide) ?_
              exact v_zret C rfl dX7_readsNumber_188 (Nat.le_of_ble_eq_true rfl) (Nat.le_of_ble_eq_true rfl) (by unfold xNm xD; rw [hfin]; exact ⟨si (bI_f (fun z => hC z.1)).symm, rfl⟩)
            · skip
              have hC : (sk t ln k) < e9 := (Nat.lt_of_not_le (fun q9 => c176_26 ((nI_leI (by omega) (by omega)).mpr q9)))
              refine v_iload_n C dX7_readsNumber_179 0 rfl ?_
              refine v_if_neB C 187 dX7_readsNumber_180 (by decide) (fun c180_27 => ?_) (fun c180_27 => ?_)
              · skip
                refine v_iconst (v := 0) C dX7_readsNumber_187 (by decide) ?_
                exact v_zret C rfl dX7_readsNumber_188 (Nat.le_of_ble_eq_true rfl) (Nat.le_of_ble_eq_true rfl) (by unfold xNm xD; rw [hfin]; exact ⟨si (bI_f (fun z => z.2 ⟨hA, hB, c180_27⟩)).symm, rfl⟩)
              · skip
                refine v_iconst (v := 1) C dX7_readsNumber_183 (by decide) ?_
                refine v_goto C 188 dX7_readsNumber_184 (by decide) ?_
                exact v_zret C rfl dX7_readsNumber_188 (Nat.le_of_ble_eq_true rfl) (Nat.le_of_ble_eq_true rfl) (by unfold xNm xD; rw [hfin]; exact ⟨si (bI_t ⟨hC, fun z => c180_27 z.2.2⟩).symm, rfl⟩)
      · skip
        have hdg := c65_19
        refine v_aload_n C dX7_readsNumber_68 1 rfl ?_
        refine v_get C in_X7 rfl 0 rfl 0 (by decide) q1056 (fun _ h => h) rfl dX7_readsNumber_69 ?_
        refine v_iload_n C dX7_readsNumber_72 2 rfl ?_
        refine v_bipush (v := 10) C dX7_readsNumber_73 (by decide) ?_
        refine v_aload_n C dX7_readsNumber_75 1 rfl ?_
        refine v_get C in_X7 rfl 0 rfl 0 (by decide) q1056 (fun _ h => h) rfl dX7_readsNumber_76 ?_
        refine v_iload_n C dX7_readsNumber_79 2 rfl ?_
        refine v_iald C dX7_readsNumber_80 1 rfl (ixn hi (by decide)) ?_
        refine v_eqi (show _ = v from if_pos rfl) ?_
        refine v_imul C dX7_readsNumber_81 ?_
        refine v_aload_n C dX7_readsNumber_82 1 rfl ?_
        refine v_get C in_X7 rfl 0 rfl 3 (by decide) q1062 (fun _ h => h) rfl dX7_readsNumber_83 ?_
        refine v_getN C in_X0 rfl 2 rfl 7 (by decide) q490 (fun _ h => h) rfl dX7_readsNumber_86 ?_
        refine v_aload_n C dX7_readsNumber_89 1 rfl ?_
        refine v_get C in_X7 rfl 0 rfl 2 (by decide) q1060 (fun _ h => h) rfl dX7_readsNumber_90 ?_
        refine v_zMV (ws' := (rdW g a us bn s0 t1 mb ln t ko fo dd q qn (upd td i v) od e9)) C (j_charAt l g (a 5) t1 mb ln t h120 e9 hlt (hch _ hlt)) [_, _, _] rfl ok_J5_charAt rfl q1081 rfl (Nat.le_of_ble_eq_true rfl) 0 rfl rfl rfl dX7_readsNumber_93 (roomL rfl rfl) ⟨rfl, rfl⟩ rfl ?_
        refine v_iadd C dX7_readsNumber_96 ?_
        refine v_bipush (v := 48) C dX7_readsNumber_97 (by decide) ?_
        refine v_isub C dX7_readsNumber_99 ?_
        refine v_iast (ws' := (rdW g a us bn s0 t1 mb ln t ko fo dd q qn (upd td i (10 * v + t e9 - 48)) od e9)) C dX7_readsNumber_100 1 rfl (ixn hi (by decide)) (show _ = _ from congrArg (fun z => (rdW g a us bn s0 t1 mb ln t ko fo dd q qn z od e9)) (upd_2 td i v (10 * v + t e9 - 48))) ?_
        refine v_aload_n C dX7_readsNumber_101 1 rfl ?_
        refine v_dup C dX7_readsNumber_102 rfl ?_
        refine v_get C in_X7 rfl 0 rfl 2 (by decide) q1060 (fun _ h => h) rfl dX7_readsNumber_103 ?_
        refine v_iconst (v := 1) C dX7_readsNumber_106 (by decide) ?_
        refine v_iadd C dX7_readsNumber_107 ?_
        refine v_eqi (nI_add e9 1) ?_
        refine v_put (ws' := (rdW g a us bn s0 t1 mb ln t ko fo dd q qn (upd td i (10 * v + t e9 - 48)) od (e9 + 1))) C in_X7 tyX7 tyX7_ok nmX7 rfl 0 rfl 2 (by decide) q1060 (fun _ h => h) rfl rfl rfl (Nat.le_of_ble_eq_true rfl) dX7_readsNumber_108 rfl ?_
        refine v_goto C 17 dX7_readsNumber_111 (by decide) ?_
        exact ih (e9 + 1, 10 * v + t e9 - 48) ⟨by dsimp only; omega, by dsimp only; omega, by dsimp only; omega, by dsimp only; rw [hx, show (sk t ln k) + 5 - e9 = ((sk t ln k) + 5 - (e9 + 1)) + 1 by omega, dgs, if_pos ⟨hlt, hdg⟩]⟩ (by dsimp only; omega)
def M_X7_readsOrder : Md := (yX7_readsOrder, cX7_readsOrder, 4, (some .boolean), 7, 171, 0, 0)
theorem ok_X7_readsOrder : MOKv M_X7_readsOrder 0 := ⟨q1073, q1074, q111, q1075, ⟨by decide +kernel, by decide +kernel, by decide +kernel⟩⟩
set_option maxHeartbeats 4000000 in
theorem x_readsOrd (l : Launch) (g : GT) (a : Nat → Nat) (us bn : Int32) (s0 t1 : Nat) (mb : Int32) (ln : Nat) (t : Nat → Int32) (ko fo dd : Nat → Nat) (q qn : Nat) (td : Nat → Int32) (od : Option Nat) (k : Nat) (h120 : ln ≤ 120) (hk : k ≤ ln) (hch : chOk ln t)  : CtE l g M_X7_readsOrder [.ref q] (rdW g a us bn s0 t1 mb ln t ko fo dd q qn td od k) (some (.int (bB (xro t ln k td).1))) (rdW g a us bn s0 t1 mb ln t ko fo dd q qn (xro t ln k td).2.2 (kf ko (hv t ln (sk t ln k)) 4) (xro t ln k td).2.1) := by
  refine Ct.start2 (M := M_X7_readsOrder) rfl [(0, .ref q)] rfl (by decide +kernel) (Nat.le_of_ble_eq_true rfl) ?_
  intro p e s m args below meth c A9 C
  refine v_aload_n C dX7_readsOrder_0 0 rfl ?_
  refine v_callVw C (x_here l g a us bn s0 t1 mb ln t ko fo dd q qn td od k h120 hk hch) ok_X7_here rfl q1076 rfl (Nat.le_of_ble_eq_true rfl) 0 rfl rfl rfl dX7_readsOrder_1 (roomL rfl rfl) ⟨rfl, rfl⟩ ?_
  refine v_istore_n (lv' := [(1, _), (0, _)]) C dX7_readsOrder_4 rfl (by decide) rfl ?_
  refine v_aload_n C dX7_readsOrder_5 1 rfl ?_
  refine v_null C dX7_readsOrder_6 ?_
  refine v_put (ws' := (rdW g a us bn s0 t1 mb ln t ko fo dd q qn td none (sk t ln k))) C in_X7 tyX7 tyX7_ok nmX7 rfl 0 rfl 1 (by decide) q1058 (fun _ h => h) rfl rfl rfl (Nat.le_of_ble_eq_true rfl) dX7_readsOrder_7 rfl ?_
  refine v_iconst (v := 0) C dX7_readsOrder_10 (by decide) ?_
  refine v_istore_n (lv' := [(2, _), (1, _), (0, _)]) C dX7_readsOrder_11 rfl (by decide) rfl ?_
  obtain ⟨hp1, hp2⟩ := sk_le (t := t) hk
  refine v_loop 0 4 (fun z => [(2, .int (nI z)), (1, .int (hv t ln (sk t ln k))), (0, .ref q)]) (fun z => (rdW g a us bn s0 t1 mb ln t ko fo dd q qn td (kf ko (hv t ln (sk t ln k)) z) (sk t ln k))) rfl rfl (by decide) ?_ ?_
  · skip
    refine v_iload_n C dX7_readsOrder_12 0 rfl ?_
    refine v_aload_n C dX7_readsOrder_13 2 rfl ?_
    refine v_get C in_X7 rfl 0 rfl 3 (by decide) q1062 (fun _ h => h) rfl dX7_readsOrder_14 ?_
    refine v_getN C in_X0 rfl 2 rfl 8 (by decide) q492 (fun _ h => h) rfl dX7_readsOrder_17 ?_
    refine v_alen C 6 dX7_readsOrder_20 5 rfl rfl (v := 4) rfl ?_
    refine v_icmp_ge C 66 dX7_readsOrder_21 (by decide) (fun c21_1 => ?_) (fun c21_1 => ?_)
    · skip
      rcases kf_4 ko (hv t ln (sk t ln k)) with ⟨hm, hkf⟩ | ⟨hm, hkf⟩ | ⟨hm, hkf⟩ | ⟨hm, hkf⟩ | ⟨hm, hkf⟩
      · skip
        rw [hkf]
        refine v_aload_n C dX7_readsOrder_66 2 rfl ?_
        refine v_get C in_X7 rfl 0 rfl 1 (by decide) q1058 (fun _ h => h) rfl dX7_readsOrder_67 ?_
        refine v_ifnonnullN C dX7_readsOrder_70 ?_
        refine v_iconst (v := 0) C dX7_readsOrder_73 (by decide) ?_
        exact v_zret C rfl dX7_readsOrder_74 (Nat.le_of_ble_eq_true rfl) (Nat.le_of_ble_eq_true rfl) (by unfold xro; rw [if_pos hm]; exact ⟨rfl, rfl⟩)
      · skip
        rw [hkf]
        refine v_aload_n C dX7_readsOrder_66 2 rfl ?_
        refine v_get C in_X7 rfl 0 rfl 1 (by decide) q1058 (fun _ h => h) rfl dX7_readsOrder_67 ?_
        refine v_ifnonnull C 75 dX7_readsOrder_70 (by decide) ?_
        refine v_aload_n C dX7_readsOrder_75 2 rfl ?_
        refine v_dup C dX7_readsOrder_76 rfl ?_
        refine v_get C in_X7 rfl 0 rfl 2 (by decide) q1060 (fun _ h => h) rfl dX7_readsOrder_77 ?_
        refine v_iconst (v := 1) C dX7_readsOrder_80 (by decide) ?_
        refine v_iadd C dX7_readsOrder_81 ?_
        refine v_eqi (nI_add ((sk t ln k)) 1) ?_
        refine v_put (ws' := (rdW g a us bn s0 t1 mb ln t ko fo dd q qn td (some (ko 0)) (sk t ln k + 1))) C in_X7 tyX7 tyX7_ok nmX7 rfl 0 rfl 2 (by decide) q1060 (fun _ h => h) rfl rfl rfl (Nat.le_of_ble_eq_true rfl) dX7_readsOrder_82 rfl ?_
        have hm0 : ¬ mny (hv t ln (sk t ln k)) = 0 := by rw [hm]; decide
        have hlt1 := mny_lt hm0
        have hk1 : (sk t ln k + 1) ≤ ln := by omega
        obtain ⟨hd1, hd2⟩ := sk_le (t := t) hk1
        obtain ⟨hd3, hd4⟩ := dgs_le t ln 5 (sk t ln (sk t ln k + 1)) 0 hd2
        refine v_aload_n C dX7_readsOrder_85 2 rfl ?_
        refine v_iconst (v := 0) C dX7_readsOrder_86 (by decide) ?_
        refine v_callVw C (x_readsNum l g a us bn s0 t1 mb ln t ko fo dd q qn td (some (ko 0)) (sk t ln k + 1) h120 hk1 hch 0 (by decide)) ok_X7_readsNumber rfl q1093 rfl (Nat.le_of_ble_eq_true rfl) 0 rfl rfl rfl dX7_readsOrder_87 (roomL rfl rfl) ⟨rfl, rfl⟩ ?_
        refine v_eqi (bI_bB _) ?_
        refine v_istore_n (lv' := [(2, _), (1, _), (0, _)]) C dX7_readsOrder_90 rfl (by decide) rfl ?_
        refine v_iconst (v := 1) C dX7_readsOrder_91 (by decide) ?_
        refine v_istore_n (lv' := [(3, _), (2, _), (1, _), (0, _)]) C dX7_readsOrder_92 rfl (by decide) rfl ?_
        refine v_while (α := Nat × Bool × Nat × (Nat → Int32)) (fun x => 5 - x.1) (fun x => 1 ≤ x.1 ∧ x.1 ≤ 5 ∧ x.2.2.1 ≤ ln ∧ xrL t ln (5 - 1) 1 (decide (xNm t ln (sk t ln k + 1))) (xD t ln (sk t ln k + 1)).1 (upd td 0 (xD t ln (sk t ln k + 1)).2) = xrL t ln (5 - x.1) x.1 x.2.1 x.2.2.1 x.2.2.2) (fun x => [(3, .int (nI x.1)), (2, .int (bB x.2.1)), (1, .int (hv t ln (sk t ln k))), (0, .ref q)]) (fun x => (rdW g a us bn s0 t1 mb ln t ko fo dd q qn x.2.2.2 (some (ko 0)) x.2.2.1)) (1, decide (xNm t ln (sk t ln k + 1)), (xD t ln (sk t ln k + 1)).1, upd td 0 (xD t ln (sk t ln k + 1)).2) rfl rfl ⟨Nat.le_refl _, by dsimp only; omega, hd4, rfl⟩ ?_
        rintro ⟨i2, ok2, q2, td2⟩ ⟨hi1, hi2, hq2, hx⟩ ih
        dsimp only at hi1 hi2 hq2 hx ih ⊢
        refine v_iload_n C dX7_readsOrder_93 0 rfl ?_
        refine v_aload_n C dX7_readsOrder_94 3 rfl ?_
        refine v_get C in_X7 rfl 0 rfl 1 (by decide) q1058 (fun _ h => h) rfl dX7_readsOrder_95 ?_
        refine v_getN C in_X2 rfl 6 rfl 1 (by decide) q386 (fun _ h => h) rfl dX7_readsOrder_98 ?_
        refine v_icmp_ge C 137 dX7_readsOrder_101 (by decide) (fun c101_2 => ?_) (fun c101_2 => ?_)
        · skip
          have hie : i2 = 5 := by have := (nI_leI (a := 5) (b := i2) (by decide) (by omega)).mp c101_2; omega
          refine v_iload_n C dX7_readsOrder_137 1 rfl ?_
          exact v_zret C (bB_nar _) dX7_readsOrder_138 (Nat.le_of_ble_eq_true rfl) (Nat.le_of_ble_eq_true rfl) (have hmn : mny (hv t ln (sk t ln k)) = 5 := (by rw [hm]; rfl); by unfold xro; rw [if_neg hm0, hmn, hx, hie]; exact ⟨rfl, rfl⟩)
        · skip
          have hil : i2 < 5 := Nat.lt_of_not_le (fun q9 => c101_2 ((nI_leI (a := 5) (b := i2) (by decide) (by omega)).mpr q9))
          refine v_iload_n C dX7_readsOrder_104 1 rfl ?_
          refine v_if_eq C 137 dX7_readsOrder_105 (by decide) (fun c105_3 => ?_) (fun c105_3 => ?_)
          · skip
            have hof := bB_0 c105_3
            refine v_iload_n C dX7_readsOrder_137 1 rfl ?_
            exact v_zret C (bB_nar _) dX7_readsOrder_138 (Nat.le_of_ble_eq_true rfl) (Nat.le_of_ble_eq_true rfl) (have hmn : mny (hv t ln (sk t ln k)) = 5 := (by rw [hm]; rfl); by subst hof; unfold xro; rw [if_neg hm0, hmn, hx, xrL_f]; exact ⟨rfl, rfl⟩)
          · skip
            have hok := bB_1 c105_3
            refine v_aload_n C dX7_readsOrder_108 3 rfl ?_
            refine v_bipush (v := 44) C dX7_readsOrder_109 (by decide) ?_
            refine v_callVw C (x_reads l g a us bn s0 t1 mb ln t ko fo dd q qn td2 (some (ko 0)) q2 h120 hq2 hch 44) ok_X7_reads rfl q1098 rfl (Nat.le_of_ble_eq_true rfl) 0 rfl rfl rfl dX7_readsOrder_111 (roomL rfl rfl) ⟨rfl, rfl⟩ ?_
            refine v_if_eqB C 129 dX7_readsOrder_114 (by decide) (fun c114_4 => ?_) (fun c114_4 => ?_)
            · skip
              refine v_iconst (v := 0) C dX7_readsOrder_129 (by decide) ?_
              refine v_istore_n (lv' := [(2, _), (3, _), (1, _), (0, _)]) C dX7_readsOrder_130 rfl (by decide) rfl ?_
              refine v_iinc (lv' := [(3, _), (2, _), (1, _), (0, _)]) C dX7_readsOrder_131 1 rfl (nI_1 i2) (by decide) rfl ?_
              refine v_goto C 93 dX7_readsOrder_134 (by decide) ?_
              rw [show xA t ln q2 44 = sk t ln q2 from if_neg c114_4]
              exact ih (i2 + 1, false, sk t ln q2, td2) ⟨by dsimp only; omega, by dsimp only; omega, by dsimp only; exact (sk_le (t := t) hq2).2, by dsimp only; rw [hx, show 5 - i2 = (5 - (i2 + 1)) + 1 by omega, xrL, if_pos hok, if_neg c114_4]⟩ (by dsimp only; omega)
            · skip
              have hl44 := hv_lt (show hv t ln (sk t ln q2) = 44 from c114_4) (by decide)
              have hk3 : sk t ln q2 + 1 ≤ ln := by omega
              rw [show xA t ln q2 44 = sk t ln q2 + 1 from if_pos c114_4]
              refine v_aload_n C dX7_readsOrder_117 3 rfl ?_
              refine v_iload_n C dX7_readsOrder_118 0 rfl ?_
              refine v_callVw C (x_readsNum l g a us bn s0 t1 mb ln t ko fo dd q qn td2 (some (ko 0)) (sk t ln q2 + 1) h120 hk3 hch i2 (by omega)) ok_X7_readsNumber rfl q1093 rfl (Nat.le_of_ble_eq_true rfl) 0 rfl rfl rfl dX7_readsOrder_119 (roomL rfl rfl) ⟨rfl, rfl⟩ ?_
              refine v_ternB C 129 130 dX7_readsOrder_122 dX7_readsOrder_125 dX7_readsOrder_126 dX7_readsOrder_129 (by decide) (by decide) rfl ?_
              refine v_eqi (bI_bB _) ?_
              refine v_istore_n (lv' := [(2, _), (3, _), (1, _), (0, _)]) C dX7_readsOrder_130 rfl (by decide) rfl ?_
              refine v_iinc (lv' := [(3, _), (2, _), (1, _), (0, _)]) C dX7_readsOrder_131 1 rfl (nI_1 i2) (by decide) rfl ?_
              refine v_goto C 93 dX7_readsOrder_134 (by decide) ?_
              have hxa : xA t ln q2 44 = sk t ln q2 + 1 := if_pos c114_4
              exact ih (i2 + 1, decide (xNm t ln (sk t ln q2 + 1)), (xD t ln (sk t ln q2 + 1)).1, upd td2 i2 (xD t ln (sk t ln q2 + 1)).2) ⟨by dsimp only; omega, by dsimp only; omega, by dsimp only; exact (dgs_le t ln 5 _ 0 (sk_le (t := t) hk3).2).2, by dsimp only; rw [hx, show 5 - i2 = (5 - (i2 + 1)) + 1 by omega, xrL, if_pos hok, if_pos c114_4]⟩ (by dsimp only; omega)
      · skip
        rw [hkf]
        refine v_aload_n C dX7_readsOrder_66 2 rfl ?_
        refine v_get C in_X7 rfl 0 rfl 1 (by decide) q1058 (fun _ h => h) rfl dX7_readsOrder_67 ?_
        refine v_ifnonnull C 75 dX7_readsOrder_70 (by decide) ?_
        refine v_aload_n C dX7_readsOrder_75 2 rfl ?_
        refine v_dup C dX7_readsOrder_76 rfl ?_
        refine v_get C in_X7 rfl 0 rfl 2 (by decide) q1060 (fun _ h => h) rfl dX7_readsOrder_77 ?_
        refine v_iconst (v := 1) C dX7_readsOrder_80 (by decide) ?_
        refine v_iadd C dX7_readsOrder_81 ?_
        refine v_eqi (nI_add ((sk t ln k)) 1) ?_
        refine v_put (ws' := (rdW g a us bn s0 t1 mb ln t ko fo dd q qn td (some (ko 1)) (sk t ln k + 1))) C in_X7 tyX7 tyX7_ok nmX7 rfl 0 rfl 2 (by decide) q1060 (fun _ h => h) rfl rfl rfl (Nat.le_of_ble_eq_true rfl) dX7_readsOrder_82 rfl ?_
        have hm0 : ¬ mny (hv t ln (sk t ln k)) = 0 := by rw [hm]; decide
        have hlt1 := mny_lt hm0
        have hk1 : (sk t ln k + 1) ≤ ln := by omega
        obtain ⟨hd1, hd2⟩ := sk_le (t := t) hk1
        obtain ⟨hd3, hd4⟩ := dgs_le t ln 5 (sk t ln (sk t ln k + 1)) 0 hd2
        refine v_aload_n C dX7_readsOrder_85 2 rfl ?_
        refine v_iconst (v := 0) C dX7_readsOrder_86 (by decide) ?_
        refine v_callVw C (x_readsNum l g a us bn s0 t1 mb ln t ko fo dd q qn td (some (ko 1)) (sk t ln k + 1) h120 hk1 hch 0 (by decide)) ok_X7_readsNumber rfl q1093 rfl (Nat.le_of_ble_eq_true rfl) 0 rfl rfl rfl dX7_readsOrder_87 (roomL rfl rfl) ⟨rfl, rfl⟩ ?_
        refine v_eqi (bI_bB _) ?_
        refine v_istore_n (lv' := [(2, _), (1, _), (0, _)]) C dX7_readsOrder_90 rfl (by decide) rfl ?_
        refine v_iconst (v := 1) C dX7_readsOrder_91 (by decide) ?_
        refine v_istore_n (lv' := [(3, _), (2, _), (1, _), (0, _)]) C dX7_readsOrder_92 rfl (by decide) rfl ?_
        refine v_while (α := Nat × Bool × Nat × (Nat → Int32)) (fun x => 4 - x.1) (fun x => 1 ≤ x.1 ∧ x.1 ≤ 4 ∧ x.2.2.1 ≤ ln ∧ xrL t ln (4 - 1) 1 (decide (xNm t ln (sk t ln k + 1))) (xD t ln (sk t ln k + 1)).1 (upd td 0 (xD t ln (sk t ln k + 1)).2) = xrL t ln (4 - x.1) x.1 x.2.1 x.2.2.1 x.2.2.2) (fun x => [(3, .int (nI x.1)), (2, .int (bB x.2.1)), (1, .int (hv t ln (sk t ln k))), (0, .ref q)]) (fun x => (rdW g a us bn s0 t1 mb ln t ko fo dd q qn x.2.2.2 (some (ko 1)) x.2.2.1)) (1, decide (xNm t ln (sk t ln k + 1)), (xD t ln (sk t ln k + 1)).1, upd td 0 (xD t ln (sk t ln k + 1)).2) rfl rfl ⟨Nat.le_refl _, by dsimp only; omega, hd4, rfl⟩ ?_
        rintro ⟨i2, ok2, q2, td2⟩ ⟨hi1, hi2, hq2, hx⟩ ih
        dsimp only at hi1 hi2 hq2 hx ih ⊢
        refine v_iload_n C dX7_readsOrder_93 0 rfl ?_
        refine v_aload_n C dX7_readsOrder_94 3 rfl ?_
        refine v_get C in_X7 rfl 0 rfl 1 (by decide) q1058 (fun _ h => h) rfl dX7_readsOrder_95 ?_
        refine v_getN C in_X2 rfl 7 rfl 1 (by decide) q386 (fun _ h => h) rfl dX7_readsOrder_98 ?_
        refine v_icmp_ge C 137 dX7_readsOrder_101 (by decide) (fun c101_5 => ?_) (fun c101_5 => ?_)
        · skip
          have hie : i2 = 4 := by have := (nI_leI (a := 4) (b := i2) (by decide) (by omega)).mp c101_5; omega
          refine v_iload_n C dX7_readsOrder_137 1 rfl ?_
          exact v_zret C (bB_nar _) dX7_readsOrder_138 (Nat.le_of_ble_eq_true rfl) (Nat.le_of_ble_eq_true rfl) (have hmn : mny (hv t ln (sk t ln k)) = 4 := (by rw [hm]; rfl); by unfold xro; rw [if_neg hm0, hmn, hx, hie]; exact ⟨rfl, rfl⟩)
        · skip
          have hil : i2 < 4 := Nat.lt_of_not_le (fun q9 => c101_5 ((nI_leI (a := 4) (b := i2) (by decide) (by omega)).mpr q9))
          refine v_iload_n C dX7_readsOrder_104 1 rfl ?_
          refine v_if_eq C 137 dX7_readsOrder_105 (by decide) (fun c105_6 => ?_) (fun c105_6 => ?_)
          · skip
            have hof := bB_0 c105_6
            refine v_iload_n C dX7_readsOrder_137 1 rfl ?_
            exact v_zret C (bB_nar _) dX7_readsOrder_138 (Nat.le_of_ble_eq_true rfl) (Nat.le_of_ble_eq_true rfl) (have hmn : mny (hv t ln (sk t ln k)) = 4 := (by rw [hm]; rfl); by subst hof; unfold xro; rw [if_neg hm0, hmn, hx, xrL_f]; exact ⟨rfl, rfl⟩)
          · skip
            have hok := bB_1 c105_6
            refine v_aload_n C dX7_readsOrder_108 3 rfl ?_
            refine v_bipush (v := 44) C dX7_readsOrder_109 (by decide) ?_
            refine v_callVw C (x_reads l g a us bn s0 t1 mb ln t ko fo dd q qn td2 (some (ko 1)) q2 h120 hq2 hch 44) ok_X7_reads rfl q1098 rfl (Nat.le_of_ble_eq_true rfl) 0 rfl rfl rfl dX7_readsOrder_111 (roomL rfl rfl) ⟨rfl, rfl⟩ ?_
            refine v_if_eqB C 129 dX7_readsOrder_114 (by decide) (fun c114_7 => ?_) (fun c114_7 => ?_)
            · skip
              refine v_iconst (v := 0) C dX7_readsOrder_129 (by decide) ?_
              refine v_istore_n (lv' := [(2, _), (3, _), (1, _), (0, _)]) C dX7_readsOrder_130 rfl (by decide) rfl ?_
              refine v_iinc (lv' := [(3, _), (2, _), (1, _), (0, _)]) C dX7_readsOrder_131 1 rfl (nI_1 i2) (by decide) rfl ?_
              refine v_goto C 93 dX7_readsOrder_134 (by decide) ?_
              rw [show xA t ln q2 44 = sk t ln q2 from if_neg c114_7]
              exact ih (i2 + 1, false, sk t ln q2, td2) ⟨by dsimp only; omega, by dsimp only; omega, by dsimp only; exact (sk_le (t := t) hq2).2, by dsimp only; rw [hx, show 4 - i2 = (4 - (i2 + 1)) + 1 by omega, xrL, if_pos hok, if_neg c114_7]⟩ (by dsimp only; omega)
            · skip
              have hl44 := hv_lt (show hv t ln (sk t ln q2) = 44 from c114_7) (by decide)
              have hk3 : sk t ln q2 + 1 ≤ ln := by omega
              rw [show xA t ln q2 44 = sk t ln q2 + 1 from if_pos c114_7]
              refine v_aload_n C dX7_readsOrder_117 3 rfl ?_
              refine v_iload_n C dX7_readsOrder_118 0 rfl ?_
              refine v_callVw C (x_readsNum l g a us bn s0 t1 mb ln t ko fo dd q qn td2 (some (ko 1)) (sk t ln q2 + 1) h120 hk3 hch i2 (by omega)) ok_X7_readsNumber rfl q1093 rfl (Nat.le_of_ble_eq_true rfl) 0 rfl rfl rfl dX7_readsOrder_119 (roomL rfl rfl) ⟨rfl, rfl⟩ ?_
              refine v_ternB C 129 130 dX7_readsOrder_122 dX7_readsOrder_125 dX7_readsOrder_126 dX7_readsOrder_129 (by decide) (by decide) rfl ?_
              refine v_eqi (bI_bB _) ?_
              refine v_istore_n (lv' := [(2, _), (3, _), (1, _), (0, _)]) C dX7_readsOrder_130 rfl (by decide) rfl ?_
              refine v_iinc (lv' := [(3, _), (2, _), (1, _), (0, _)]) C dX7_readsOrder_131 1 rfl (nI_1 i2) (by decide) rfl ?_
              refine v_goto C 93 dX7_readsOrder_134 (by decide) ?_
              have hxa : xA t ln q2 44 = sk t ln q2 + 1 := if_pos c114_7
              exact ih (i2 + 1, decide (xNm t ln (sk t ln q2 + 1)), (xD t ln (sk t ln q2 + 1)).1, upd td2 i2 (xD t ln (sk t ln q2 + 1)).2) ⟨by dsimp only; omega, by dsimp only; omega, by dsimp only; exact (dgs_le t ln 5 _ 0 (sk_le (t := t) hk3).2).2, by dsimp only; rw [hx, show 4 - i2 = (4 - (i2 + 1)) + 1 by omega, xrL, if_pos hok, if_pos c114_7]⟩ (by dsimp only; omega)
      · skip
        rw [hkf]
        refine v_aload_n C dX7_readsOrder_66 2 rfl ?_
        refine v_get C in_X7 rfl 0 rfl 1 (by decide) q1058 (fun _ h => h) rfl dX7_readsOrder_67 ?_
        refine v_ifnonnull C 75 dX7_readsOrder_70 (by decide) ?_
        refine v_aload_n C dX7_readsOrder_75 2 rfl ?_
        refine v_dup C dX7_readsOrder_76 rfl ?_
        refine v_get C in_X7 rfl 0 rfl 2 (by decide) q1060 (fun _ h => h) rfl dX7_readsOrder_77 ?_
        refine v_iconst (v := 1) C dX7_readsOrder_80 (by decide) ?_
        refine v_iadd C dX7_readsOrder_81 ?_
        refine v_eqi (nI_add ((sk t ln k)) 1) ?_
        refine v_put (ws' := (rdW g a us bn s0 t1 mb ln t ko fo dd q qn td (some (ko 2)) (sk t ln k + 1))) C in_X7 tyX7 tyX7_ok nmX7 rfl 0 rfl 2 (by decide) q1060 (fun _ h => h) rfl rfl rfl (Nat.le_of_ble_eq_true rfl) dX7_readsOrder_82 rfl ?_
        have hm0 : ¬ mny (hv t ln (sk t ln k)) = 0 := by rw [hm]; decide
        have hlt1 := mny_lt hm0
        have hk1 : (sk t ln k + 1) ≤ ln := by omega
        obtain ⟨hd1, hd2⟩ := sk_le (t := t) hk1
        obtain ⟨hd3, hd4⟩ := dgs_le t ln 5 (sk t ln (sk t ln k + 1)) 0 hd2
        refine v_aload_n C dX7_readsOrder_85 2 rfl ?_
        refine v_iconst (v := 0) C dX7_readsOrder_86 (by decide) ?_
        refine v_callVw C (x_readsNum l g a us bn s0 t1 mb ln t ko fo dd q qn td (some (ko 2)) (sk t ln k + 1) h120 hk1 hch 0 (by decide)) ok_X7_readsNumber rfl q1093 rfl (Nat.le_of_ble_eq_true rfl) 0 rfl rfl rfl dX7_readsOrder_87 (roomL rfl rfl) ⟨rfl, rfl⟩ ?_
        refine v_eqi (bI_bB _) ?_
        refine v_istore_n (lv' := [(2, _), (1, _), (0, _)]) C dX7_readsOrder_90 rfl (by decide) rfl ?_
        refine v_iconst (v := 1) C dX7_readsOrder_91 (by decide) ?_
        refine v_istore_n (lv' := [(3, _), (2, _), (1, _), (0, _)]) C dX7_readsOrder_92 rfl (by decide) rfl ?_
        refine v_while (α := Nat × Bool × Nat × (Nat → Int32)) (fun x => 2 - x.1) (fun x => 1 ≤ x.1 ∧ x.1 ≤ 2 ∧ x.2.2.1 ≤ ln ∧ xrL t ln (2 - 1) 1 (decide (xNm t ln (sk t ln k + 1))) (xD t ln (sk t ln k + 1)).1 (upd td 0 (xD t ln (sk t ln k + 1)).2) = xrL t ln (2 - x.1) x.1 x.2.1 x.2.2.1 x.2.2.2) (fun x => [(3, .int (nI x.1)), (2, .int (bB x.2.1)), (1, .int (hv t ln (sk t ln k))), (0, .ref q)]) (fun x => (rdW g a us bn s0 t1 mb ln t ko fo dd q qn x.2.2.2 (some (ko 2)) x.2.2.1)) (1, decide (xNm t ln (sk t ln k + 1)), (xD t ln (sk t ln k + 1)).1, upd td 0 (xD t ln (sk t ln k + 1)).2) rfl rfl ⟨Nat.le_refl _, by dsimp only; omega, hd4, rfl⟩ ?_
        rintro ⟨i2, ok2, q2, td2⟩ ⟨hi1, hi2, hq2, hx⟩ ih
        dsimp only at hi1 hi2 hq2 hx ih ⊢
        refine v_iload_n C dX7_readsOrder_93 0 rfl ?_
        refine v_aload_n C dX7_readsOrder_94 3 rfl ?_
        refine v_get C in_X7 rfl 0 rfl 1 (by decide) q1058 (fun _ h => h) rfl dX7_readsOrder_95 ?_
        refine v_getN C in_X2 rfl 8 rfl 1 (by decide) q386 (fun _ h => h) rfl dX7_readsOrder_98 ?_
        refine v_icmp_ge C 137 dX7_readsOrder_101 (by decide) (fun c101_8 => ?_) (fun c101_8 => ?_)
        · skip
          have hie : i2 = 2 := by have := (nI_leI (a := 2) (b := i2) (by decide) (by omega)).mp c101_8; omega
          refine v_iload_n C dX7_readsOrder_137 1 rfl ?_
          exact v_zret C (bB_nar _) dX7_readsOrder_138 (Nat.le_of_ble_eq_true rfl) (Nat.le_of_ble_eq_true rfl) (have hmn : mny (hv t ln (sk t ln k)) = 2 := (by rw [hm]; rfl); by unfold xro; rw [if_neg hm0, hmn, hx, hie]; exact ⟨rfl, rfl⟩)
        · skip
          have hil : i2 < 2 := Nat.lt_of_not_le (fun q9 => c101_8 ((nI_leI (a := 2) (b := i2) (by decide) (by omega)).mpr q9))
          refine v_iload_n C dX7_readsOrder_104 1 rfl ?_
          refine v_if_eq C 137 dX7_readsOrder_105 (by decide) (fun c105_9 => ?_) (fun c105_9 => ?_)
          · skip
            have hof := bB_0 c105_9
            refine v_iload_n C dX7_readsOrder_137 1 rfl ?_
            exact v_zret C (bB_nar _) dX7_readsOrder_138 (Nat.le_of_ble_eq_true rfl) (Nat.le_of_ble_eq_true rfl) (have hmn : mny (hv t ln (sk t ln k)) = 2 := (by rw [hm]; rfl); by subst hof; unfold xro; rw [if_neg hm0, hmn, hx, xrL_f]; exact ⟨rfl, rfl⟩)
          · skip
            have hok := bB_1 c105_9
            refine v_aload_n C dX7_readsOrder_108 3 rfl ?_
            refine v_bipush (v := 44) C dX7_readsOrder_109 (by decide) ?_
            refine v_callVw C (x_reads l g a us bn s0 t1 mb ln t ko fo dd q qn td2 (some (ko 2)) q2 h120 hq2 hch 44) ok_X7_reads rfl q1098 rfl (Nat.le_of_ble_eq_true rfl) 0 rfl rfl rfl dX7_readsOrder_111 (roomL rfl rfl) ⟨rfl, rfl⟩ ?_
            refine v_if_eqB C 129 dX7_readsOrder_114 (by decide) (fun c114_10 => ?_) (fun c114_10 => ?_)
            · skip
              refine v_iconst (v := 0) C dX7_readsOrder_129 (by decide) ?_
              refine v_istore_n (lv' := [(2, _), (3, _), (1, _), (0, _)]) C dX7_readsOrder_130 rfl (by decide) rfl ?_
              refine v_iinc (lv' := [(3, _), (2, _), (1, _), (0, _)]) C dX7_readsOrder_131 1 rfl (nI_1 i2) (by decide) rfl ?_
              refine v_goto C 93 dX7_readsOrder_134 (by decide) ?_
              rw [show xA t ln q2 44 = sk t ln q2 from if_neg c114_10]
              exact ih (i2 + 1, false, sk t ln q2, td2) ⟨by dsimp only; omega, by dsimp only; omega, by dsimp only; exact (sk_le (t := t) hq2).2, by dsimp only; rw [hx, show 2 - i2 = (2 - (i2 + 1)) + 1 by omega, xrL, if_pos hok, if_neg c114_10]⟩ (by dsimp only; omega)
            · skip
              have hl44 := hv_lt (show hv t ln (sk t ln q2) = 44 from c114_10) (by decide)
              have hk3 : sk t ln q2 + 1 ≤ ln := by omega
              rw [show xA t ln q2 44 = sk t ln q2 + 1 from if_pos c114_10]
              refine v_aload_n C dX7_readsOrder_117 3 rfl ?_
              refine v_iload_n C dX7_readsOrder_118 0 rfl ?_
              refine v_callVw C (x_readsNum l g a us bn s0 t1 mb ln t ko fo dd q qn td2 (some (ko 2)) (sk t ln q2 + 1) h120 hk3 hch i2 (by omega)) ok_X7_readsNumber rfl q1093 rfl (Nat.le_of_ble_eq_true rfl) 0 rfl rfl rfl dX7_readsOrder_119 (roomL rfl rfl) ⟨rfl, rfl⟩ ?_
              refine v_ternB C 129 130 dX7_readsOrder_122 dX7_readsOrder_125 dX7_readsOrder_126 dX7_readsOrder_129 (by decide) (by decide) rfl ?_
              refine v_eqi (bI_bB _) ?_
              refine v_istore_n (lv' := [(2, _), (3, _), (1, _), (0, _)]) C dX7_readsOrder_130 rfl (by decide) rfl ?_
              refine v_iinc (lv' := [(3, _), (2, _), (1, _), (0, _)]) C dX7_readsOrder_131 1 rfl (nI_1 i2) (by decide) rfl ?_
              refine v_goto C 93 dX7_readsOrder_134 (by decide) ?_
              have hxa : xA t ln q2 44 = sk t ln q2 + 1 := if_pos c114_10
              exact ih (i2 + 1, decide (xNm t ln (sk t ln q2 + 1)), (xD t ln (sk t ln q2 + 1)).1, upd td2 i2 (xD t ln (sk t ln q2 + 1)).2) ⟨by dsimp only; omega, by dsimp only; omega, by dsimp only; exact (dgs_le t ln 5 _ 0 (sk_le (t := t) hk3).2).2, by dsimp only; rw [hx, show 2 - i2 = (2 - (i2 + 1)) + 1 by omega, xrL, if_pos hok, if_pos c114_10]⟩ (by dsimp only; omega)
      · skip
        rw [hkf]
        refine v_aload_n C dX7_readsOrder_66 2 rfl ?_
        refine v_get C in_X7 rfl 0 rfl 1 (by decide) q1058 (fun _ h => h) rfl dX7_readsOrder_67 ?_
        refine v_ifnonnull C 75 dX7_readsOrder_70 (by decide) ?_
        refine v_aload_n C dX7_readsOrder_75 2 rfl ?_
        refine v_dup C dX7_readsOrder_76 rfl ?_
        refine v_get C in_X7 rfl 0 rfl 2 (by decide) q1060 (fun _ h => h) rfl dX7_readsOrder_77 ?_
        refine v_iconst (v := 1) C dX7_readsOrder_80 (by decide) ?_
        refine v_iadd C dX7_readsOrder_81 ?_
        refine v_eqi (nI_add ((sk t ln k)) 1) ?_
        refine v_put (ws' := (rdW g a us bn s0 t1 mb ln t ko fo dd q qn td (some (ko 3)) (sk t ln k + 1))) C in_X7 tyX7 tyX7_ok nmX7 rfl 0 rfl 2 (by decide) q1060 (fun _ h => h) rfl rfl rfl (Nat.le_of_ble_eq_true rfl) dX7_readsOrder_82 rfl ?_
        have hm0 : ¬ mny (hv t ln (sk t ln k)) = 0 := by rw [hm]; decide
        have hlt1 := mny_lt hm0
        have hk1 : (sk t ln k + 1) ≤ ln := by omega
        obtain ⟨hd1, hd2⟩ := sk_le (t := t) hk1
        obtain ⟨hd3, hd4⟩ := dgs_le t ln 5 (sk t ln (sk t ln k + 1)) 0 hd2
        refine v_aload_n C dX7_readsOrder_85 2 rfl ?_
        refine v_iconst (v := 0) C dX7_readsOrder_86 (by decide) ?_
        refine v_callVw C (x_readsNum l g a us bn s0 t1 mb ln t ko fo dd q qn td (some (ko 3)) (sk t ln k + 1) h120 hk1 hch 0 (by decide)) ok_X7_readsNumber rfl q1093 rfl (Nat.le_of_ble_eq_true rfl) 0 rfl rfl rfl dX7_readsOrder_87 (roomL rfl rfl) ⟨rfl, rfl⟩ ?_
        refine v_eqi (bI_bB _) ?_
        refine v_istore_n (lv' := [(2, _), (1, _), (0, _)]) C dX7_readsOrder_90 rfl (by decide) rfl ?_
        refine v_iconst (v := 1) C dX7_readsOrder_91 (by decide) ?_
        refine v_istore_n (lv' := [(3, _), (2, _), (1, _), (0, _)]) C dX7_readsOrder_92 rfl (by decide) rfl ?_
        refine v_while (α := Nat × Bool × Nat × (Nat → Int32)) (fun x => 2 - x.1) (fun x => 1 ≤ x.1 ∧ x.1 ≤ 2 ∧ x.2.2.1 ≤ ln ∧ xrL t ln (2 - 1) 1 (decide (xNm t ln (sk t ln k + 1))) (xD t ln (sk t ln k + 1)).1 (upd td 0 (xD t ln (sk t ln k + 1)).2) = xrL t ln (2 - x.1) x.1 x.2.1 x.2.2.1 x.2.2.2) (fun x => [(3, .int (nI x.1)), (2, .int (bB x.2.1)), (1, .int (hv t ln (sk t ln k))), (0, .ref q)]) (fun x => (rdW g a us bn s0 t1 mb ln t ko fo dd q qn x.2.2.2 (some (ko 3)) x.2.2.1)) (1, decide (xNm t ln (sk t ln k + 1)), (xD t ln (sk t ln k + 1)).1, upd td 0 (xD t ln (sk t ln k + 1)).2) rfl rfl ⟨Nat.le_refl _, by dsimp only; omega, hd4, rfl⟩ ?_
        rintro ⟨i2, ok2, q2, td2⟩ ⟨hi1, hi2, hq2, hx⟩ ih
        dsimp only at hi1 hi2 hq2 hx ih ⊢
        refine v_iload_n C dX7_readsOrder_93 0 rfl ?_
        refine v_aload_n C dX7_readsOrder_94 3 rfl ?_
        refine v_get C in_X7 rfl 0 rfl 1 (by decide) q1058 (fun _ h => h) rfl dX7_readsOrder_95 ?_
        refine v_getN C in_X2 rfl 9 rfl 1 (by decide) q386 (fun _ h => h) rfl dX7_readsOrder_98 ?_
        refine v_icmp_ge C 137 dX7_readsOrder_101 (by decide) (fun c101_11 => ?_) (fun c101_11 => ?_)
        · skip
          have hie : i2 = 2 := by have := (nI_leI (a := 2) (b := i2) (by decide) (by omega)).mp c101_11; omega
          refine v_iload_n C dX7_readsOrder_137 1 rfl ?_
          exact v_zret C (bB_nar _) dX7_readsOrder_138 (Nat.le_of_ble_eq_true rfl) (Nat.le_of_ble_eq_true rfl) (have hmn : mny (hv t ln (sk t ln k)) = 2 := (by rw [hm]; rfl); by unfold xro; rw [if_neg hm0, hmn, hx, hie]; exact ⟨rfl, rfl⟩)
        · skip
          have hil : i2 < 2 := Nat.lt_of_not_le (fun q9 => c101_11 ((nI_leI (a := 2) (b := i2) (by decide) (by omega)).mpr q9))
          refine v_iload_n C dX7_readsOrder_104 1 rfl ?_
          refine v_if_eq C 137 dX7_readsOrder_105 (by decide) (fun c105_12 => ?_) (fun c105_12 => ?_)
          · skip
            have hof := bB_0 c105_12
            refine v_iload_n C dX7_readsOrder_137 1 rfl ?_
            exact v_zret C (bB_nar _) dX7_readsOrder_138 (Nat.le_of_ble_eq_true rfl) (Nat.le_of_ble_eq_true rfl) (have hmn : mny (hv t ln (sk t ln k)) = 2 := (by rw [hm]; rfl); by subst hof; unfold xro; rw [if_neg hm0, hmn, hx, xrL_f]; exact ⟨rfl, rfl⟩)
          · skip
            have hok := bB_1 c105_12
            refine v_aload_n C dX7_readsOrder_108 3 rfl ?_
            refine v_bipush (v := 44) C dX7_readsOrder_109 (by decide) ?_
            refine v_callVw C (x_reads l g a us bn s0 t1 mb ln t ko fo dd q qn td2 (some (ko 3)) q2 h120 hq2 hch 44) ok_X7_reads rfl q1098 rfl (Nat.le_of_ble_eq_true rfl) 0 rfl rfl rfl dX7_readsOrder_111 (roomL rfl rfl) ⟨rfl, rfl⟩ ?_
            refine v_if_eqB C 129 dX7_readsOrder_114 (by decide) (fun c114_13 => ?_) (fun c114_13 => ?_)
            · skip
              refine v_iconst (v := 0) C dX7_readsOrder_129 (by decide) ?_
              refine v_istore_n (lv' := [(2, _), (3, _), (1, _), (0, _)]) C dX7_readsOrder_130 rfl (by decide) rfl ?_
              refine v_iinc (lv' := [(3, _), (2, _), (1, _), (0, _)]) C dX7_readsOrder_131 1 rfl (nI_1 i2) (by decide) rfl ?_
              refine v_goto C 93 dX7_readsOrder_134 (by decide) ?_
              rw [show xA t ln q2 44 = sk t ln q2 from if_neg c114_13]
              exact ih (i2 + 1, false, sk t ln q2, td2) ⟨by dsimp only; omega, by dsimp only; omega, by dsimp only; exact (sk_le (t := t) hq2).2, by dsimp only; rw [hx, show 2 - i2 = (2 - (i2 + 1)) + 1 by omega, xrL, if_pos hok, if_neg c114_13]⟩ (by dsimp only; omega)
            · skip
              have hl44 := hv_lt (show hv t ln (sk t ln q2) = 44 from c114_13) (by decide)
              have hk3 : sk t ln q2 + 1 ≤ ln := by omega
              rw [show xA t ln q2 44 = sk t ln q2 + 1 from if_pos c114_13]
              refine v_aload_n C dX7_readsOrder_117 3 rfl ?_
              refine v_iload_n C dX7_readsOrder_118 0 rfl ?_
              refine v_callVw C (x_readsNum l g a us bn s0 t1 mb ln t ko fo dd q qn td2 (some (ko 3)) (sk t ln q2 + 1) h120 hk3 hch i2 (by omega)) ok_X7_readsNumber rfl q1093 rfl (Nat.le_of_ble_eq_true rfl) 0 rfl rfl rfl dX7_readsOrder_119 (roomL rfl rfl) ⟨rfl, rfl⟩ ?_
              refine v_ternB C 129 130 dX7_readsOrder_122 dX7_readsOrder_125 dX7_readsOrder_126 dX7_readsOrder_129 (by decide) (by decide) rfl ?_
              refine v_eqi (bI_bB _) ?_
              refine v_istore_n (lv' := [(2, _), (3, _), (1, _), (0, _)]) C dX7_readsOrder_130 rfl (by decide) rfl ?_
              refine v_iinc (lv' := [(3, _), (2, _), (1, _), (0, _)]) C dX7_readsOrder_131 1 rfl (nI_1 i2) (by decide) rfl ?_
              refine v_goto C 93 dX7_readsOrder_134 (by decide) ?_
              have hxa : xA t ln q2 44 = sk t ln q2 + 1 := if_pos c114_13
              exact ih (i2 + 1, decide (xNm t ln (sk t ln q2 + 1)), (xD t ln (sk t ln q2 + 1)).1, upd td2 i2 (xD t ln (sk t ln q2 + 1)).2) ⟨by dsimp only; omega, by dsimp only; omega, by dsimp only; exact (dgs_le t ln 5 _ 0 (sk_le (t := t) hk3).2).2, by dsimp only; rw [hx, show 2 - i2 = (2 - (i2 + 1)) + 1 by omega, xrL, if_pos hok, if_pos c114_13]⟩ (by dsimp only; omega)
    · exact absurd (Int32.le_refl _) c21_1
  · intro z hz hz0 hback
    rcases (show z = 0 ∨ z = 1 ∨ z = 2 ∨ z = 3 by omega) with rfl | rfl | rfl | rfl
    · skip
      refine v_iload_n C dX7_readsOrder_12 0 rfl ?_
      refine v_aload_n C dX7_readsOrder_13 2 rfl ?_
      refine v_get C in_X7 rfl 0 rfl 3 (by decide) q1062 (fun _ h => h) rfl dX7_readsOrder_14 ?_
      refine v_getN C in_X0 rfl 2 rfl 8 (by decide) q492 (fun _ h => h) rfl dX7_readsOrder_17 ?_
      refine v_alen C 6 dX7_readsOrder_20 5 rfl rfl (v := 4) rfl ?_
      refine v_icmp_ge C 66 dX7_readsOrder_21 (by decide) (fun c21_14 => ?_) (fun c21_14 => ?_)
      · exact absurd c21_14 (by decide)
      · skip
        refine v_aload_n C dX7_readsOrder_24 2 rfl ?_
        refine v_aload_n C dX7_readsOrder_25 2 rfl ?_
        refine v_get C in_X7 rfl 0 rfl 3 (by decide) q1062 (fun _ h => h) rfl dX7_readsOrder_26 ?_
        refine v_getN C in_X0 rfl 2 rfl 8 (by decide) q492 (fun _ h => h) rfl dX7_readsOrder_29 ?_
        refine v_iload_n C dX7_readsOrder_32 0 rfl ?_
        refine v_aald C 6 dX7_readsOrder_33 5 rfl rfl (ixn (by decide) (by decide)) ?_
        refine v_eqr (rfs_at ko 0 (by decide)) ?_
        refine v_getN C in_X2 rfl 6 rfl 0 (by decide) q384 (fun _ h => h) rfl dX7_readsOrder_34 ?_
        refine v_iload_n C dX7_readsOrder_37 1 rfl ?_
        refine v_icmp_ne C 53 dX7_readsOrder_38 (by decide) (fun c38_15 => ?_) (fun c38_15 => ?_)
        · skip
          refine v_aload_n C dX7_readsOrder_53 2 rfl ?_
          refine v_get C in_X7 rfl 0 rfl 1 (by decide) q1058 (fun _ h => h) rfl dX7_readsOrder_54 ?_
          refine v_put (ws' := (rdW g a us bn s0 t1 mb ln t ko fo dd q qn td (kf ko (hv t ln (sk t ln k)) 0) (sk t ln k))) C in_X7 tyX7 tyX7_ok nmX7 rfl 0 rfl 1 (by decide) q1058 (fun _ h => h) rfl (rf_nar _ _) (rf_fit _ _) (Nat.le_of_ble_eq_true rfl) dX7_readsOrder_57 rfl ?_
          refine v_iinc (lv' := [(2, _), (1, _), (0, _)]) C dX7_readsOrder_60 0 rfl (show _ = _ + 1 from rfl) (by decide) rfl ?_
          refine v_goto C 12 dX7_readsOrder_63 (by decide) ?_
          refine v_ws (ws' := (rdW g a us bn s0 t1 mb ln t ko fo dd q qn td (kf ko (hv t ln (sk t ln k)) (0 + 1)) (sk t ln k))) (by rw [show kf ko (hv t ln (sk t ln k)) (0 + 1) = kf ko (hv t ln (sk t ln k)) 0 from if_neg c38_15]) ?_
          exact hback
        · skip
          refine v_aload_n C dX7_readsOrder_41 2 rfl ?_
          refine v_get C in_X7 rfl 0 rfl 3 (by decide) q1062 (fun _ h => h) rfl dX7_readsOrder_42 ?_
          refine v_getN C in_X0 rfl 2 rfl 8 (by decide) q492 (fun _ h => h) rfl dX7_readsOrder_45 ?_
          refine v_iload_n C dX7_readsOrder_48 0 rfl ?_
          refine v_aald C 6 dX7_readsOrder_49 5 rfl rfl (ixn (by decide) (by decide)) ?_
          refine v_eqr (rfs_at ko 0 (by decide)) ?_
          refine v_goto C 57 dX7_readsOrder_50 (by decide) ?_
          refine v_put (ws' := (rdW g a us bn s0 t1 mb ln t ko fo dd q qn td (some (ko 0)) (sk t ln k))) C in_X7 tyX7 tyX7_ok nmX7 rfl 0 rfl 1 (by decide) q1058 (fun _ h => h) rfl rfl rfl (Nat.le_of_ble_eq_true rfl) dX7_readsOrder_57 rfl ?_
          refine v_iinc (lv' := [(2, _), (1, _), (0, _)]) C dX7_readsOrder_60 0 rfl (show _ = _ + 1 from rfl) (by decide) rfl ?_
          refine v_goto C 12 dX7_readsOrder_63 (by decide) ?_
          refine v_ws (ws' := (rdW g a us bn s0 t1 mb ln t ko fo dd q qn td (kf ko (hv t ln (sk t ln k)) (0 + 1)) (sk t ln k))) (by rw [show kf ko (hv t ln (sk t ln k)) (0 + 1) = some (ko 0) from if_pos c38_15]) ?_
          exact hback
    · skip
      refine v_iload_n C dX7_readsOrder_12 0 rfl ?_
      refine v_aload_n C dX7_readsOrder_13 2 rfl ?_
      refine v_get C in_X7 rfl 0 rfl 3 (by decide) q1062 (fun _ h => h) rfl dX7_readsOrder_14 ?_
      refine v_getN C in_X0 rfl 2 rfl 8 (by decide) q492 (fun _ h => h) rfl dX7_readsOrder_17 ?_
      refine v_alen C 6 dX7_readsOrder_20 5 rfl rfl (v := 4) rfl ?_
      refine v_icmp_ge C 66 dX7_readsOrder_21 (by decide) (fun c21_16 => ?_) (fun c21_16 => ?_)
      · exact absurd c21_16 (by decide)
      · skip
        refine v_aload_n C dX7_readsOrder_24 2 rfl ?_
        refine v_aload_n C dX7_readsOrder_25 2 rfl ?_
        refine v_get C in_X7 rfl 0 rfl 3 (by decide) q1062 (fun _ h => h) rfl dX7_readsOrder_26 ?_
        refine v_getN C in_X0 rfl 2 rfl 8 (by decide) q492 (fun _ h => h) rfl dX7_readsOrder_29 ?_
        refine v_iload_n C dX7_readsOrder_32 0 rfl ?_
        refine v_aald C 6 dX7_readsOrder_33 5 rfl rfl (ixn (by decide) (by decide)) ?_
        refine v_eqr (rfs_at ko 0 (by decide)) ?_
        refine v_getN C in_X2 rfl 7 rfl 0 (by decide) q384 (fun _ h => h) rfl dX7_readsOrder_34 ?_
        refine v_iload_n C dX7_readsOrder_37 1 rfl ?_
        refine v_icmp_ne C 53 dX7_readsOrder_38 (by decide) (fun c38_17 => ?_) (fun c38_17 => ?_)
        · skip
          refine v_aload_n C dX7_readsOrder_53 2 rfl ?_
          refine v_get C in_X7 rfl 0 rfl 1 (by decide) q1058 (fun _ h => h) rfl dX7_readsOrder_54 ?_
          refine v_put (ws' := (rdW g a us bn s0 t1 mb ln t ko fo dd q qn td (kf ko (hv t ln (sk t ln k)) 1) (sk t ln k))) C in_X7 tyX7 tyX7_ok nmX7 rfl 0 rfl 1 (by decide) q1058 (fun _ h => h) rfl (rf_nar _ _) (rf_fit _ _) (Nat.le_of_ble_eq_true rfl) dX7_readsOrder_57 rfl ?_
          refine v_iinc (lv' := [(2, _), (1, _), (0, _)]) C dX7_readsOrder_60 0 rfl (show _ = _ + 1 from rfl) (by decide) rfl ?_
          refine v_goto C 12 dX7_readsOrder_63 (by decide) ?_
          refine v_ws (ws' := (rdW g a us bn s0 t1 mb ln t ko fo dd q qn td (kf ko (hv t ln (sk t ln k)) (1 + 1)) (sk t ln k))) (by rw [show kf ko (hv t ln (sk t ln k)) (1 + 1) = kf ko (hv t ln (sk t ln k)) 1 from if_neg c38_17]) ?_
          exact hback
        · skip
          refine v_aload_n C dX7_readsOrder_41 2 rfl ?_
          refine v_get C in_X7 rfl 0 rfl 3 (by decide) q1062 (fun _ h => h) rfl dX7_readsOrder_42 ?_
          refine v_getN C in_X0 rfl 2 rfl 8 (by decide) q492 (fun _ h => h) rfl dX7_readsOrder_45 ?_
          refine v_iload_n C dX7_readsOrder_48 0 rfl ?_
          refine v_aald C 6 dX7_readsOrder_49 5 rfl rfl (ixn (by decide) (by decide)) ?_
          refine v_eqr (rfs_at ko 0 (by decide)) ?_
          refine v_goto C 57 dX7_readsOrder_50 (by decide) ?_
          refine v_put (ws' := (rdW g a us bn s0 t1 mb ln t ko fo dd q qn td (some (ko 1)) (sk t ln k))) C in_X7 tyX7 tyX7_ok nmX7 rfl 0 rfl 1 (by decide) q1058 (fun _ h => h) rfl rfl rfl (Nat.le_of_ble_eq_true rfl) dX7_readsOrder_57 rfl ?_
          refine v_iinc (lv' := [(2, _), (1, _), (0, _)]) C dX7_readsOrder_60 0 rfl (show _ = _ + 1 from rfl) (by decide) rfl ?_
          refine v_goto C 12 dX7_readsOrder_63 (by decide) ?_
          refine v_ws (ws' := (rdW g a us bn s0 t1 mb ln t ko fo dd q qn td (kf ko (hv t ln (sk t ln k)) (1 + 1)) (sk t ln k))) (by rw [show kf ko (hv t ln (sk t ln k)) (1 + 1) = some (ko 1) from if_pos c38_17]) ?_
          exact hback
    · skip
      refine v_iload_n C dX7_readsOrder_12 0 rfl ?_
      refine v_aload_n C dX7_readsOrder_13 2 rfl ?_
      refine v_get C in_X7 rfl 0 rfl 3 (by decide) q1062 (fun _ h => h) rfl dX7_readsOrder_14 ?_
      refine v_getN C in_X0 rfl 2 rfl 8 (by decide) q492 (fun _ h => h) rfl dX7_readsOrder_17 ?_
      refine v_alen C 6 dX7_readsOrder_20 5 rfl rfl (v := 4) rfl ?_
      refine v_icmp_ge C 66 dX7_readsOrder_21 (by decide) (fun c21_18 => ?_) (fun c21_18 => ?_)
      · exact absurd c21_18 (by decide)
      · skip
        refine v_aload_n C dX7_readsOrder_24 2 rfl ?_
        refine v_aload_n C dX7_readsOrder_25 2 rfl ?_
        refine v_get C in_X7 rfl 0 rfl 3 (by decide) q1062 (fun _ h => h) rfl dX7_readsOrder_26 ?_
        refine v_getN C in_X0 rfl 2 rfl 8 (by decide) q492 (fun _ h => h) rfl dX7_readsOrder_29 ?_
        refine v_iload_n C dX7_readsOrder_32 0 rfl ?_
        refine v_aald C 6 dX7_readsOrder_33 5 rfl rfl (ixn (by decide) (by decide)) ?_
        refine v_eqr (rfs_at ko 0 (by decide)) ?_
        refine v_getN C in_X2 rfl 8 rfl 0 (by decide) q384 (fun _ h => h) rfl dX7_readsOrder_34 ?_
        refine v_iload_n C dX7_readsOrder_37 1 rfl ?_
        refine v_icmp_ne C 53 dX7_readsOrder_38 (by decide) (fun c38_19 => ?_) (fun c38_19 => ?_)
        · skip
          refine v_aload_n C dX7_readsOrder_53 2 rfl ?_
          refine v_get C in_X7 rfl 0 rfl 1 (by decide) q1058 (fun _ h => h) rfl dX7_readsOrder_54 ?_
          refine v_put (ws' := (rdW g a us bn s0 t1 mb ln t ko fo dd q qn td (kf ko (hv t ln (sk t ln k)) 2) (sk t ln k))) C in_X7 tyX7 tyX7_ok nmX7 rfl 0 rfl 1 (by decide) q1058 (fun _ h => h) rfl (rf_nar _ _) (rf_fit _ _) (Nat.le_of_ble_eq_true rfl) dX7_readsOrder_57 rfl ?_
          refine v_iinc (lv' := [(2, _), (1, _), (0, _)]) C dX7_readsOrder_60 0 rfl (show _ = _ + 1 from rfl) (by decide) rfl ?_
          refine v_goto C 12 dX7_readsOrder_63 (by decide) ?_
          refine v_ws (ws' := (rdW g a us bn s0 t1 mb ln t ko fo dd q qn td (kf ko (hv t ln (sk t ln k)) (2 + 1)) (sk t ln k))) (by rw [show kf ko (hv t ln (sk t ln k)) (2 + 1) = kf ko (hv t ln (sk t ln k)) 2 from if_neg c38_19]) ?_
          exact hback
        · skip
          refine v_aload_n C dX7_readsOrder_41 2 rfl ?_
          refine v_get C in_X7 rfl 0 rfl 3 (by decide) q1062 (fun _ h => h) rfl dX7_readsOrder_42 ?_
          refine v_getN C in_X0 rfl 2 rfl 8 (by decide) q492 (fun _ h => h) rfl dX7_readsOrder_45 ?_
          refine v_iload_n C dX7_readsOrder_48 0 rfl ?_
          refine v_aald C 6 dX7_readsOrder_49 5 rfl rfl (ixn (by decide) (by decide)) ?_
          refine v_eqr (rfs_at ko 0 (by decide)) ?_
          refine v_goto C 57 dX7_readsOrder_50 (by decide) ?_
          refine v_put (ws' := (rdW g a us bn s0 t1 mb ln t ko fo dd q qn td (some (ko 2)) (sk t ln k))) C in_X7 tyX7 tyX7_ok nmX7 rfl 0 rfl 1 (by decide) q1058 (fun _ h => h) rfl rfl rfl (Nat.le_of_ble_eq_true rfl) dX7_readsOrder_57 rfl ?_
          refine v_iinc (lv' := [(2, _), (1, _), (0, _)]) C dX7_readsOrder_60 0 rfl (show _ = _ + 1 from rfl) (by decide) rfl ?_
          refine v_goto C 12 dX7_readsOrder_63 (by decide) ?_
          refine v_ws (ws' := (rdW g a us bn s0 t1 mb ln t ko fo dd q qn td (kf ko (hv t ln (sk t ln k)) (2 + 1)) (sk t ln k))) (by rw [show kf ko (hv t ln (sk t ln k)) (2 + 1) = some (ko 2) from if_pos c38_19]) ?_
          exact hback
    · skip
      refine v_iload_n C dX7_readsOrder_12 0 rfl ?_
      refine v_aload_n C dX7_readsOrder_13 2 rfl ?_
      refine v_get C in_X7 rfl 0 rfl 3 (by decide) q1062 (fun _ h => h) rfl dX7_readsOrder_14 ?_
      refine v_getN C in_X0 rfl 2 rfl 8 (by decide) q492 (fun _ h => h) rfl dX7_readsOrder_17 ?_
      refine v_alen C 6 dX7_readsOrder_20 5 rfl rfl (v := 4) rfl ?_
      refine v_icmp_ge C 66 dX7_readsOrder_21 (by decide) (fun c21_20 => ?_) (fun c21_20 => ?_)
      · exact absurd c21_20 (by decide)
      · skip
        refine v_aload_n C dX7_readsOrder_24 2 rfl ?_
        refine v_aload_n C dX7_readsOrder_25 2 rfl ?_
        refine v_get C in_X7 rfl 0 rfl 3 (by decide) q1062 (fun _ h => h) rfl dX7_readsOrder_26 ?_
        refine v_getN C in_X0 rfl 2 rfl 8 (by decide) q492 (fun _ h => h) rfl dX7_readsOrder_29 ?_
        refine v_iload_n C dX7_readsOrder_32 0 rfl ?_
        refine v_aald C 6 dX7_readsOrder_33 5 rfl rfl (ixn (by decide) (by decide)) ?_
        refine v_eqr (rfs_at ko 0 (by decide)) ?_
        refine v_getN C in_X2 rfl 9 rfl 0 (by decide) q384 (fun _ h => h) rfl dX7_readsOrder_34 ?_
        refine v_iload_n C dX7_readsOrder_37 1 rfl ?_
        refine v_icmp_ne C 53 dX7_readsOrder_38 (by decide) (fun c38_21 => ?_) (fun c38_21 => ?_)
        · skip
          refine v_aload_n C dX7_readsOrder_53 2 rfl ?_
          refine v_get C in_X7 rfl 0 rfl 1 (by decide) q1058 (fun _ h => h) rfl dX7_readsOrder_54 ?_
          refine v_put (ws' := (rdW g a us bn s0 t1 mb ln t ko fo dd q qn td (kf ko (hv t ln (sk t ln k)) 3) (sk t ln k))) C in_X7 tyX7 tyX7_ok nmX7 rfl 0 rfl 1 (by decide) q1058 (fun _ h => h) rfl (rf_nar _ _) (rf_fit _ _) (Nat.le_of_ble_eq_true rfl) dX7_readsOrder_57 rfl ?_
          refine v_iinc (lv' := [(2, _), (1, _), (0, _)]) C dX7_readsOrder_60 0 rfl (show _ = _ + 1 from rfl) (by decide) rfl ?_
          refine v_goto C 12 dX7_readsOrder_63 (by decide) ?_
          refine v_ws (ws' := (rdW g a us bn s0 t1 mb ln t ko fo dd q qn td (kf ko (hv t ln (sk t ln k)) (3 + 1)) (sk t ln k))) (by rw [show kf ko (hv t ln (sk t ln k)) (3 + 1) = kf ko (hv t ln (sk t ln k)) 3 from if_neg c38_21]) ?_
          exact hback
        · skip
          refine v_aload_n C dX7_readsOrder_41 2 rfl ?_
          refine v_get C in_X7 rfl 0 rfl 3 (by decide) q1062 (fun _ h => h) rfl dX7_readsOrder_42 ?_
          refine v_getN C in_X0 rfl 2 rfl 8 (by decide) q492 (fun _ h => h) rfl dX7_readsOrder_45 ?_
          refine v_iload_n C dX7_readsOrder_48 0 rfl ?_
          refine v_aald C 6 dX7_readsOrder_49 5 rfl rfl (ixn (by decide) (by decide)) ?_
          refine v_eqr (rfs_at ko 0 (by decide)) ?_
          refine v_goto C 57 dX7_readsOrder_50 (by decide) ?_
          refine v_put (ws' := (rdW g a us bn s0 t1 mb ln t ko fo dd q qn td (some (ko 3)) (sk t ln k))) C in_X7 tyX7 tyX7_ok nmX7 rfl 0 rfl 1 (by decide) q1058 (fun _ h => h) rfl rfl rfl (Nat.le_of_ble_eq_true rfl) dX7_readsOrder_57 rfl ?_
          refine v_iinc (lv' := [(2, _), (1, _), (0, _)]) C dX7_readsOrder_60 0 rfl (show _ = _ + 1 from rfl) (by decide) rfl ?_
          refine v_goto C 12 dX7_readsOrder_63 (by decide) ?_
          refine v_ws (ws' := (rdW g a us bn s0 t1 mb ln t ko fo dd q qn td (kf ko (hv t ln (sk t ln k)) (3 + 1)) (sk t ln k))) (by rw [show kf ko (hv t ln (sk t ln k)) (3 + 1) = some (ko 3) from if_pos c38_21]) ?_
          exact hback
