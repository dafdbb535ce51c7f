/-! the text: reading -/
set_option maxRecDepth 100000
section TX
variable {t : Nat → Int32} {ln : Nat}
theorem sk_ne (f : Nat) : ∀ k, ln - k = f → sk t ln k < ln → ¬ t (sk t ln k) = 32 := by
  induction f with
  | zero =>
    intro k hk h
    rw [sk_ge (by omega)] at h
    omega
  | succ f ih =>
    intro k hk h
    by_cases e : t k = 32
    · rw [sk_sp (by omega) e] at h ⊢
      exact ih (k + 1) (by omega) h
    · rw [sk_ns (by omega) e]; exact e
theorem sk_sk {k : Nat} (h : k ≤ ln) : sk t ln (sk t ln k) = sk t ln k := by
  rcases Nat.lt_or_ge (sk t ln k) ln with q | q
  · exact sk_ns q (sk_ne _ k rfl q)
  · exact sk_ge q
theorem sk_dg {q : Nat} (h : q < ln) (hd : 48 ≤ t q ∧ t q ≤ 57) : sk t ln q = q := sk_ns h (fun e => by rw [e] at hd; exact absurd hd.1 (by decide))
theorem hv_dg {q : Nat} (h : q < ln) (hd : 48 ≤ t q ∧ t q ≤ 57) {v : Int32} (hv' : ¬ (48 ≤ v ∧ v ≤ 57)) : ¬ hv t ln q = v := by
  unfold hv
  rw [if_pos h]
  intro e
  rw [e] at hd
  exact hv' hd
/-- what the class has read (x) against what the reference has read (o) -/
def Qr (t : Nat → Int32) (ln N : Nat) (x : Bool × Nat × (Nat → Int32)) (o : Bool × Nat × Int32 × (Nat → Int32)) : Prop :=
  (x.1 = true ∧ o.1 = true ∧ o.2.1 = x.2.1 ∧ ∀ j, j < N → x.2.2 j = o.2.2.2 j) ∨ (x.1 = false ∧ o.1 = false ∧ sk t ln o.2.1 = x.2.1) ∨ (x.1 = false ∧ o.1 = true ∧ o.2.1 = x.2.1 ∧ x.2.1 < ln ∧ (48 ≤ t x.2.1 ∧ t x.2.1 ≤ 57))
theorem Qr_6 {q : Nat} (hq : q < ln) (hd : 48 ≤ t q ∧ t q ≤ 57) {f i : Nat} (hi : i ≠ 0) (N : Nat) (num : Int32) (td td' : Nat → Int32) : Qr t ln N (xrL t ln f i false q td) (roL t ln f i q num td') := by
  rw [xrL_f]
  cases f with
  | zero => exact Or.inr (Or.inr ⟨rfl, rfl, rfl, hq, hd⟩)
  | succ f =>
    rw [roL, if_neg hi, sk_dg hq hd, if_neg (hv_dg hq hd (by decide))]
    exact Or.inr (Or.inl ⟨rfl, rfl, sk_dg hq hd⟩)
theorem Qr_num {q : Nat} (hq : q ≤ ln) {f i : Nat} {num : Int32} {td td' : Nat → Int32} (ha : ∀ j, j < i → td j = td' j)
    (ih : ∀ (q : Nat) (num : Int32) (td td' : Nat → Int32), q ≤ ln → (∀ j, j < i + 1 → td j = td' j) → Qr t ln (i + 1 + f) (xrL t ln f (i + 1) true q td) (roL t ln f (i + 1) q num td')) :
    Qr t ln (i + 1 + f) (xrL t ln f (i + 1) (decide (xNm t ln q)) (xD t ln q).1 (upd td i (xD t ln q).2))
      (if sk t ln q < (dgs t ln 5 (sk t ln q) 0).1 then roL t ln f (i + 1) (dgs t ln 5 (sk t ln q) 0).1 (dgs t ln 5 (sk t ln q) 0).2 (upd td' i (dgs t ln 5 (sk t ln q) 0).2) else (false, (dgs t ln 5 (sk t ln q) 0).1, (dgs t ln 5 (sk t ln q) 0).2, td')) := by
  have h1 := sk_le (t := t) hq
  have h2 := dgs_le t ln 5 (sk t ln q) 0 h1.2
  by_cases c1 : sk t ln q < (dgs t ln 5 (sk t ln q) 0).1
  · rw [if_pos c1]
    by_cases c2 : (xD t ln q).1 < ln ∧ (xD t ln q).1 = sk t ln q + 5 ∧ (48 ≤ t (xD t ln q).1 ∧ t (xD t ln q).1 ≤ 57)
    · rw [decide_eq_false (show ¬ xNm t ln q from fun z => z.2 c2)]
      exact Qr_6 c2.1 c2.2.2 (by omega) _ _ _ _
    · rw [decide_eq_true (show xNm t ln q from ⟨c1, c2⟩)]
      refine ih _ _ _ _ h2.2 (fun j hj => ?_)
      by_cases q : j = i
      · subst q; rw [upd_eq, upd_eq]
      · rw [upd_ne q, upd_ne q]; exact ha j (by omega)
  · rw [if_neg c1, decide_eq_false (show ¬ xNm t ln q from fun z => c1 z.1), xrL_f]
    refine Or.inr (Or.inl ⟨rfl, rfl, ?_⟩)
    show sk t ln (dgs t ln 5 (sk t ln q) 0).1 = (dgs t ln 5 (sk t ln q) 0).1
    rw [show (dgs t ln 5 (sk t ln q) 0).1 = sk t ln q by omega, sk_sk hq]
theorem Qr_L (f : Nat) : ∀ (i q : Nat) (num : Int32) (td td' : Nat → Int32), i ≠ 0 → q ≤ ln → (∀ j, j < i → td j = td' j) → Qr t ln (i + f) (xrL t ln f i true q td) (roL t ln f i q num td') := by
  induction f with
  | zero => intro i q num td td' hi hq ha; exact Or.inl ⟨rfl, rfl, rfl, ha⟩
  | succ f ih =>
    intro i q num td td' hi hq ha
    have h1 := sk_le (t := t) hq
    rw [xrL, roL, if_pos rfl, if_neg hi]
    by_cases c : hv t ln (sk t ln q) = 44
    · rw [if_pos c, if_pos c]
      have hl := hv_lt c (by decide)
      have := Qr_num (t := t) (ln := ln) (q := sk t ln q + 1) (by omega) (f := f) (i := i) (num := num) ha (fun q num td td' h1 h2 => ih (i + 1) q num td td' (by omega) h1 h2)
      rw [show i + 1 + f = i + (f + 1) by omega] at this
      exact this
    · rw [if_neg c, if_neg c, xrL_f]
      exact Or.inr (Or.inl ⟨rfl, rfl, sk_sk hq⟩)
theorem Qr_o {k : Nat} (hk : k ≤ ln) (num : Int32) (td td' : Nat → Int32) : Qr t ln (mny (hv t ln (sk t ln k))) (xro t ln k td) (ro t ln k num td') := by
  unfold xro ro
  by_cases c : mny (hv t ln (sk t ln k)) = 0
  · rw [if_pos c, if_pos c]
    exact Or.inr (Or.inl ⟨rfl, rfl, sk_sk hk⟩)
  · rw [if_neg c, if_neg c]
    have hl := mny_lt c
    obtain ⟨f, hf⟩ : ∃ f, mny (hv t ln (sk t ln k)) = f + 1 := ⟨mny (hv t ln (sk t ln k)) - 1, by omega⟩
    rw [hf, Nat.add_sub_cancel, roL, if_pos rfl]
    have := Qr_num (t := t) (ln := ln) (q := sk t ln k + 1) (by omega) (f := f) (i := 0) (num := num) (td := td) (td' := td') (fun j hj => absurd hj (Nat.not_lt_zero j)) (fun q num td td' h1 h2 => Qr_L f 1 q num td td' (by decide) h1 h2)
    rw [show 0 + 1 + f = f + 1 by omega] at this
    exact this
def ResX (t : Nat → Int32) (ln : Nat) (x : Bool × Nat × (Nat → Int32)) : Int32 := if x.1 = true then if xP t ln x.2.1 (-1) then -1 else nI (sk t ln x.2.1) else nI x.2.1
def ResP (o : Bool × Nat × XT) : Int32 := if bB o.1 = 0 then nI o.2.1 else -1
theorem ordF (nb k : Nat) (x : XT) : (ordX false t ln nb k x).1 = (ro t ln k x.2.2.1 x.2.2.2.1).1 ∧ (ordX false t ln nb k x).2.1 = (ro t ln k x.2.2.1 x.2.2.2.1).2.1 := by
  unfold ordX
  dsimp only
  rw [if_neg Bool.false_ne_true]
  split
  · rename_i h; rw [h]; exact ⟨rfl, rfl⟩
  · rename_i h; exact ⟨(Bool.eq_false_iff.mpr h).symm, rfl⟩
theorem text_L {nb : Nat} (f : Nat) : ∀ (X : Bool × Nat × (Nat → Int32)) (O : Bool × Nat × Int32 × (Nat → Int32)) (N : Nat) (x : XT), Qr t ln N X O → X.2.1 ≤ ln → ln + 1 ≤ X.2.1 + f → ResX t ln (xtL t ln f X.1 X.2.1 X.2.2) = ResP (rtL false t ln nb f O.1 (sk t ln O.2.1) x) := by
  induction f with
  | zero => intro X O N x hQ h1 h2; omega
  | succ f ih =>
    intro X O N x hQ h1 h2
    rcases hQ with ⟨a1, a2, a3, a4⟩ | ⟨a1, a2, a3⟩ | ⟨a1, a2, a3, a4, a5⟩
    · rw [a1, a2, a3, xtL, rtL, if_pos rfl, if_pos rfl]
      have hs := sk_le (t := t) h1
      by_cases c : hv t ln (sk t ln X.2.1) = 59
      · rw [if_pos (show xP t ln X.2.1 59 from c), if_neg (show ¬ hv t ln (sk t ln X.2.1) = -1 by rw [c]; decide), if_pos c]
        have hl := hv_lt c (by decide)
        obtain ⟨o1, o2⟩ := ordF (t := t) (ln := ln) nb (sk t ln X.2.1 + 1) x
        rw [o1, o2]
        have hx := xro_le t ln (sk t ln X.2.1 + 1) X.2.2 (by omega)
        exact ih (xro t ln (sk t ln X.2.1 + 1) X.2.2) (ro t ln (sk t ln X.2.1 + 1) x.2.2.1 x.2.2.2.1) _ _ (Qr_o (by omega) _ _ _) hx.2 (by omega)
      · rw [if_neg (show ¬ xP t ln X.2.1 59 from c), if_neg c]
        unfold ResX
        dsimp only
        rw [if_pos rfl]
        show (if hv t ln (sk t ln (sk t ln X.2.1)) = -1 then (-1 : Int32) else nI (sk t ln (sk t ln X.2.1))) = _
        rw [sk_sk h1]
        by_cases c2 : hv t ln (sk t ln X.2.1) = -1
        · rw [if_pos c2, if_pos c2]; rfl
        · rw [if_neg c2, if_neg c2]; rfl
    · rw [a1, a2, xtL, rtL, if_neg Bool.false_ne_true, if_neg Bool.false_ne_true, a3]; rfl
    · rw [a1, a2, a3, xtL, rtL, if_neg Bool.false_ne_true, if_pos rfl, sk_dg a4 a5, if_neg (hv_dg a4 a5 (by decide)), if_neg (hv_dg a4 a5 (by decide))]; rfl
theorem text_eq (t : Nat → Int32) (ln nb : Nat) (r : Nat → Int32) (bk : Nat → Int64) (num : Int32) (td : Nat → Int32) : xtf t ln = ResP (rt false t ln nb r bk num td) := by
  have hx := xro_le t ln 0 (fun _ => 0) (Nat.zero_le _)
  obtain ⟨o1, o2⟩ := ordF (t := t) (ln := ln) nb 0 (r, bk, num, td, 0, 1)
  have := text_L (t := t) (ln := ln) (nb := nb) (ln + 2) (xro t ln 0 (fun _ => 0)) (ro t ln 0 num td) _ (ordX false t ln nb 0 (r, bk, num, td, 0, 1)).2.2 (Qr_o (Nat.zero_le _) num (fun _ => 0) td) hx.2 (by omega)
  unfold rt
  rw [o1, o2]
  exact this
end TX
