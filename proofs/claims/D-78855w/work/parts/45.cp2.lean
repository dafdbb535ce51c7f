/-! copying a State: one more bin, leg, contract -/
set_option maxRecDepth 100000
theorem z_ins {g : GT} {A : Nat → Nat} {nb nl nc : Nat} {r : Nat → Int32} {b : Nat → Int64} {B : Nat → Nat} {i j k : Nat} {ρ : Nat → Int32} {β : Nat → Int64} (x : Nat × va_E) (M U : va_W) : (x :: hdW g A nb nl nc r b (hdW g B i j k ρ β (tlW A nb nl nc r (M ++ U)))).Perm (hdW g A nb nl nc r b (hdW g B i j k ρ β (tlW A nb nl nc r ((M ++ [x]) ++ U)))) := by
  have e : ∀ X, hdW g A nb nl nc r b (hdW g B i j k ρ β (tlW A nb nl nc r X)) = (hdW g A nb nl nc r b [] ++ (hdW g B i j k ρ β [] ++ tlW A nb nl nc r [])) ++ X := by
    intro X
    rw [hdW_app g A, hdW_app g B, tlW_suf A]
    simp
  rw [e, e]
  exact perm_ins x _ M U
section TL
variable {B : Nat → Nat} {i j k q : Nat} {r : Nat → Int32} {suf : va_W}
theorem tl_addB (hi : i < 8) : tlW (adr B (10 + i) q) (i + 1) j k (hyb r) suf = (mpL (binsF B (hyb r)) i ++ [bnC q (bv r i)]) ++ (mpL (legsF B (hyb r)) j ++ (mpL (consF B (hyb r)) k ++ suf)) ∨ ¬ (j ≤ 3 ∧ k ≤ 6) := by
  by_cases h : j ≤ 3 ∧ k ≤ 6
  · refine Or.inl ?_
    unfold tlW
    rw [mpL_succ, mpL_congr (F := binsF (adr B (10 + i) q) (hyb r)) (G := binsF B (hyb r)) (fun t ht => by unfold binsF; rw [adr_ne B (by omega)]), mpL_congr (F := legsF (adr B (10 + i) q) (hyb r)) (G := legsF B (hyb r)) (fun t ht => by unfold legsF; rw [adr_ne B (by omega)]), mpL_congr (F := consF (adr B (10 + i) q) (hyb r)) (G := consF B (hyb r)) (fun t ht => by unfold consF; rw [adr_ne B (by omega)])]
    have e : binsF (adr B (10 + i) q) (hyb r) i = bnC q (bv r i) := by
      unfold binsF bnC
      rw [adr_at, bnF_congr (v := bv (hyb r) i) (v' := bv r i) (fun t ht => hyb_hi (by omega))]
    rw [e]
  · exact Or.inr h
theorem tl_addG (hj : j < 3) (hi : i ≤ 8) : tlW (adr B (20 + j) q) i (j + 1) k (hyb r) suf = ((mpL (binsF B (hyb r)) i ++ mpL (legsF B (hyb r)) j) ++ [lgC q (gv r j)]) ++ (mpL (consF B (hyb r)) k ++ suf) ∨ ¬ k ≤ 6 := by
  by_cases h : k ≤ 6
  · refine Or.inl ?_
    unfold tlW
    rw [mpL_succ, mpL_congr (F := binsF (adr B (20 + j) q) (hyb r)) (G := binsF B (hyb r)) (fun t ht => by unfold binsF; rw [adr_ne B (by omega)]), mpL_congr (F := legsF (adr B (20 + j) q) (hyb r)) (G := legsF B (hyb r)) (fun t ht => by unfold legsF; rw [adr_ne B (by omega)]), mpL_congr (F := consF (adr B (20 + j) q) (hyb r)) (G := consF B (hyb r)) (fun t ht => by unfold consF; rw [adr_ne B (by omega)])]
    have e : legsF (adr B (20 + j) q) (hyb r) j = lgC q (gv r j) := by
      unfold legsF lgC
      rw [adr_at, lgF_congr (v := gv (hyb r) j) (v' := gv r j) (fun t ht => hyb_hi (by omega))]
    rw [e]; simp
  · exact Or.inr h
theorem tl_addC (hj : j ≤ 3) (hi : i ≤ 8) : tlW (adr B (30 + k) q) i j (k + 1) (hyb r) suf = ((mpL (binsF B (hyb r)) i ++ (mpL (legsF B (hyb r)) j ++ mpL (consF B (hyb r)) k)) ++ [cnC q (tv r k)]) ++ suf := by
  unfold tlW
  rw [mpL_succ, mpL_congr (F := binsF (adr B (30 + k) q) (hyb r)) (G := binsF B (hyb r)) (fun t ht => by unfold binsF; rw [adr_ne B (by omega)]), mpL_congr (F := legsF (adr B (30 + k) q) (hyb r)) (G := legsF B (hyb r)) (fun t ht => by unfold legsF; rw [adr_ne B (by omega)]), mpL_congr (F := consF (adr B (30 + k) q) (hyb r)) (G := consF B (hyb r)) (fun t ht => by unfold consF; rw [adr_ne B (by omega)])]
  have e : consF (adr B (30 + k) q) (hyb r) k = cnC q (tv r k) := by
    unfold consF cnC
    rw [adr_at, cnF_congr (v := tv (hyb r) k) (v' := tv r k) (fun t ht => hyb_hi (by omega))]
  rw [e]; simp
end TL
section ZA
variable {g : GT} {A : Nat → Nat} {nb nl nc : Nat} {r : Nat → Int32} {b : Nat → Int64} {B : Nat → Nat} {i j k q : Nat} {β : Nat → Int64} {suf : va_W}
/-- behind the list's add: the bin stands among the new State's -/
theorem z_addB (hi : i < 8) (hj : j ≤ 3) (hk : k ≤ 6) :
    ((alW g (B 1) (B 2) 8 (nI i + 1) (i + 1) (va_up (rfs B 10 i) i (some q)) ++ [bnC q (bv r i)]) ++ (hdW g A nb nl nc r b [(B 0, .inr (1, stF B (hyb r) β))] ++ ((hdW g B i j k (hyb r) β (tlW A nb nl nc r (tlW B i j k (hyb r) suf))).drop 3))).Perm (zW g A nb nl nc r b (adr B (10 + i) q) (i + 1) j k (hyb r) β suf) := by
  refine (perm_add _ _ _ _).symm.trans ?_
  have e : hdW g A nb nl nc r b [(B 0, .inr (1, stF B (hyb r) β))] ++ (alW g (B 1) (B 2) 8 (nI i + 1) (i + 1) (va_up (rfs B 10 i) i (some q)) ++ ((hdW g B i j k (hyb r) β (tlW A nb nl nc r (tlW B i j k (hyb r) suf))).drop 3)) = hdW g A nb nl nc r b (hdW g (adr B (10 + i) q) (i + 1) j k (hyb r) β (tlW A nb nl nc r (tlW B i j k (hyb r) suf))) := by
    have hn : ∀ t, t < 8 → adr B (10 + i) q t = B t := fun t ht => adr_ne B (by omega)
    have e1 : hdW g (adr B (10 + i) q) (i + 1) j k (hyb r) β (tlW A nb nl nc r (tlW B i j k (hyb r) suf)) = (B 0, .inr (1, stF B (hyb r) β)) :: (alW g (B 1) (B 2) 8 (nI i + 1) (i + 1) (va_up (rfs B 10 i) i (some q)) ++ ((hdW g B i j k (hyb r) β (tlW A nb nl nc r (tlW B i j k (hyb r) suf))).drop 3)) := by
      rw [rfs_up (A := B) (A' := adr B (10 + i) q) (fun t ht => adr_ne B (by omega)) (adr_at B _ q), nI_1]
      unfold hdW stF
      rw [hn 0 (by decide), hn 1 (by decide), hn 2 (by decide), hn 3 (by decide), hn 4 (by decide), hn 5 (by decide), hn 6 (by decide), hn 7 (by decide), rfs_congr (B := B) (B' := adr B (10 + i) q) (o := 20) (n := j) (fun t ht => adr_ne B (by omega)), rfs_congr (B := B) (B' := adr B (10 + i) q) (o := 30) (n := k) (fun t ht => adr_ne B (by omega))]
      rfl
    rw [e1]; rfl
  rw [e]
  unfold zW
  rw [(tl_addB (B := B) (q := q) (r := r) (suf := suf) (j := j) (k := k) hi).resolve_right (fun h => h ⟨hj, hk⟩)]
  exact z_ins _ _ _
theorem z_addG (hi : i ≤ 8) (hj : j ≤ 3) (hk : k ≤ 6) (hj3 : j < 3) :
    ((alW g (B 3) (B 4) 3 (nI j + 1) (j + 1) (va_up (rfs B 20 j) j (some q)) ++ [lgC q (gv r j)]) ++ (hdW g A nb nl nc r b ((hdW g B i j k (hyb r) β []).take 3) ++ ((hdW g B i j k (hyb r) β (tlW A nb nl nc r (tlW B i j k (hyb r) suf))).drop 5))).Perm (zW g A nb nl nc r b (adr B (20 + j) q) i (j + 1) k (hyb r) β suf) := by
  refine (perm_add _ _ _ _).symm.trans ?_
  have e : hdW g A nb nl nc r b ((hdW g B i j k (hyb r) β []).take 3) ++ (alW g (B 3) (B 4) 3 (nI j + 1) (j + 1) (va_up (rfs B 20 j) j (some q)) ++ ((hdW g B i j k (hyb r) β (tlW A nb nl nc r (tlW B i j k (hyb r) suf))).drop 5)) = hdW g A nb nl nc r b (hdW g (adr B (20 + j) q) i (j + 1) k (hyb r) β (tlW A nb nl nc r (tlW B i j k (hyb r) suf))) := by
    have hn : ∀ t, t < 8 → adr B (20 + j) q t = B t := fun t ht => adr_ne B (by omega)
    have e1 : hdW g (adr B (20 + j) q) i (j + 1) k (hyb r) β (tlW A nb nl nc r (tlW B i j k (hyb r) suf)) = (hdW g B i j k (hyb r) β []).take 3 ++ (alW g (B 3) (B 4) 3 (nI j + 1) (j + 1) (va_up (rfs B 20 j) j (some q)) ++ ((hdW g B i j k (hyb r) β (tlW A nb nl nc r (tlW B i j k (hyb r) suf))).drop 5)) := by
      rw [rfs_up (A := B) (A' := adr B (20 + j) q) (fun t ht => adr_ne B (by omega)) (adr_at B _ q), nI_1]
      unfold hdW stF
      rw [hn 0 (by decide), hn 1 (by decide), hn 2 (by decide), hn 3 (by decide), hn 4 (by decide), hn 5 (by decide), hn 6 (by decide), hn 7 (by decide), rfs_congr (B := B) (B' := adr B (20 + j) q) (o := 10) (n := i) (fun t ht => adr_ne B (by omega)), rfs_congr (B := B) (B' := adr B (20 + j) q) (o := 30) (n := k) (fun t ht => adr_ne B (by omega))]
      rfl
    rw [e1]; rfl
  rw [e]
  unfold zW
  rw [(tl_addG (B := B) (q := q) (r := r) (suf := suf) (i := i) (k := k) hj3 hi).resolve_right (fun h => h hk)]
  have e2 : tlW B i j k (hyb r) suf = (mpL (binsF B (hyb r)) i ++ mpL (legsF B (hyb r)) j) ++ (mpL (consF B (hyb r)) k ++ suf) := by unfold tlW; simp
  rw [e2]
  exact z_ins _ _ _
theorem z_addC (hi : i ≤ 8) (hj : j ≤ 3) (hk : k ≤ 6) (hk6 : k < 6) :
    ((alW g (B 5) (B 6) 6 (nI k + 1) (k + 1) (va_up (rfs B 30 k) k (some q)) ++ [cnC q (tv r k)]) ++ (hdW g A nb nl nc r b ((hdW g B i j k (hyb r) β []).take 5) ++ ((hdW g B i j k (hyb r) β (tlW A nb nl nc r (tlW B i j k (hyb r) suf))).drop 7))).Perm (zW g A nb nl nc r b (adr B (30 + k) q) i j (k + 1) (hyb r) β suf) := by
  refine (perm_add _ _ _ _).symm.trans ?_
  have e : hdW g A nb nl nc r b ((hdW g B i j k (hyb r) β []).take 5) ++ (alW g (B 5) (B 6) 6 (nI k + 1) (k + 1) (va_up (rfs B 30 k) k (some q)) ++ ((hdW g B i j k (hyb r) β (tlW A nb nl nc r (tlW B i j k (hyb r) suf))).drop 7)) = hdW g A nb nl nc r b (hdW g (adr B (30 + k) q) i j (k + 1) (hyb r) β (tlW A nb nl nc r (tlW B i j k (hyb r) suf))) := by
    have hn : ∀ t, t < 8 → adr B (30 + k) q t = B t := fun t ht => adr_ne B (by omega)
    have e1 : hdW g (adr B (30 + k) q) i j (k + 1) (hyb r) β (tlW A nb nl nc r (tlW B i j k (hyb r) suf)) = (hdW g B i j k (hyb r) β []).take 5 ++ (alW g (B 5) (B 6) 6 (nI k + 1) (k + 1) (va_up (rfs B 30 k) k (some q)) ++ ((hdW g B i j k (hyb r) β (tlW A nb nl nc r (tlW B i j k (hyb r) suf))).drop 7)) := by
      rw [rfs_up (A := B) (A' := adr B (30 + k) q) (fun t ht => adr_ne B (by omega)) (adr_at B _ q), nI_1]
      unfold hdW stF
      rw [hn 0 (by decide), hn 1 (by decide), hn 2 (by decide), hn 3 (by decide), hn 4 (by decide), hn 5 (by decide), hn 6 (by decide), hn 7 (by decide), rfs_congr (B := B) (B' := adr B (30 + k) q) (o := 10) (n := i) (fun t ht => adr_ne B (by omega)), rfs_congr (B := B) (B' := adr B (30 + k) q) (o := 20) (n := j) (fun t ht => adr_ne B (by omega))]
      rfl
    rw [e1]; rfl
  rw [e]
  unfold zW
  rw [tl_addC (B := B) (q := q) (r := r) (suf := suf) (k := k) hj hi]
  have e2 : tlW B i j k (hyb r) suf = (mpL (binsF B (hyb r)) i ++ (mpL (legsF B (hyb r)) j ++ mpL (consF B (hyb r)) k)) ++ suf := by unfold tlW; simp
  rw [e2]
  exact z_ins _ _ _
end ZA
