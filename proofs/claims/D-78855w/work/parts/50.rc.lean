/-! record in the core world; adding to the lists; what a recording method leaves -/
set_option maxRecDepth 100000
theorem cw_rec_in {g : GT} {a A : Nat → Nat} {nb nl nc : Nat} {r : Nat → Int32} {b : Nat → Int64} {od : Nat → Int32} {us : Int32} {tk : Nat → Int32} {bn : Int32} {D X : va_W} : (cw g a A nb nl nc r b od us tk bn (D ++ X)).Perm (((a 0, .inr (0, elF a us bn (A 0))) :: (D ++ sw g A nb nl nc r b X)) ++ [(a 1, .inl (g.2 0, 8, .inl od)), (a 2, .inl (g.2 0, 8, .inl tk))]) := by
  unfold cw
  rw [sw_suf g A nb nl nc r b (D ++ X), sw_suf g A nb nl nc r b X]
  refine List.Perm.cons _ ?_
  have h1 : (sw g A nb nl nc r b [] ++ (D ++ X)).Perm (D ++ (sw g A nb nl nc r b [] ++ X)) := perm_mid _ D X
  exact ((h1.cons _).cons _).trans (List.perm_append_comm (l₁ := [_, _]))
theorem cw_rec_out {g : GT} {a A B : Nat → Nat} {nb nl nc : Nat} {r : Nat → Int32} {b : Nat → Int64} {od : Nat → Int32} {us : Int32} {tk : Nat → Int32} {bn : Int32} {D X w : va_W} (h : w.Perm ((a 0, .inr (0, elF a us bn (B 0))) :: (D ++ sw g B nb nl nc r b (sw g A nb nl nc r b X)))) : (w ++ ([(a 1, .inl (g.2 0, 8, .inl od)), (a 2, .inl (g.2 0, 8, .inl tk))] : va_W)).Perm (cw g a B nb nl nc r b od us tk bn (D ++ (sw g A nb nl nc r b [] ++ X))) := by
  refine (h.append_right _).trans ?_
  rw [← sw_suf]
  exact cw_rec_in.symm
section VRC
variable {p : Program} {l : Launch} {e : Env} {R : Room} {s : State} {m : MethodId} {args : Array Value} {below : List Frame} {meth : Method} {c : Code} {g : GT} {A9 : Nat → Prop} {nL cells slots : Nat} {Q : State → Prop} {y : MethodName} {cc : ByteArray} {ret : Option FieldType} {pc : Nat} {lv : List (Nat × Value)} {st : List Value}
theorem v_rec (C : Cx p s m args meth c g A9 y cc nL ret) {index : Nat} {a A : Nat → Nat} {nb nl nc : Nat} {r : Nat → Int32} {b : Nat → Int64} {od : Nat → Int32} {us : Int32} {tk : Nat → Int32} {bn : Int32} {d1 hd tl : Nat} {f : Nat → Option Nat} {X : va_W} (hnb : nb ≤ 8) (hnl : nl ≤ 3) (hnc : nc ≤ 6) (hh : hd < 6) (ht : tl < 6) (hf : (tl + 6 - hd) % 6 = 5 → ∃ x, f hd = some x)
    (hlk : Cond.methodLink y.cls index yX0_record ∈ lw_all) (h8 : (st.map fun v => v.category).sum ≤ 8) (d : decode cc pc = .ok (.invokevirtual index, 3)) (hR : roomOk M_X0_record R cells slots)
    (k : ∀ B : Nat → Nat, V p l e R s m args below meth c g A9 nL (cells + 25) (slots + 164) Q (pc + 3) lv st (cw g a B nb nl nc r b od us tk bn (dqW g (a 3) d1 (dqH hd tl) ((tl + 1) % 6) (dqF hd tl f (A 0)) ++ (sw g A nb nl nc r b [] ++ X)))) : V p l e R s m args below meth c g A9 nL cells slots Q pc lv (.ref (a 0) :: st) (cw g a A nb nl nc r b od us tk bn (dqW g (a 3) d1 hd tl f ++ X)) :=
  v_callV C (x_record l g a A nb nl nc r b us bn d1 hd tl f X hnb hnl hnc hh ht hf) ok_X0_record rfl hlk rfl h8 0 rfl rfl rfl d hR cw_rec_in (fun rv w h => by
    obtain ⟨rfl, B, hp⟩ := h
    exact v_perm (cw_rec_out hp) (k B))
end VRC
abbrev XO : Type := Bool × (Nat × Nat × Nat) × (Nat → Int32) × (Nat → Int64)
/-- the history's cells behind a call that recorded, or didn't -/
def recD (g : GT) (a A : Nat → Nat) (nb nl nc : Nat) (r : Nat → Int32) (b : Nat → Int64) (d1 hd tl : Nat) (f : Nat → Option Nat) (X : va_W) (o : Bool) : va_W :=
  match o with
  | true => dqW g (a 3) d1 (dqH hd tl) ((tl + 1) % 6) (dqF hd tl f (A 0)) ++ (sw g A nb nl nc r b [] ++ X)
  | false => dqW g (a 3) d1 hd tl f ++ X
def Rec (g : GT) (a A : Nat → Nat) (nb nl nc : Nat) (r : Nat → Int32) (b : Nat → Int64) (d1 hd tl : Nat) (f : Nat → Option Nat) (X : va_W) (o : XO) (w : va_W) : Prop :=
  ∃ (B : Nat → Nat) (od : Nat → Int32) (us : Int32) (tk : Nat → Int32) (bn : Int32), w.Perm (cw g a B o.2.1.1 o.2.1.2.1 o.2.1.2.2 o.2.2.1 o.2.2.2 od us tk bn (recD g a A nb nl nc r b d1 hd tl f X o.1))
theorem perm_new {α : Type} {x : α} {Z T T' : List α} (h : (x :: T).Perm T') : (x :: (Z ++ T)).Perm (Z ++ T') := (List.perm_middle (a := x) (l₁ := Z) (l₂ := T)).symm.trans (h.append_left Z)
section ADD
variable {p : Program} {l : Launch} {e : Env} {R : Room} {s : State} {m : MethodId} {args : Array Value} {below : List Frame} {meth : Method} {c : Code} {A9 : Nat → Prop} {nL cells slots : Nat} {Q : State → Prop} {y : MethodName} {cc : ByteArray} {ret : Option FieldType} {pc : Nat} {lv : List (Nat × Value)} {st : List Value}
variable {g : GT} {a A : Nat → Nat} {nb nl nc : Nat} {r : Nat → Int32} {b : Nat → Int64} {od : Nat → Int32} {us : Int32} {tk : Nat → Int32} {bn : Int32} {suf : va_W} {q : Nat} {v : Nat → Int32}
theorem tl_newB (hnb : nb < 8) (hnl : nl ≤ 3) (hnc : nc ≤ 6) : (bnC q v :: tlW A nb nl nc r suf).Perm (tlW (adr A (10 + nb) q) (nb + 1) nl nc (pb r nb v) suf) := by
  unfold tlW
  rw [mpL_succ]
  have e1 : mpL (binsF (adr A (10 + nb) q) (pb r nb v)) nb = mpL (binsF A r) nb := mpL_congr fun i hi => by
    unfold binsF bnC; rw [adr_ne _ (by omega), bnF_congr (v := bv (pb r nb v) i) (v' := bv r i) (fun j hj => pb_out _ (by omega))]
  have e2 : binsF (adr A (10 + nb) q) (pb r nb v) nb = bnC q v := by
    unfold binsF bnC; rw [adr_at, bnF_congr (v := bv (pb r nb v) nb) (v' := v) (fun j hj => (pb_in j hj).symm)]
  have e3 : mpL (legsF (adr A (10 + nb) q) (pb r nb v)) nl = mpL (legsF A r) nl := mpL_congr fun i hi => by
    unfold legsF lgC; rw [adr_ne _ (by omega), lgF_congr (v := gv (pb r nb v) i) (v' := gv r i) (fun j hj => pb_out _ (by omega))]
  have e4 : mpL (consF (adr A (10 + nb) q) (pb r nb v)) nc = mpL (consF A r) nc := mpL_congr fun i hi => by
    unfold consF cnC; rw [adr_ne _ (by omega), cnF_congr (v := tv (pb r nb v) i) (v' := tv r i) (fun j hj => pb_out _ (by omega))]
  rw [e1, e2, e3, e4]
  exact perm_ins (bnC q v) [] (mpL (binsF A r) nb) _
theorem tl_newG (hnb : nb ≤ 8) (hnl : nl < 3) (hnc : nc ≤ 6) : (lgC q v :: tlW A nb nl nc r suf).Perm (tlW (adr A (20 + nl) q) nb (nl + 1) nc (pg4 r nl v) suf) := by
  unfold tlW
  rw [mpL_succ]
  have e1 : mpL (binsF (adr A (20 + nl) q) (pg4 r nl v)) nb = mpL (binsF A r) nb := mpL_congr fun i hi => by
    unfold binsF bnC; rw [adr_ne _ (by omega), bnF_congr (v := bv (pg4 r nl v) i) (v' := bv r i) (fun j hj => pg_out _ (by omega))]
  have e2 : legsF (adr A (20 + nl) q) (pg4 r nl v) nl = lgC q v := by
    unfold legsF lgC; rw [adr_at, lgF_congr (v := gv (pg4 r nl v) nl) (v' := v) (fun j hj => (pg_in j hj).symm)]
  have e3 : mpL (legsF (adr A (20 + nl) q) (pg4 r nl v)) nl = mpL (legsF A r) nl := mpL_congr fun i hi => by
    unfold legsF lgC; rw [adr_ne _ (by omega), lgF_congr (v := gv (pg4 r nl v) i) (v' := gv r i) (fun j hj => pg_out _ (by omega))]
  have e4 : mpL (consF (adr A (20 + nl) q) (pg4 r nl v)) nc = mpL (consF A r) nc := mpL_congr fun i hi => by
    unfold consF cnC; rw [adr_ne _ (by omega), cnF_congr (v := tv (pg4 r nl v) i) (v' := tv r i) (fun j hj => pg_out _ (by omega))]
  rw [e1, e2, e3, e4]
  exact perm_ins (lgC q v) (mpL (binsF A r) nb) (mpL (legsF A r) nl) _
def pc6 (r : Nat → Int32) (i : Nat) (v : Nat → Int32) : Nat → Int32 := fun j => if 94 + 6 * i ≤ j ∧ j < 94 + 6 * i + 6 then v (j - (94 + 6 * i)) else r j
theorem pc_in {r : Nat → Int32} {i : Nat} {v : Nat → Int32} : ∀ j, j < 6 → v j = pc6 r i v (94 + 6 * i + j) := by
  intro j hj; unfold pc6; rw [if_pos (by omega), Nat.add_sub_cancel_left]
theorem pc_out {r : Nat → Int32} {i : Nat} {v : Nat → Int32} : ∀ j, j < 94 + 6 * i ∨ 94 + 6 * i + 6 ≤ j → pc6 r i v j = r j := by
  intro j hj; unfold pc6; rw [if_neg (by omega)]
theorem tl_newC (hnb : nb ≤ 8) (hnl : nl ≤ 3) (hnc : nc < 6) : (cnC q v :: tlW A nb nl nc r suf).Perm (tlW (adr A (30 + nc) q) nb nl (nc + 1) (pc6 r nc v) suf) := by
  unfold tlW
  rw [mpL_succ]
  have e1 : mpL (binsF (adr A (30 + nc) q) (pc6 r nc v)) nb = mpL (binsF A r) nb := mpL_congr fun i hi => by
    unfold binsF bnC; rw [adr_ne _ (by omega), bnF_congr (v := bv (pc6 r nc v) i) (v' := bv r i) (fun j hj => pc_out _ (by omega))]
  have e2 : consF (adr A (30 + nc) q) (pc6 r nc v) nc = cnC q v := by
    unfold consF cnC; rw [adr_at, cnF_congr (v := tv (pc6 r nc v) nc) (v' := v) (fun j hj => (pc_in j hj).symm)]
  have e3 : mpL (legsF (adr A (30 + nc) q) (pc6 r nc v)) nl = mpL (legsF A r) nl := mpL_congr fun i hi => by
    unfold legsF lgC; rw [adr_ne _ (by omega), lgF_congr (v := gv (pc6 r nc v) i) (v' := gv r i) (fun j hj => pc_out _ (by omega))]
  have e4 : mpL (consF (adr A (30 + nc) q) (pc6 r nc v)) nc = mpL (consF A r) nc := mpL_congr fun i hi => by
    unfold consF cnC; rw [adr_ne _ (by omega), cnF_congr (v := tv (pc6 r nc v) i) (v' := tv r i) (fun j hj => pc_out _ (by omega))]
  rw [e1, e2, e3, e4]
  have h := perm_ins (cnC q v) (mpL (binsF A r) nb ++ mpL (legsF A r) nl) (mpL (consF A r) nc) suf
  rw [List.append_assoc, List.append_assoc] at h
  exact h
theorem cw_addB (hnb : nb < 8) (hnl : nl ≤ 3) (hnc : nc ≤ 6) : (bnC q v :: (((a 0, (.inr (0, elF a us bn (A 0)) : va_E)) :: (a 1, .inl (g.2 0, 8, .inl od)) :: (a 2, .inl (g.2 0, 8, .inl tk)) :: (A 0, .inr (1, stF A r b)) :: []) ++ ((alW g (A 1) (A 2) 8 (nI nb + 1) (nb + 1) (va_up (rfs A 10 nb) nb (some q))) ++ ((A 3, .inr (8, [.int (nI nl), .ref (A 4), .int (nI nl)])) :: (A 4, .inl (g.2 4, 3, .inr (.inr (.inr (.inr (rfs A 20 nl)))))) :: (A 5, .inr (8, [.int (nI nc), .ref (A 6), .int (nI nc)])) :: (A 6, .inl (g.2 4, 6, .inr (.inr (.inr (.inr (rfs A 30 nc)))))) :: (A 7, .inl (g.2 0, 4, .inl (prF r))) :: tlW A nb nl nc r suf)))).Perm (cw g a (adr A (10 + nb) q) (nb + 1) nl nc (pb r nb v) b od us tk bn suf) := by
  have key : cw g a (adr A (10 + nb) q) (nb + 1) nl nc (pb r nb v) b od us tk bn suf = ((((a 0, (.inr (0, elF a us bn (A 0)) : va_E)) :: (a 1, .inl (g.2 0, 8, .inl od)) :: (a 2, .inl (g.2 0, 8, .inl tk)) :: (A 0, .inr (1, stF A r b)) :: []) ++ (alW g (A 1) (A 2) 8 (nI nb + 1) (nb + 1) (va_up (rfs A 10 nb) nb (some q)))) ++ ((A 3, .inr (8, [.int (nI nl), .ref (A 4), .int (nI nl)])) :: (A 4, .inl (g.2 4, 3, .inr (.inr (.inr (.inr (rfs A 20 nl)))))) :: (A 5, .inr (8, [.int (nI nc), .ref (A 6), .int (nI nc)])) :: (A 6, .inl (g.2 4, 6, .inr (.inr (.inr (.inr (rfs A 30 nc)))))) :: (A 7, .inl (g.2 0, 4, .inl (prF r))) :: [])) ++ tlW (adr A (10 + nb) q) (nb + 1) nl nc (pb r nb v) suf := by
    have a0 : adr A (10 + nb) q 0 = A 0 := adr_ne _ (by omega)
    have a1 : adr A (10 + nb) q 1 = A 1 := adr_ne _ (by omega)
    have a2 : adr A (10 + nb) q 2 = A 2 := adr_ne _ (by omega)
    have a3 : adr A (10 + nb) q 3 = A 3 := adr_ne _ (by omega)
    have a4 : adr A (10 + nb) q 4 = A 4 := adr_ne _ (by omega)
    have a5 : adr A (10 + nb) q 5 = A 5 := adr_ne _ (by omega)
    have a6 : adr A (10 + nb) q 6 = A 6 := adr_ne _ (by omega)
    have a7 : adr A (10 + nb) q 7 = A 7 := adr_ne _ (by omega)
    have fB : rfs (adr A (10 + nb) q) 10 (nb + 1) = va_up (rfs A 10 nb) nb (some q) := (rfs_up (fun i hi => adr_ne _ (by omega)) (adr_at _ _ _)).symm
    have fG : rfs (adr A (10 + nb) q) 20 nl = rfs A 20 nl := rfs_congr fun i hi => adr_ne _ (by omega)
    have fC : rfs (adr A (10 + nb) q) 30 nc = rfs A 30 nc := rfs_congr fun i hi => adr_ne _ (by omega)
    have ep : prF (pb r nb v) = prF r := prF_congr fun j h1 h2 => pb_out _ (by omega)
    have e0 : pb r nb v 0 = r 0 := pb_out _ (by omega)
    have e1 : pb r nb v 1 = r 1 := pb_out _ (by omega)
    have e5 : pb r nb v 5 = r 5 := pb_out _ (by omega)
    have e6 : nI nb + 1 = nI (nb + 1) := nI_1 nb
    simp only [cw, sw, hdW, stF, alW, elF, a0, a1, a2, a3, a4, a5, a6, a7, fB, fG, fC, ep, e0, e1, e5, e6, List.cons_append, List.nil_append]
  rw [key]
  have h := perm_new (Z := (((a 0, (.inr (0, elF a us bn (A 0)) : va_E)) :: (a 1, .inl (g.2 0, 8, .inl od)) :: (a 2, .inl (g.2 0, 8, .inl tk)) :: (A 0, .inr (1, stF A r b)) :: []) ++ (alW g (A 1) (A 2) 8 (nI nb + 1) (nb + 1) (va_up (rfs A 10 nb) nb (some q)))) ++ ((A 3, .inr (8, [.int (nI nl), .ref (A 4), .int (nI nl)])) :: (A 4, .inl (g.2 4, 3, .inr (.inr (.inr (.inr (rfs A 20 nl)))))) :: (A 5, .inr (8, [.int (nI nc), .ref (A 6), .int (nI nc)])) :: (A 6, .inl (g.2 4, 6, .inr (.inr (.inr (.inr (rfs A 30 nc)))))) :: (A 7, .inl (g.2 0, 4, .inl (prF r))) :: [])) (tl_newB (A := A) (nb := nb) (nl := nl) (nc := nc) (r := r) (suf := suf) (q := q) (v := v) hnb hnl hnc)
  exact h
theorem v_addB (C : Cx p s m args meth c g A9 y cc nL ret) (hnb : nb < 8) (hnl : nl ≤ 3) (hnc : nc ≤ 6) {index : Nat} (hlk : Cond.methodLink y.cls index yJ2_add ∈ lw_all) (h8 : (st.map fun v => v.category).sum ≤ 8) (d : decode cc pc = .ok (.invokevirtual index, 3)) (hR : roomOk M_J2_add R cells slots)
    (k : V p l e R s m args below meth c g A9 nL cells slots Q (pc + 3) lv (.int 1 :: st) (cw g a (adr A (10 + nb) q) (nb + 1) nl nc (pb r nb v) b od us tk bn suf)) : V p l e R s m args below meth c g A9 nL cells slots Q pc lv (.ref q :: .ref (A 1) :: st) (bnC q v :: cw g a A nb nl nc r b od us tk bn suf) :=
  v_callV (wr := ((a 0, (.inr (0, elF a us bn (A 0)) : va_E)) :: (a 1, .inl (g.2 0, 8, .inl od)) :: (a 2, .inl (g.2 0, 8, .inl tk)) :: (A 0, .inr (1, stF A r b)) :: []) ++ ((A 3, .inr (8, [.int (nI nl), .ref (A 4), .int (nI nl)])) :: (A 4, .inl (g.2 4, 3, .inr (.inr (.inr (.inr (rfs A 20 nl)))))) :: (A 5, .inr (8, [.int (nI nc), .ref (A 6), .int (nI nc)])) :: (A 6, .inl (g.2 4, 6, .inr (.inr (.inr (.inr (rfs A 30 nc)))))) :: (A 7, .inl (g.2 0, 4, .inl (prF r))) :: tlW A nb nl nc r suf)) C (j_add l g (A 1) (A 2) 8 (nI nb) nb (rfs A 10 nb) q 4 (RX4, TX4, 9) (bnF v) rfl q1581 (by omega) (by decide)) ok_J2_add rfl hlk rfl h8 0 rfl rfl rfl d hR (perm_add _ ((a 0, (.inr (0, elF a us bn (A 0)) : va_E)) :: (a 1, .inl (g.2 0, 8, .inl od)) :: (a 2, .inl (g.2 0, 8, .inl tk)) :: (A 0, .inr (1, stF A r b)) :: []) (alW g (A 1) (A 2) 8 (nI nb) nb (rfs A 10 nb)) ((A 3, .inr (8, [.int (nI nl), .ref (A 4), .int (nI nl)])) :: (A 4, .inl (g.2 4, 3, .inr (.inr (.inr (.inr (rfs A 20 nl)))))) :: (A 5, .inr (8, [.int (nI nc), .ref (A 6), .int (nI nc)])) :: (A 6, .inl (g.2 4, 6, .inr (.inr (.inr (.inr (rfs A 30 nc)))))) :: (A 7, .inl (g.2 0, 4, .inl (prF r))) :: tlW A nb nl nc r suf)) (fun rv w h => by
    obtain ⟨rfl, rfl⟩ := h
    exact v_perm ((perm_add (bnC q v) ((a 0, (.inr (0, elF a us bn (A 0)) : va_E)) :: (a 1, .inl (g.2 0, 8, .inl od)) :: (a 2, .inl (g.2 0, 8, .inl tk)) :: (A 0, .inr (1, stF A r b)) :: []) (alW g (A 1) (A 2) 8 (nI nb + 1) (nb + 1) (va_up (rfs A 10 nb) nb (some q))) ((A 3, .inr (8, [.int (nI nl), .ref (A 4), .int (nI nl)])) :: (A 4, .inl (g.2 4, 3, .inr (.inr (.inr (.inr (rfs A 20 nl)))))) :: (A 5, .inr (8, [.int (nI nc), .ref (A 6), .int (nI nc)])) :: (A 6, .inl (g.2 4, 6, .inr (.inr (.inr (.inr (rfs A 30 nc)))))) :: (A 7, .inl (g.2 0, 4, .inl (prF r))) :: tlW A nb nl nc r suf)).symm.trans (cw_addB hnb hnl hnc)) k)
theorem cw_addG (hnb : nb ≤ 8) (hnl : nl < 3) (hnc : nc ≤ 6) : (lgC q v :: (((a 0, (.inr (0, elF a us bn (A 0)) : va_E)) :: (a 1, .inl (g.2 0, 8, .inl od)) :: (a 2, .inl (g.2 0, 8, .inl tk)) :: (A 0, .inr (1, stF A r b)) :: (A 1, .inr (8, [.int (nI nb), .ref (A 2), .int (nI nb)])) :: (A 2, .inl (g.2 4, 8, .inr (.inr (.inr (.inr (rfs A 10 nb)))))) :: []) ++ ((alW g (A 3) (A 4) 3 (nI nl + 1) (nl + 1) (va_up (rfs A 20 nl) nl (some q))) ++ ((A 5, .inr (8, [.int (nI nc), .ref (A 6), .int (nI nc)])) :: (A 6, .inl (g.2 4, 6, .inr (.inr (.inr (.inr (rfs A 30 nc)))))) :: (A 7, .inl (g.2 0, 4, .inl (prF r))) :: tlW A nb nl nc r suf)))).Perm (cw g a (adr A (20 + nl) q) nb (nl + 1) nc (pg4 r nl v) b od us tk bn suf) := by
  have key : cw g a (adr A (20 + nl) q) nb (nl + 1) nc (pg4 r nl v) b od us tk bn suf = ((((a 0, (.inr (0, elF a us bn (A 0)) : va_E)) :: (a 1, .inl (g.2 0, 8, .inl od)) :: (a 2, .inl (g.2 0, 8, .inl tk)) :: (A 0, .inr (1, stF A r b)) :: (A 1, .inr (8, [.int (nI nb), .ref (A 2), .int (nI nb)])) :: (A 2, .inl (g.2 4, 8, .inr (.inr (.inr (.inr (rfs A 10 nb)))))) :: []) ++ (alW g (A 3) (A 4) 3 (nI nl + 1) (nl + 1) (va_up (rfs A 20 nl) nl (some q)))) ++ ((A 5, .inr (8, [.int (nI nc), .ref (A 6), .int (nI nc)])) :: (A 6, .inl (g.2 4, 6, .inr (.inr (.inr (.inr (rfs A 30 nc)))))) :: (A 7, .inl (g.2 0, 4, .inl (prF r))) :: [])) ++ tlW (adr A (20 + nl) q) nb (nl + 1) nc (pg4 r nl v) suf := by
    have a0 : adr A (20 + nl) q 0 = A 0 := adr_ne _ (by omega)
    have a1 : adr A (20 + nl) q 1 = A 1 := adr_ne _ (by omega)
    have a2 : adr A (20 + nl) q 2 = A 2 := adr_ne _ (by omega)
    have a3 : adr A (20 + nl) q 3 = A 3 := adr_ne _ (by omega)
    have a4 : adr A (20 + nl) q 4 = A 4 := adr_ne _ (by omega)
    have a5 : adr A (20 + nl) q 5 = A 5 := adr_ne _ (by omega)
    have a6 : adr A (20 + nl) q 6 = A 6 := adr_ne _ (by omega)
    have a7 : adr A (20 + nl) q 7 = A 7 := adr_ne _ (by omega)
    have fB : rfs (adr A (20 + nl) q) 10 nb = rfs A 10 nb := rfs_congr fun i hi => adr_ne _ (by omega)
    have fG : rfs (adr A (20 + nl) q) 20 (nl + 1) = va_up (rfs A 20 nl) nl (some q) := (rfs_up (fun i hi => adr_ne _ (by omega)) (adr_at _ _ _)).symm
    have fC : rfs (adr A (20 + nl) q) 30 nc = rfs A 30 nc := rfs_congr fun i hi => adr_ne _ (by omega)
    have ep : prF (pg4 r nl v) = prF r := prF_congr fun j h1 h2 => pg_out _ (by omega)
    have e0 : pg4 r nl v 0 = r 0 := pg_out _ (by omega)
    have e1 : pg4 r nl v 1 = r 1 := pg_out _ (by omega)
    have e5 : pg4 r nl v 5 = r 5 := pg_out _ (by omega)
    have e6 : nI nl + 1 = nI (nl + 1) := nI_1 nl
    simp only [cw, sw, hdW, stF, alW, elF, a0, a1, a2, a3, a4, a5, a6, a7, fB, fG, fC, ep, e0, e1, e5, e6, List.cons_append, List.nil_append]
  rw [key]
  have h := perm_new (Z := (((a 0, (.inr (0, elF a us bn (A 0)) : va_E)) :: (a 1, .inl (g.2 0, 8, .inl od)) :: (a 2, .inl (g.2 0, 8, .inl tk)) :: (A 0, .inr (1, stF A r b)) :: (A 1, .inr (8, [.int (nI nb), .ref (A 2), .int (nI nb)])) :: (A 2, .inl (g.2 4, 8, .inr (.inr (.inr (.inr (rfs A 10 nb)))))) :: []) ++ (alW g (A 3) (A 4) 3 (nI nl + 1) (nl + 1) (va_up (rfs A 20 nl) nl (some q)))) ++ ((A 5, .inr (8, [.int (nI nc), .ref (A 6), .int (nI nc)])) :: (A 6, .inl (g.2 4, 6, .inr (.inr (.inr (.inr (rfs A 30 nc)))))) :: (A 7, .inl (g.2 0, 4, .inl (prF r))) :: [])) (tl_newG (A := A) (nb := nb) (nl := nl) (nc := nc) (r := r) (suf := suf) (q := q) (v := v) hnb hnl hnc)
  exact h
theorem v_addG (C : Cx p s m args meth c g A9 y cc nL ret) (hnb : nb ≤ 8) (hnl : nl < 3) (hnc : nc ≤ 6) {index : Nat} (hlk : Cond.methodLink y.cls index yJ2_add ∈ lw_all) (h8 : (st.map fun v => v.category).sum ≤ 8) (d : decode cc pc = .ok (.invokevirtual index, 3)) (hR : roomOk M_J2_add R cells slots)
    (k : V p l e R s m args below meth c g A9 nL cells slots Q (pc + 3) lv (.int 1 :: st) (cw g a (adr A (20 + nl) q) nb (nl + 1) nc (pg4 r nl v) b od us tk bn suf)) : V p l e R s m args below meth c g A9 nL cells slots Q pc lv (.ref q :: .ref (A 3) :: st) (lgC q v :: cw g a A nb nl nc r b od us tk bn suf) :=
  v_callV (wr := ((a 0, (.inr (0, elF a us bn (A 0)) : va_E)) :: (a 1, .inl (g.2 0, 8, .inl od)) :: (a 2, .inl (g.2 0, 8, .inl tk)) :: (A 0, .inr (1, stF A r b)) :: (A 1, .inr (8, [.int (nI nb), .ref (A 2), .int (nI nb)])) :: (A 2, .inl (g.2 4, 8, .inr (.inr (.inr (.inr (rfs A 10 nb)))))) :: []) ++ ((A 5, .inr (8, [.int (nI nc), .ref (A 6), .int (nI nc)])) :: (A 6, .inl (g.2 4, 6, .inr (.inr (.inr (.inr (rfs A 30 nc)))))) :: (A 7, .inl (g.2 0, 4, .inl (prF r))) :: tlW A nb nl nc r suf)) C (j_add l g (A 3) (A 4) 3 (nI nl) nl (rfs A 20 nl) q 5 (RX5, TX5, 4) (lgF v) rfl q1582 (by omega) (by decide)) ok_J2_add rfl hlk rfl h8 0 rfl rfl rfl d hR (perm_add _ ((a 0, (.inr (0, elF a us bn (A 0)) : va_E)) :: (a 1, .inl (g.2 0, 8, .inl od)) :: (a 2, .inl (g.2 0, 8, .inl tk)) :: (A 0, .inr (1, stF A r b)) :: (A 1, .inr (8, [.int (nI nb), .ref (A 2), .int (nI nb)])) :: (A 2, .inl (g.2 4, 8, .inr (.inr (.inr (.inr (rfs A 10 nb)))))) :: []) (alW g (A 3) (A 4) 3 (nI nl) nl (rfs A 20 nl)) ((A 5, .inr (8, [.int (nI nc), .ref (A 6), .int (nI nc)])) :: (A 6, .inl (g.2 4, 6, .inr (.inr (.inr (.inr (rfs A 30 nc)))))) :: (A 7, .inl (g.2 0, 4, .inl (prF r))) :: tlW A nb nl nc r suf)) (fun rv w h => by
    obtain ⟨rfl, rfl⟩ := h
    exact v_perm ((perm_add (lgC q v) ((a 0, (.inr (0, elF a us bn (A 0)) : va_E)) :: (a 1, .inl (g.2 0, 8, .inl od)) :: (a 2, .inl (g.2 0, 8, .inl tk)) :: (A 0, .inr (1, stF A r b)) :: (A 1, .inr (8, [.int (nI nb), .ref (A 2), .int (nI nb)])) :: (A 2, .inl (g.2 4, 8, .inr (.inr (.inr (.inr (rfs A 10 nb)))))) :: []) (alW g (A 3) (A 4) 3 (nI nl + 1) (nl + 1) (va_up (rfs A 20 nl) nl (some q))) ((A 5, .inr (8, [.int (nI nc), .ref (A 6), .int (nI nc)])) :: (A 6, .inl (g.2 4, 6, .inr (.inr (.inr (.inr (rfs A 30 nc)))))) :: (A 7, .inl (g.2 0, 4, .inl (prF r))) :: tlW A nb nl nc r suf)).symm.trans (cw_addG hnb hnl hnc)) k)
theorem cw_addC (hnb : nb ≤ 8) (hnl : nl ≤ 3) (hnc : nc < 6) : (cnC q v :: (((a 0, (.inr (0, elF a us bn (A 0)) : va_E)) :: (a 1, .inl (g.2 0, 8, .inl od)) :: (a 2, .inl (g.2 0, 8, .inl tk)) :: (A 0, .inr (1, stF A r b)) :: (A 1, .inr (8, [.int (nI nb), .ref (A 2), .int (nI nb)])) :: (A 2, .inl (g.2 4, 8, .inr (.inr (.inr (.inr (rfs A 10 nb)))))) :: (A 3, .inr (8, [.int (nI nl), .ref (A 4), .int (nI nl)])) :: (A 4, .inl (g.2 4, 3, .inr (.inr (.inr (.inr (rfs A 20 nl)))))) :: []) ++ ((alW g (A 5) (A 6) 6 (nI nc + 1) (nc + 1) (va_up (rfs A 30 nc) nc (some q))) ++ ((A 7, .inl (g.2 0, 4, .inl (prF r))) :: tlW A nb nl nc r suf)))).Perm (cw g a (adr A (30 + nc) q) nb nl (nc + 1) (pc6 r nc v) b od us tk bn suf) := by
  have key : cw g a (adr A (30 + nc) q) nb nl (nc + 1) (pc6 r nc v) b od us tk bn suf = ((((a 0, (.inr (0, elF a us bn (A 0)) : va_E)) :: (a 1, .inl (g.2 0, 8, .inl od)) :: (a 2, .inl (g.2 0, 8, .inl tk)) :: (A 0, .inr (1, stF A r b)) :: (A 1, .inr (8, [.int (nI nb), .ref (A 2), .int (nI nb)])) :: (A 2, .inl (g.2 4, 8, .inr (.inr (.inr (.inr (rfs A 10 nb)))))) :: (A 3, .inr (8, [.int (nI nl), .ref (A 4), .int (nI nl)])) :: (A 4, .inl (g.2 4, 3, .inr (.inr (.inr (.inr (rfs A 20 nl)))))) :: []) ++ (alW g (A 5) (A 6) 6 (nI nc + 1) (nc + 1) (va_up (rfs A 30 nc) nc (some q)))) ++ ((A 7, .inl (g.2 0, 4, .inl (prF r))) :: [])) ++ tlW (adr A (30 + nc) q) nb nl (nc + 1) (pc6 r nc v) suf := by
    have a0 : adr A (30 + nc) q 0 = A 0 := adr_ne _ (by omega)
    have a1 : adr A (30 + nc) q 1 = A 1 := adr_ne _ (by omega)
    have a2 : adr A (30 + nc) q 2 = A 2 := adr_ne _ (by omega)
    have a3 : adr A (30 + nc) q 3 = A 3 := adr_ne _ (by omega)
    have a4 : adr A (30 + nc) q 4 = A 4 := adr_ne _ (by omega)
    have a5 : adr A (30 + nc) q 5 = A 5 := adr_ne _ (by omega)
    have a6 : adr A (30 + nc) q 6 = A 6 := adr_ne _ (by omega)
    have a7 : adr A (30 + nc) q 7 = A 7 := adr_ne _ (by omega)
    have fB : rfs (adr A (30 + nc) q) 10 nb = rfs A 10 nb := rfs_congr fun i hi => adr_ne _ (by omega)
    have fG : rfs (adr A (30 + nc) q) 20 nl = rfs A 20 nl := rfs_congr fun i hi => adr_ne _ (by omega)
    have fC : rfs (adr A (30 + nc) q) 30 (nc + 1) = va_up (rfs A 30 nc) nc (some q) := (rfs_up (fun i hi => adr_ne _ (by omega)) (adr_at _ _ _)).symm
    have ep : prF (pc6 r nc v) = prF r := prF_congr fun j h1 h2 => pc_out _ (by omega)
    have e0 : pc6 r nc v 0 = r 0 := pc_out _ (by omega)
    have e1 : pc6 r nc v 1 = r 1 := pc_out _ (by omega)
    have e5 : pc6 r nc v 5 = r 5 := pc_out _ (by omega)
    have e6 : nI nc + 1 = nI (nc + 1) := nI_1 nc
    simp only [cw, sw, hdW, stF, alW, elF, a0, a1, a2, a3, a4, a5, a6, a7, fB, fG, fC, ep, e0, e1, e5, e6, List.cons_append, List.nil_append]
  rw [key]
  have h := perm_new (Z := (((a 0, (.inr (0, elF a us bn (A 0)) : va_E)) :: (a 1, .inl (g.2 0, 8, .inl od)) :: (a 2, .inl (g.2 0, 8, .inl tk)) :: (A 0, .inr (1, stF A r b)) :: (A 1, .inr (8, [.int (nI nb), .ref (A 2), .int (nI nb)])) :: (A 2, .inl (g.2 4, 8, .inr (.inr (.inr (.inr (rfs A 10 nb)))))) :: (A 3, .inr (8, [.int (nI nl), .ref (A 4), .int (nI nl)])) :: (A 4, .inl (g.2 4, 3, .inr (.inr (.inr (.inr (rfs A 20 nl)))))) :: []) ++ (alW g (A 5) (A 6) 6 (nI nc + 1) (nc + 1) (va_up (rfs A 30 nc) nc (some q)))) ++ ((A 7, .inl (g.2 0, 4, .inl (prF r))) :: [])) (tl_newC (A := A) (nb := nb) (nl := nl) (nc := nc) (r := r) (suf := suf) (q := q) (v := v) hnb hnl hnc)
  exact h
theorem v_addC (C : Cx p s m args meth c g A9 y cc nL ret) (hnb : nb ≤ 8) (hnl : nl ≤ 3) (hnc : nc < 6) {index : Nat} (hlk : Cond.methodLink y.cls index yJ2_add ∈ lw_all) (h8 : (st.map fun v => v.category).sum ≤ 8) (d : decode cc pc = .ok (.invokevirtual index, 3)) (hR : roomOk M_J2_add R cells slots)
    (k : V p l e R s m args below meth c g A9 nL cells slots Q (pc + 3) lv (.int 1 :: st) (cw g a (adr A (30 + nc) q) nb nl (nc + 1) (pc6 r nc v) b od us tk bn suf)) : V p l e R s m args below meth c g A9 nL cells slots Q pc lv (.ref q :: .ref (A 5) :: st) (cnC q v :: cw g a A nb nl nc r b od us tk bn suf) :=
  v_callV (wr := ((a 0, (.inr (0, elF a us bn (A 0)) : va_E)) :: (a 1, .inl (g.2 0, 8, .inl od)) :: (a 2, .inl (g.2 0, 8, .inl tk)) :: (A 0, .inr (1, stF A r b)) :: (A 1, .inr (8, [.int (nI nb), .ref (A 2), .int (nI nb)])) :: (A 2, .inl (g.2 4, 8, .inr (.inr (.inr (.inr (rfs A 10 nb)))))) :: (A 3, .inr (8, [.int (nI nl), .ref (A 4), .int (nI nl)])) :: (A 4, .inl (g.2 4, 3, .inr (.inr (.inr (.inr (rfs A 20 nl)))))) :: []) ++ ((A 7, .inl (g.2 0, 4, .inl (prF r))) :: tlW A nb nl nc r suf)) C (j_add l g (A 5) (A 6) 6 (nI nc) nc (rfs A 30 nc) q 6 (RX6, TX6, 5) (cnF v) rfl q1583 (by omega) (by decide)) ok_J2_add rfl hlk rfl h8 0 rfl rfl rfl d hR (perm_add _ ((a 0, (.inr (0, elF a us bn (A 0)) : va_E)) :: (a 1, .inl (g.2 0, 8, .inl od)) :: (a 2, .inl (g.2 0, 8, .inl tk)) :: (A 0, .inr (1, stF A r b)) :: (A 1, .inr (8, [.int (nI nb), .ref (A 2), .int (nI nb)])) :: (A 2, .inl (g.2 4, 8, .inr (.inr (.inr (.inr (rfs A 10 nb)))))) :: (A 3, .inr (8, [.int (nI nl), .ref (A 4), .int (nI nl)])) :: (A 4, .inl (g.2 4, 3, .inr (.inr (.inr (.inr (rfs A 20 nl)))))) :: []) (alW g (A 5) (A 6) 6 (nI nc) nc (rfs A 30 nc)) ((A 7, .inl (g.2 0, 4, .inl (prF r))) :: tlW A nb nl nc r suf)) (fun rv w h => by
    obtain ⟨rfl, rfl⟩ := h
    exact v_perm ((perm_add (cnC q v) ((a 0, (.inr (0, elF a us bn (A 0)) : va_E)) :: (a 1, .inl (g.2 0, 8, .inl od)) :: (a 2, .inl (g.2 0, 8, .inl tk)) :: (A 0, .inr (1, stF A r b)) :: (A 1, .inr (8, [.int (nI nb), .ref (A 2), .int (nI nb)])) :: (A 2, .inl (g.2 4, 8, .inr (.inr (.inr (.inr (rfs A 10 nb)))))) :: (A 3, .inr (8, [.int (nI nl), .ref (A 4), .int (nI nl)])) :: (A 4, .inl (g.2 4, 3, .inr (.inr (.inr (.inr (rfs A 20 nl)))))) :: []) (alW g (A 5) (A 6) 6 (nI nc + 1) (nc + 1) (va_up (rfs A 30 nc) nc (some q))) ((A 7, .inl (g.2 0, 4, .inl (prF r))) :: tlW A nb nl nc r suf)).symm.trans (cw_addC hnb hnl hnc)) k)
end ADD
