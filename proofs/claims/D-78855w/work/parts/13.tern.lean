/-! 'cond ? 1 : 0' in one row; what lies outside a switch -/
set_option maxRecDepth 100000
section VT
variable {p : Program} {l : Launch} {e : Env} {R : Room} {s : State} {m : MethodId} {args : Array Value} {below : List Frame} {meth : Method} {c : Code} {g : GT} {A : Nat → Prop} {nL cells slots : Nat} {Q : State → Prop} {y : MethodName} {cc : ByteArray} {ret : Option FieldType} {pc : Nat} {lv : List (Nat × Value)} {st : List Value} {ws : va_W}
theorem v_ternB (C : Cx p s m args meth c g A y cc nL ret) {P : Prop} [Decidable P] {off off2 : Int} (t0 tE : Nat) (d : decode cc pc = .ok (.ifCond .eq off, 3)) (d1 : decode cc (pc + 3) = .ok (.iconst 1, 1)) (d2 : decode cc (pc + 4) = .ok (.goto off2, 3)) (d3 : decode cc t0 = .ok (.iconst 0, 1)) (h1 : (pc : Int) + off = (t0 : Int)) (h2 : ((pc + 4 : Nat) : Int) + off2 = (tE : Int)) (h3 : t0 + 1 = tE)
    (k : V p l e R s m args below meth c g A nL cells slots Q tE lv (.int (bI P) :: st) ws) : V p l e R s m args below meth c g A nL cells slots Q pc lv (.int (bI P) :: st) ws := by
  refine v_if_eqB C t0 d h1 (fun hp => ?_) (fun hp => ?_)
  · refine v_iconst (v := 0) C d3 (by decide) ?_
    rw [bI_f hp] at k; rw [h3]; exact k
  · refine v_iconst (v := 1) C d1 (by decide) ?_
    refine v_goto C tE d2 h2 ?_
    rw [bI_t hp] at k; exact k
theorem v_ternI (C : Cx p s m args meth c g A y cc nL ret) {P : Prop} [Decidable P] {off2 : Int} {st0 : List Value} (t0 tE : Nat) (d1 : decode cc (pc + 3) = .ok (.iconst 1, 1)) (d2 : decode cc (pc + 4) = .ok (.goto off2, 3)) (d3 : decode cc t0 = .ok (.iconst 0, 1)) (h2 : ((pc + 4 : Nat) : Int) + off2 = (tE : Int)) (h3 : t0 + 1 = tE)
    (hb : (¬ P → V p l e R s m args below meth c g A nL cells slots Q t0 lv st ws) → (P → V p l e R s m args below meth c g A nL cells slots Q (pc + 3) lv st ws) → V p l e R s m args below meth c g A nL cells slots Q pc lv st0 ws)
    (k : V p l e R s m args below meth c g A nL cells slots Q tE lv (.int (bI P) :: st) ws) : V p l e R s m args below meth c g A nL cells slots Q pc lv st0 ws := by
  refine hb (fun hp => ?_) (fun hp => ?_)
  · refine v_iconst (v := 0) C d3 (by decide) ?_
    rw [bI_f hp] at k; rw [h3]; exact k
  · refine v_iconst (v := 1) C d1 (by decide) ?_
    refine v_goto C tE d2 h2 ?_
    rw [bI_t hp] at k; exact k
/-- an array's contents matter below its length alone -/
theorem v_afun {a n : Nat} {cA : ClassId} {f f' : Nat → Int32} (q0 : Nat) (ha : ws[q0]? = some (a, .inl (cA, n, .inl f))) (hf : ∀ j, j < n → f j = f' j) {ws' : va_W} (hs : ws.set q0 (a, .inl (cA, n, .inl f')) = ws') (k : V p l e R s m args below meth c g A nL cells slots Q pc lv st ws') : V p l e R s m args below meth c g A nL cells slots Q pc lv st ws := by
  subst hs
  intro H locs ls hP hD hS hl
  refine k H locs ls ?_ (hD.set ha) hS hl
  have hc : va_at g.1 vwCl (a, .inl (cA, n, .inl f')) H := by
    have h1 : H[a]? = some (vp_cell cA (n, .inl f)) := hP q0 _ ha
    show H[a]? = some (vp_cell cA (n, .inl f'))
    rw [h1, vp_cell_i, vp_cell_i]
    unfold arrV
    congr 2
    congr 1
    funext j
    show Value.int (f j.val) = Value.int (f' j.val)
    rw [hf j.val j.isLt]
  rw [va_P_mem] at hP ⊢
  intro x hx
  rcases List.mem_or_eq_of_mem_set hx with h | h
  · exact hP x h
  · rw [h]; exact hc
section VTC
variable {M : Md} {post : va_W → Prop} {As st0 : List Value} {index b n : Nat} {r : Value}
/-- a call in the whole world, its new world by a property -/
theorem v_callVp (C : Cx p s m args meth c g A y cc nL ret) (hM : Ct l g M (.ref b :: As) ws (fun rv w => rv = some r ∧ post w)) (ok : MOKv M n) (hn : As.length = n) (hlk : Cond.methodLink y.cls index M.1 ∈ lw_all) (hst : st0 = As.reverse ++ .ref b :: st) (h8 : (st.map fun v => v.category).sum ≤ 8) {ci : Nat} {r0 : vw_C} {fs : List Value} (q0 : Nat) (he : ws[q0]? = some (b, .inr (ci, fs))) (hc : vwCl[ci]? = some r0) (hrc : r0.1 = M.1.cls) (d : decode cc pc = .ok (.invokevirtual index, 3)) (hR : roomOk M R cells slots) (hz : M.2.2.2.2.2.2.1 = 0 ∧ M.2.2.2.2.2.2.2 = 0)
    (k : ∀ w, post w → V p l e R s m args below meth c g A nL cells slots Q (pc + 3) lv (r :: st) w) : V p l e R s m args below meth c g A nL cells slots Q pc lv st0 ws :=
  v_callV C hM ok hn hlk hst h8 q0 he hc hrc d hR (by rw [List.append_nil]) (fun rv w h => by
    obtain ⟨rfl, h2⟩ := h
    rw [hz.1, hz.2, List.append_nil]
    exact k w h2)
end VTC
/-- the locals in another order, or fewer -/
theorem v_lvp {lv' : List (Nat × Value)} (ks : List Nat) (h : lv_pick lv ks = lv') (k : V p l e R s m args below meth c g A nL cells slots Q pc lv' st ws) : V p l e R s m args below meth c g A nL cells slots Q pc lv st ws := fun H locs ls hP hD hS hl => k H locs ls hP hD hS (lv_sub hl ks h)
end VT
theorem bI_and1 {P1 P2 : Prop} [Decidable P1] [Decidable P2] (h : P1) : bI P2 = bI (P1 ∧ P2) := by
  by_cases h2 : P2
  · rw [bI_t h2, bI_t (show P1 ∧ P2 from ⟨h, h2⟩)]
  · rw [bI_f h2, bI_f (fun q => h2 q.2)]
theorem bI_and0 {P1 P2 : Prop} [Decidable P1] [Decidable P2] (h : ¬ P1) : (0 : Int32) = bI (P1 ∧ P2) := (bI_f (fun q => h q.1)).symm
theorem sw_out {x : Int32} {n : Nat} {hi : Int} (hn : n < 2 ^ 31) (hh : (n : Int) - 1 = hi) (h : ∀ i, i < n → ¬ x = nI i) : x.toInt < 0 ∨ hi < x.toInt := by
  subst hh
  by_cases h0 : x < 0
  · left; simpa [Int32.lt_iff_toInt_lt] using h0
  · obtain ⟨j, hj, rfl⟩ := nI_of h0
    right
    rw [nI_toInt hj]
    by_cases hjn : j < n
    · exact absurd rfl (h j hjn)
    · omega
