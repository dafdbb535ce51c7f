/-! rows for the law's own walk -/
set_option maxRecDepth 100000
section LR
variable {p : Program} {l : Launch} {e : Env} {R : Room} {s : State} {m : MethodId} {args : Array Value} {below : List Frame} {meth : Method} {c : Code} {g : GT} {A : Nat → Prop} {nL cells slots : Nat} {Q : State → Prop} {y : MethodName} {cc : ByteArray} {ret : Option FieldType} {pc : Nat} {lv : List (Nat × Value)} {st : List Value} {ws : va_W}
/-- the script: an old cell -/
def SX (s : State) (A : Nat → Prop) (b L : Nat) (xs : Nat → Int32) : Prop := va_X b L xs s s.heap ∧ b < s.heap.size ∧ ¬ A b ∧ L ≤ 384
theorem v_sld (C : Cx p s m args meth c g A y cc nL ret) {b L : Nat} {xs : Nat → Int32} (hX : SX s A b L xs) {i : Int32} (d : decode cc pc = .ok (.iaload, 1)) {j : Nat} (hi : ixOk i L j) (k : V p l e R s m args below meth c g A nL cells slots Q (pc + 1) lv (.int (xs j) :: st) ws) : V p l e R s m args below meth c g A nL cells slots Q pc lv (.int i :: .ref b :: st) ws := fun H locs ls hP hD hS hl => va_sld C.1 C.2.1 hX.1 hX.2.1 hX.2.2.1 hS hi.1 d (by rw [hi.2]; exact k H locs ls hP hD hS hl)
theorem v_slen (C : Cx p s m args meth c g A y cc nL ret) {b L : Nat} {xs : Nat → Int32} (hX : SX s A b L xs) (d : decode cc pc = .ok (.arraylength, 1)) (k : V p l e R s m args below meth c g A nL cells slots Q (pc + 1) lv (.int (nI L) :: st) ws) : V p l e R s m args below meth c g A nL cells slots Q pc lv (.ref b :: st) ws := fun H locs ls hP hD hS hl => va_slen C.1 C.2.1 hX.1 hX.2.1 hX.2.2.1 hS d (k H locs ls hP hD hS hl)
/-- a call of the class -/
theorem v_callX (C : Cx p s m args meth c g A y cc nL ret) {M : Md} {As st0 : List Value} {a0 n index : Nat} {w wr2 : va_W} {post : Option Value → va_W → Prop} (hX : XC l g M As a0 w post) (ok : MOKv M n) (hn : As.length = n) (hlk : Cond.methodLink y.cls index M.1 ∈ lw_all) (hst : st0 = As.reverse ++ .ref a0 :: st) (h8 : (st.map fun v => v.category).sum ≤ 8) (hrc : RX0 = M.1.cls) (d : decode cc pc = .ok (.invokevirtual index, 3)) (hR : roomOk M R cells slots) (hp : ws.Perm (w ++ wr2))
    (k : ∀ (rv : Option Value) (w1 : va_W), post rv w1 → V p l e R s m args below meth c g A nL (cells + M.2.2.2.2.2.2.1) (slots + M.2.2.2.2.2.2.2) Q (pc + 3) lv (rv.toList ++ st) (w1 ++ wr2)) : V p l e R s m args below meth c g A nL cells slots Q pc lv st0 ws := by
  obtain ⟨wc, wr, P, q0, fs, h1, h2, h3, h4⟩ := hX
  refine v_callV C h2 ok hn hlk hst h8 q0 h3 (ci := 0) rfl hrc d hR (wr := wr ++ wr2) (hp.trans ((h1.append_right wr2).trans (by rw [List.append_assoc]))) (fun rv w1 hw => ?_)
  rw [← List.append_assoc]
  exact k rv (w1 ++ wr) (h4 rv w1 hw)
theorem sx_ix {i L k : Nat} (h : i + 6 ≤ L) (hL : L ≤ 384) (hk : k ≤ 5) : ixOk (nI i + nI k) L (i + k) := by
  rw [nI_add]
  exact ixn (by omega) (by omega)
theorem sx_ix0 {i L : Nat} (h : i + 6 ≤ L) (hL : L ≤ 384) : ixOk (nI i) L i := ixn (by omega) (by omega)
end LR
