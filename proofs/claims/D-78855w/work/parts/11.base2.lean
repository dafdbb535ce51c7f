/-! calls with one answer and one world; a method's start with its numbers apart; loops -/
set_option maxRecDepth 100000
section VB2
variable {p : Program} {l : Launch} {e : Env} {R : Room} {s : State} {m : MethodId} {args : Array Value} {below : List Frame} {meth : Method} {c : Code} {g : GT} {A : Nat → Prop} {nL cells slots : Nat} {Q : State → Prop} {y : MethodName} {cc : ByteArray} {ret : Option FieldType} {pc : Nat} {lv : List (Nat × Value)} {st : List Value} {ws : va_W}
theorem Ct.start2 {M : Md} {fr lo mc ms : Nat} (hM : M = (y, cc, nL, ret, fr, lo, mc, ms)) {av : List Value} {post : Option Value → va_W → Prop} (lv : List (Nat × Value)) (hlv : lv_args 0 av = lv) (hy : plainName y.cls = true) (hlen : (lg_sl av).length ≤ nL)
    (body : ∀ (p : Program) (e : Env) (s : State) (m : MethodId) (args : Array Value) (below : List Frame) (meth : Method) (c : Code) (A : Nat → Prop), Cx p s m args meth c g A y cc nL ret →
      V p l e ({ frames := fr, cells := mc, slots := ms, locals := lo } : Room) s m args below meth c g A nL 0 0 (VQ below args s g A mc ms post) 0 lv [] ws) : Ct l g M av ws post := by
  subst hM
  exact Ct.start lv hlv hy hlen body
section VC2
variable {M : Md} {wc wr w : va_W} {As st0 : List Value} {index b n : Nat} {r : Value}
theorem v_callVE {r : Option Value} (C : Cx p s m args meth c g A y cc nL ret) (hM : CtE l g M (.ref b :: As) wc r w) (ok : MOKv M n) (hn : As.length = n) (hlk : Cond.methodLink y.cls index M.1 ∈ lw_all) (hst : st0 = As.reverse ++ .ref b :: st) (h8 : (st.map fun v => v.category).sum ≤ 8) {ci : Nat} {r0 : vw_C} {fs : List Value} (q0 : Nat) (he : wc[q0]? = some (b, .inr (ci, fs))) (hc : vwCl[ci]? = some r0) (hrc : r0.1 = M.1.cls) (d : decode cc pc = .ok (.invokevirtual index, 3)) (hR : roomOk M R cells slots) (hp : ws.Perm (wc ++ wr)) {ws' : va_W} (hp' : (w ++ wr).Perm ws')
    (k : V p l e R s m args below meth c g A nL (cells + M.2.2.2.2.2.2.1) (slots + M.2.2.2.2.2.2.2) Q (pc + 3) lv (r.toList ++ st) ws') : V p l e R s m args below meth c g A nL cells slots Q pc lv st0 ws :=
  v_callV C hM ok hn hlk hst h8 q0 he hc hrc d hR hp (fun rv w' h => by obtain ⟨rfl, rfl⟩ := h; exact v_perm hp' k)
theorem v_callVw (C : Cx p s m args meth c g A y cc nL ret) (hM : CtE l g M (.ref b :: As) ws (some r) w) (ok : MOKv M n) (hn : As.length = n) (hlk : Cond.methodLink y.cls index M.1 ∈ lw_all) (hst : st0 = As.reverse ++ .ref b :: st) (h8 : (st.map fun v => v.category).sum ≤ 8) {ci : Nat} {r0 : vw_C} {fs : List Value} (q0 : Nat) (he : ws[q0]? = some (b, .inr (ci, fs))) (hc : vwCl[ci]? = some r0) (hrc : r0.1 = M.1.cls) (d : decode cc pc = .ok (.invokevirtual index, 3)) (hR : roomOk M R cells slots) (hz : M.2.2.2.2.2.2.1 = 0 ∧ M.2.2.2.2.2.2.2 = 0)
    (k : V p l e R s m args below meth c g A nL cells slots Q (pc + 3) lv (r :: st) w) : V p l e R s m args below meth c g A nL cells slots Q pc lv st0 ws :=
  v_callVE C hM ok hn hlk hst h8 q0 he hc hrc d hR (by rw [List.append_nil]) (by rw [List.append_nil]) (by rw [hz.1, hz.2]; exact k)
theorem v_callVv (C : Cx p s m args meth c g A y cc nL ret) (hM : CtE l g M (.ref b :: As) ws none w) (ok : MOKv M n) (hn : As.length = n) (hlk : Cond.methodLink y.cls index M.1 ∈ lw_all) (hst : st0 = As.reverse ++ .ref b :: st) (h8 : (st.map fun v => v.category).sum ≤ 8) {ci : Nat} {r0 : vw_C} {fs : List Value} (q0 : Nat) (he : ws[q0]? = some (b, .inr (ci, fs))) (hc : vwCl[ci]? = some r0) (hrc : r0.1 = M.1.cls) (d : decode cc pc = .ok (.invokevirtual index, 3)) (hR : roomOk M R cells slots) (hz : M.2.2.2.2.2.2.1 = 0 ∧ M.2.2.2.2.2.2.2 = 0)
    (k : V p l e R s m args below meth c g A nL cells slots Q (pc + 3) lv st w) : V p l e R s m args below meth c g A nL cells slots Q pc lv st0 ws :=
  v_callVE C hM ok hn hlk hst h8 q0 he hc hrc d hR (by rw [List.append_nil]) (by rw [List.append_nil]) (by rw [hz.1, hz.2]; exact k)
/-- a static method that sees no cell -/
theorem v_callSp (C : Cx p s m args meth c g A y cc nL ret) (hM : CtE l g M As [] (some r) []) (ok : MOKs M n) (hn : As.length = n) (hlk : Cond.methodLink y.cls index M.1 ∈ lw_all) (hst : st0 = As.reverse ++ st) (h8 : (st.map fun v => v.category).sum ≤ 8) (d : decode cc pc = .ok (.invokestatic index, 3)) (hR : roomOk M R cells slots) (hz : M.2.2.2.2.2.2.1 = 0 ∧ M.2.2.2.2.2.2.2 = 0)
    (k : V p l e R s m args below meth c g A nL cells slots Q (pc + 3) lv (r :: st) ws) : V p l e R s m args below meth c g A nL cells slots Q pc lv st0 ws :=
  v_callS (wr := ws) C hM ok hn hlk hst h8 d hR (by rw [List.nil_append]) (fun rv w' h => by obtain ⟨rfl, rfl⟩ := h; rw [hz.1, hz.2]; exact k)
theorem v_callSNp {host : String} (C : Cx p s m args meth c g A y cc nL ret) (hM : CtE l g M As [] (some r) []) (ok : MOKs M n) (hn : As.length = n) (hlk : Cond.methodLinkNest y.cls index M.1 host ∈ lw_tbl) (hst : st0 = As.reverse ++ st) (h8 : (st.map fun v => v.category).sum ≤ 8) (d : decode cc pc = .ok (.invokestatic index, 3)) (hR : roomOk M R cells slots) (hz : M.2.2.2.2.2.2.1 = 0 ∧ M.2.2.2.2.2.2.2 = 0)
    (k : V p l e R s m args below meth c g A nL cells slots Q (pc + 3) lv (r :: st) ws) : V p l e R s m args below meth c g A nL cells slots Q pc lv st0 ws :=
  v_callSN (wr := ws) C hM ok hn hlk hst h8 d hR (by rw [List.nil_append]) (fun rv w' h => by obtain ⟨rfl, rfl⟩ := h; rw [hz.1, hz.2]; exact k)
end VC2
end VB2
theorem loop_dn {N : Nat} {Hd : Nat → Prop} (hx : Hd N) (hs : ∀ i, i < N → Hd (i + 1) → Hd i) : Hd 0 := by
  have h : ∀ d i, i + d = N → Hd i := by
    intro d
    induction d with
    | zero => intro i hi; rw [show i = N by omega]; exact hx
    | succ d ih => intro i hi; exact hs i (by omega) (ih (i + 1) (by omega))
  exact h N 0 (by omega)
theorem loop_from {N i0 : Nat} {Hd : Nat → Prop} (h0 : i0 ≤ N) (hx : Hd N) (hs : ∀ i, i < N → i0 ≤ i → Hd (i + 1) → Hd i) : Hd i0 := by
  have h : ∀ d i, i + d = N → i0 ≤ i → Hd i := by
    intro d
    induction d with
    | zero => intro i hi _; rw [show i = N by omega]; exact hx
    | succ d ih => intro i hi h1; exact hs i (by omega) h1 (ih (i + 1) (by omega) (by omega))
  exact h (N - i0) i0 (by omega) (Nat.le_refl _)
/-- a measure that falls -/
theorem loop_ms {α : Type} {Hd : α → Prop} (μ : α → Nat) (hs : ∀ x, (∀ z, μ z < μ x → Hd z) → Hd x) (x : α) : Hd x := by
  have h : ∀ n x, μ x ≤ n → Hd x := by
    intro n
    induction n with
    | zero => intro x hx; exact hs x (fun z hz => by omega)
    | succ n ih => intro x hx; exact hs x (fun z hz => ih z (by omega))
  exact h (μ x) x (Nat.le_refl _)
def iter {α : Type} (f : Nat → α → α) : Nat → α → α
  | 0, x => x
  | n + 1, x => f n (iter f n x)
