/-! rows for calls up the class tree (StringBuilder); static fields -/
set_option maxRecDepth 100000
theorem sel_priv {y : MethodName} {C : String} {s : State} {args : Array Value} {c0 : ClassId} (hy : y.cls ≠ "java/lang/invoke/MethodHandle" ∧ y.cls ≠ "java/lang/invoke/VarHandle")
    (hc : s.vm.findClass C = some c0) (hsame : (Cond.sameMethod y.cls y.cls y.name y.desc).before args s = true) (hpriv : (Cond.privateMethod y).before args s = true) (hinst : (Cond.instanceMethod y).before args s = true) :
    (Cond.selects C y y).before args s = true := by
  obtain ⟨c, k, r, hc1, hk, hi, -, -⟩ := Cond.sameMethod_found hsame
  obtain ⟨mk, methM, hnamed, hmethM, -, -⟩ := Cond.instanceMethod_spec hinst
  have hfound : s.methodFound? y.cls y.name y.desc = some mk := State.methodFound?_of_named hnamed hy
  have hcls : mk.cls = c := Option.some.inj ((findClass_of_methodNamed hnamed).symm.trans hc1)
  have hsel : selectMethod {} s.vm c0 mk = .method mk := selectMethod_private hmethM (Cond.privateMethod_at hpriv mk methM hnamed hmethM)
  simp only [Cond.before, Cond.holds, Cond.value, hc, hfound, hnamed, hsel, hcls, hk]
  simp; exact hi
def MOKk (M : Md) (n : Nat) : Prop := Cond.instanceMethod M.1 ∈ lw_all ∧ Cond.initialized M.1.cls ∈ lw_all ∧ Cond.code M.1 M.2.1 M.2.2.1 M.2.2.2.1 ∈ lw_all ∧ MOKd M n
section VK
variable {p : Program} {l : Launch} {e : Env} {R : Room} {s : State} {m : MethodId} {args : Array Value} {below : List Frame} {meth : Method} {c : Code} {g : GT} {A : Nat → Prop} {nL cells slots : Nat} {Q : State → Prop} {y : MethodName} {cc : ByteArray} {ret : Option FieldType} {pc : Nat} {lv : List (Nat × Value)} {st : List Value} {ws : va_W}
variable {M : Md} {wc wr : va_W} {post : Option Value → va_W → Prop} {As st0 : List Value} {index b n : Nat}
/-- a call through an object whose class K inherits the method -/
theorem v_callK (C : Cx p s m args meth c g A y cc nL ret) (hM : Ct l g M (.ref b :: As) wc post) (ok : MOKk M n) (hn : As.length = n) (hlk : Cond.methodLink y.cls index M.1 ∈ lw_all) (hst : st0 = As.reverse ++ .ref b :: st) (h8 : (st.map fun v => v.category).sum ≤ 8) {ci : Nat} {r : vw_C} {fs : List Value} (hsel : (Cond.selects r.1 M.1 M.1).before args s = true) (q0 : Nat) (he : wc[q0]? = some (b, .inr (ci, fs))) (hc : vwCl[ci]? = some r) (d : decode cc pc = .ok (.invokevirtual index, 3)) (hR : roomOk M R cells slots) (hp : ws.Perm (wc ++ wr))
    (k : ∀ (rv : Option Value) (w : va_W), post rv w → V p l e R s m args below meth c g A nL (cells + M.2.2.2.2.2.2.1) (slots + M.2.2.2.2.2.2.2) Q (pc + 3) lv (rv.toList ++ st) (w ++ wr)) : V p l e R s m args below meth c g A nL cells slots Q pc lv st0 ws := by
  refine v_back C (M := M) (av := .ref b :: As) hp (fun H locs ls hPc hDc hl hK => ?_) k
  have hts := C.2.2.2.2.1
  exact va_runV (As := As) (rest := st) (C := r.1) ⟨C.1, C.2.1, C.2.2.1, C.2.2.2.1, hts⟩ (hM H.size) ⟨callB_of n hts (lw_meth ok.2.2.1) rfl rfl rfl (hts _ ok.2.1) (hts _ hlk) ok.2.2.2 hR.1, hts _ ok.1, hsel⟩ ⟨FrameBlind.ct, va_recv C.2.2.2.2.2.2.2.2.1.1 hPc hc he, fun U hU hW => ⟨rfl, by rw [hU], by rw [hU]; exact hPc, hDc.weaken (fun _ _ _ _ => trivial), hK U hU hW⟩⟩ rfl hn hl.1 hst (lv_room h8) d hR.2
/-- a super call -/
theorem v_callU (C : Cx p s m args meth c g A y cc nL ret) (hM : Ct l g M (.ref b :: As) wc post) (ok : MOKk M n) (hne : M.1.name ≠ "<init>") (hn : As.length = n) (hlk : Cond.methodLink y.cls index M.1 ∈ lw_all) (hsm : Cond.sameMethod M.1.cls M.1.cls M.1.name M.1.desc ∈ lw_all) (hsup : Cond.superclass y.cls M.1.cls ∈ lw_all) (hst : st0 = As.reverse ++ .ref b :: st) (h8 : (st.map fun v => v.category).sum ≤ 8) {ci : Nat} {r : vw_C} {fs : List Value} (q0 : Nat) (he : wc[q0]? = some (b, .inr (ci, fs))) (hc : vwCl[ci]? = some r) (d : decode cc pc = .ok (.invokespecial index, 3)) (hR : roomOk M R cells slots) (hp : ws.Perm (wc ++ wr))
    (k : ∀ (rv : Option Value) (w : va_W), post rv w → V p l e R s m args below meth c g A nL (cells + M.2.2.2.2.2.2.1) (slots + M.2.2.2.2.2.2.2) Q (pc + 3) lv (rv.toList ++ st) (w ++ wr)) : V p l e R s m args below meth c g A nL cells slots Q pc lv st0 ws := by
  refine v_back C (M := M) (av := .ref b :: As) hp (fun H locs ls hPc hDc hl hK => ?_) k
  have hts := C.2.2.2.2.1
  have hG : GoodIn lw_all (va_wsSU y.cls index M.1 (ws_ M.1 M.2.1 M.2.2.1 M.2.2.2.1)) := by
    refine lw_app ?_ (lw_meth ok.2.2.1)
    intro w hw
    simp only [List.mem_cons, List.not_mem_nil, or_false] at hw
    rcases hw with e | e | e | e | e
    · rw [e]; exact hlk
    · rw [e]; exact hsm
    · rw [e]; exact hsup
    · rw [e]; exact ok.1
    · rw [e]; exact ok.2.1
  exact va_runSU (As := As) (rest := st) (C := r.1) ((C.2.2.2.2.2.2.2.2.1.1).1 ci r hc).2 ⟨C.1, C.2.1, C.2.2.1, C.2.2.2.1, hts⟩ (hM H.size) (va_cwSU n hts hG rfl rfl rfl ⟨hne, ok.2.2.2.2.2⟩ hR.1) ⟨FrameBlind.ct, va_recv C.2.2.2.2.2.2.2.2.1.1 hPc hc he, fun U hU hW => ⟨rfl, by rw [hU], by rw [hU]; exact hPc, hDc.weaken (fun _ _ _ _ => trivial), hK U hU hW⟩⟩ rfl hn hl.1 hst (lv_room h8) d hR.2
/-- COMPACT_STRINGS -/
theorem v_getC (C : Cx p s m args meth c g A y cc nL ret) {ref : String} (hq : Cond.fieldLink y.cls index ref "COMPACT_STRINGS" "Z" ∈ lw_all) (hsame : ∀ x, s.fieldFound? "java/lang/String" "COMPACT_STRINGS" "Z" = some x → s.fieldFound? ref "COMPACT_STRINGS" "Z" = some x) (d : decode cc pc = .ok (.getstatic index, 3)) (k : V p l e R s m args below meth c g A nL cells slots Q (pc + 3) lv (.int 1 :: st) ws) : V p l e R s m args below meth c g A nL cells slots Q pc lv st ws := fun H locs ls hP hD hS hl =>
  va_gets C.1 C.2.1 C.2.2.2.2.2.2.2.2.1.2.2.1 hS C.2.2.2.1 (C.2.2.2.2.1 _ hq) hsame d (k H locs ls hP hD hS hl)
theorem v_getS (C : Cx p s m args meth c g A y cc nL ret) {ref : String} (hq : Cond.fieldLink y.cls index ref "SIOOBE_FORMATTER" "Ljava/util/function/BiFunction;" ∈ lw_all) (hsame : ∀ x, s.fieldFound? "jdk/internal/util/Preconditions" "SIOOBE_FORMATTER" "Ljava/util/function/BiFunction;" = some x → s.fieldFound? ref "SIOOBE_FORMATTER" "Ljava/util/function/BiFunction;" = some x) (d : decode cc pc = .ok (.getstatic index, 3)) (k0 : V p l e R s m args below meth c g A nL cells slots Q (pc + 3) lv (.null :: st) ws) (k1 : ∀ t : Nat, V p l e R s m args below meth c g A nL cells slots Q (pc + 3) lv (.ref t :: st) ws) : V p l e R s m args below meth c g A nL cells slots Q pc lv st ws := fun H locs ls hP hD hS hl => by
  rcases C.2.2.2.2.2.2.2.2.1.2.2.2 with hz | ⟨t, hz⟩
  · exact va_gets C.1 C.2.1 hz hS C.2.2.2.1 (C.2.2.2.2.1 _ hq) hsame d (k0 H locs ls hP hD hS hl)
  · exact va_gets C.1 C.2.1 hz hS C.2.2.2.1 (C.2.2.2.2.1 _ hq) hsame d (k1 t H locs ls hP hD hS hl)
end VK
