/-! copying a State: its numbers; arraycopy -/
set_option maxRecDepth 100000
theorem hdW_congr2 {g : GT} {A : Nat → Nat} {nb nl nc : Nat} {r r' : Nat → Int32} {b b' : Nat → Int64} {X : va_W} (h0 : r 0 = r' 0) (h1 : r 1 = r' 1) (h5 : r 5 = r' 5) (hp : ∀ j, 6 ≤ j → j < 10 → r j = r' j) (hb : ∀ j, j < 6 → b j = b' j) : hdW g A nb nl nc r b X = hdW g A nb nl nc r' b' X := by
  unfold hdW stF
  rw [h0, h1, h5, prF_congr hp, hb 0 (by decide), hb 1 (by decide), hb 2 (by decide), hb 3 (by decide), hb 4 (by decide), hb 5 (by decide)]
def cpP (r ρ : Nat → Int32) : Nat → Int32 := fun j => if 6 ≤ j ∧ j < 10 then r j else ρ j
theorem cpP_pr (r ρ : Nat → Int32) : va_cpy (prF r) (prF ρ) 0 0 4 = prF (cpP r ρ) := by
  funext i
  unfold va_cpy prF cpP
  by_cases q : i < 4
  · rw [if_pos (by omega), if_pos q, if_pos (by omega)]; simp [q]; intro h; omega
  · rw [if_neg (by omega), if_neg q, if_neg q]
section ZN
variable {g : GT} {A : Nat → Nat} {nb nl nc : Nat} {r : Nat → Int32} {b : Nat → Int64} {B : Nat → Nat} {i j k : Nat} {ρ : Nat → Int32} {β : Nat → Int64} {suf : va_W}
theorem tlW_up2 {k0 : Nat} {x : Int32} (hk : k0 < 10) : tlW A nb nl nc r (tlW B i j k (upd ρ k0 x) suf) = tlW A nb nl nc r (tlW B i j k ρ suf) := by rw [tlW_lo hk]
theorem zW_clock (x : Int32) : (zW g A nb nl nc r b B i j k ρ β suf).set 8 (B 0, .inr (1, (stF B ρ β).set 4 (.int x))) = zW g A nb nl nc r b B i j k (upd ρ 0 x) β suf := by
  unfold zW; rw [tlW_up2 (by decide)]; unfold hdW; rw [prF_congr (r := upd ρ 0 x) (r' := ρ) (fun j h1 h2 => pk_un (by omega))]; rfl
theorem zW_limit (x : Int32) : (zW g A nb nl nc r b B i j k ρ β suf).set 8 (B 0, .inr (1, (stF B ρ β).set 5 (.int x))) = zW g A nb nl nc r b B i j k (upd ρ 1 x) β suf := by
  unfold zW; rw [tlW_up2 (by decide)]; unfold hdW; rw [prF_congr (r := upd ρ 1 x) (r' := ρ) (fun j h1 h2 => pk_un (by omega))]; rfl
theorem zW_reason (x : Int32) : (zW g A nb nl nc r b B i j k ρ β suf).set 8 (B 0, .inr (1, (stF B ρ β).set 6 (.int x))) = zW g A nb nl nc r b B i j k (upd ρ 5 x) β suf := by
  unfold zW; rw [tlW_up2 (by decide)]; unfold hdW; rw [prF_congr (r := upd ρ 5 x) (r' := ρ) (fun j h1 h2 => pk_un (by omega))]; rfl
theorem zW_b0 {z : Int32} (x : Int64) (h : z = x.toInt32) : (zW g A nb nl nc r b B i j k ρ β suf).set 8 (B 0, .inr (1, (stF B ρ β).set 7 (.int z))) = zW g A nb nl nc r b B i j k ρ (vp_updL β 0 x) suf := by subst h; rfl
theorem zW_b1 {z : Int32} (x : Int64) (h : z = x.toInt32) : (zW g A nb nl nc r b B i j k ρ β suf).set 8 (B 0, .inr (1, (stF B ρ β).set 8 (.int z))) = zW g A nb nl nc r b B i j k ρ (vp_updL β 1 x) suf := by subst h; rfl
theorem zW_b2 {z : Int32} (x : Int64) (h : z = x.toInt32) : (zW g A nb nl nc r b B i j k ρ β suf).set 8 (B 0, .inr (1, (stF B ρ β).set 9 (.int z))) = zW g A nb nl nc r b B i j k ρ (vp_updL β 2 x) suf := by subst h; rfl
theorem zW_b3 (x : Int64) : (zW g A nb nl nc r b B i j k ρ β suf).set 8 (B 0, .inr (1, (stF B ρ β).set 10 (.long x))) = zW g A nb nl nc r b B i j k ρ (vp_updL β 3 x) suf := rfl
theorem zW_b4 (x : Int64) : (zW g A nb nl nc r b B i j k ρ β suf).set 8 (B 0, .inr (1, (stF B ρ β).set 11 (.long x))) = zW g A nb nl nc r b B i j k ρ (vp_updL β 4 x) suf := rfl
theorem zW_b5 (x : Int64) : (zW g A nb nl nc r b B i j k ρ β suf).set 8 (B 0, .inr (1, (stF B ρ β).set 12 (.long x))) = zW g A nb nl nc r b B i j k ρ (vp_updL β 5 x) suf := rfl
theorem zW_prices : (zW g A nb nl nc r b B i j k ρ β suf).set 15 (B 7, .inl (g.2 0, 4, .inl (va_cpy (prF r) (prF ρ) 0 0 4))) = zW g A nb nl nc r b B i j k (cpP r ρ) β suf := by
  rw [cpP_pr]
  unfold zW
  rw [tlW_congr (A := B) (r := cpP r ρ) (r' := ρ) (fun i _ j _ => if_neg (by omega)) (fun i _ j _ => if_neg (by omega)) (fun i _ j _ => if_neg (by omega))]
  unfold hdW stF
  rw [show cpP r ρ 0 = ρ 0 from if_neg (by omega), show cpP r ρ 1 = ρ 1 from if_neg (by omega), show cpP r ρ 5 = ρ 5 from if_neg (by omega)]
  rfl
end ZN
section VCPY
variable {p : Program} {l : Launch} {e : Env} {R : Room} {s : State} {m : MethodId} {args : Array Value} {below : List Frame} {meth : Method} {c : Code} {g : GT} {A : Nat → Prop} {nL cells slots : Nat} {Q : State → Prop} {y : MethodName} {cc : ByteArray} {ret : Option FieldType} {pc : Nat} {lv : List (Nat × Value)} {st : List Value} {ws : va_W}
theorem v_copyI (C : Cx p s m args meth c g A y cc nL ret) {index a0 a1 n0 n1 : Nat} {f h : Nat → Int32} {sp dp n : Int32} (hlk : Cond.methodLink y.cls index arraycopyName ∈ lw_all) (hnat : Cond.native arraycopyName ∈ lw_all) (hst : Cond.static arraycopyName ∈ lw_all) (hini : Cond.initialized "java/lang/System" ∈ lw_all) (q0 q1 : Nat) (ha0 : ws[q0]? = some (a0, .inl (g.2 0, n0, .inl f))) (ha1 : ws[q1]? = some (a1, .inl (g.2 0, n1, .inl h)))
    (h1 : ¬ sp < 0) (h2 : ¬ dp < 0) (h3 : ¬ n < 0) (h4 : sp.toNatClampNeg + n.toNatClampNeg ≤ n0) (h5 : dp.toNatClampNeg + n.toNatClampNeg ≤ n1) (hf : 1 ≤ R.frames) (hlo : (st.map fun v => v.category).sum + (nativeFrameWords "java/lang/System" "arraycopy" 5 + 11) ≤ R.locals) (d : decode cc pc = .ok (.invokestatic index, 3)) {ws' : va_W} (hs : ws.set q1 (a1, .inl (g.2 0, n1, .inl (va_cpy f h sp.toNatClampNeg dp.toNatClampNeg n.toNatClampNeg))) = ws')
    (k : V p l e R s m args below meth c g A nL cells slots Q (pc + 3) lv st ws') : V p l e R s m args below meth c g A nL cells slots Q pc lv (.int n :: .int dp :: .ref a1 :: .int sp :: .ref a0 :: st) ws := fun H locs ls hP hD hS hl =>
  va_copyi C.1 C.2.1 (C.2.2.1.trans hl.1.symm) C.2.2.2.1 (C.2.2.2.2.1 _ hlk) (C.2.2.2.2.1 _ hnat) (C.2.2.2.2.1 _ hst) (C.2.2.2.2.1 _ hini) C.2.2.2.2.2.2.2.2.1.1 hP hD hS q0 q1 0 0 ha0 ha1 rfl rfl rfl h1 h2 h3 h4 h5 (fun _ _ => rfl) hf hlo d (fun H1 locs1 hP1 hD1 hS1 => k H1 locs1 ls (hs ▸ hP1) (hs ▸ hD1) hS1 hl)
end VCPY
