/-! lambdas: rows of V -/
set_option maxRecDepth 100000
theorem arr3 {α : Type} {x : Array Nat} {f : Nat → Nat → Nat → Option α} {r : α} (h : Jvm.Lambda.shapeOf?.match_15 (fun _ => Option α) x f (fun _ => none) = some r) : ∃ u : Nat × Nat × Nat, f u.1 u.2.1 u.2.2 = some r := by
  obtain ⟨L⟩ := x
  rcases L with _ | ⟨u1, _ | ⟨u2, _ | ⟨u3, _ | ⟨u4, L⟩⟩⟩⟩
  · exact nomatch (show (none : Option α) = some r from h)
  · exact nomatch (show (none : Option α) = some r from h)
  · exact nomatch (show (none : Option α) = some r from h)
  · exact ⟨(u1, u2, u3), h⟩
  · exact nomatch (show (none : Option α) = some r from h)
theorem shape_site {cf : ClassFile} {index : Nat} {σ : Lambda.Shape} (h : Lambda.shapeOf? cf index = some σ) : ∃ (b nt : Nat) (name desc : String) (sig : MethodDescriptor), cf.constantPool[index]? = some (.invokeDynamic b nt) ∧ cf.constantPool.nameAndType? nt = some (name, desc) ∧ parseMethodDescriptor desc = some sig ∧ sig.parameters = σ.captured := by
  unfold Lambda.shapeOf? at h
  split at h
  · rename_i b nt hc
    obtain ⟨entries, -, h⟩ := Option.bind_eq_some_iff.mp h
    obtain ⟨bm, -, h⟩ := Option.bind_eq_some_iff.mp h
    split at h
    · obtain ⟨-, -, h⟩ := Option.bind_eq_some_iff.mp h
      obtain ⟨u, h⟩ := arr3 h
      split at h
      · split at h
        · split at h
          · obtain ⟨nd, hnt, h⟩ := Option.bind_eq_some_iff.mp h
            obtain ⟨name, desc⟩ := nd
            obtain ⟨site, hsite, h⟩ := Option.bind_eq_some_iff.mp h
            split at h
            · obtain ⟨im, -, h⟩ := Option.bind_eq_some_iff.mp h
              obtain ⟨y1, -, h⟩ := Option.bind_eq_some_iff.mp h
              obtain ⟨y2, -, h⟩ := Option.bind_eq_some_iff.mp h
              obtain ⟨y3, -, h⟩ := Option.bind_eq_some_iff.mp h
              obtain ⟨y4, -, h⟩ := Option.bind_eq_some_iff.mp h
              obtain ⟨y5, -, h⟩ := Option.bind_eq_some_iff.mp h
              cases h
              exact ⟨b, nt, name, desc, site, hc, hnt, hsite, rfl⟩
            · cases h
          · cases h
        · cases h
      · cases h
    · cases h
  · cases h
section LV
variable {p : Program} {l : Launch} {e : Env} {R : Room} {s : State} {m : MethodId} {args : Array Value} {below : List Frame} {meth : Method} {c : Code} {g : GT} {A : Nat → Prop} {nL cells slots : Nat} {Q : State → Prop} {y : MethodName} {cc : ByteArray} {ret : Option FieldType} {pc : Nat} {lv : List (Nat × Value)} {st : List Value} {ws : va_W}
/-- behind a call of five bytes -/
theorem v_back5 (C : Cx p s m args meth c g A y cc nL ret) {M : Md} {av : List Value} {wc wr : va_W} {post : Option Value → va_W → Prop} {st0 : List Value} (hp : ws.Perm (wc ++ wr))
    (hr : ∀ (H : Heap) (locs : List Loc) (ls : Array Slot), va_P g.1 vwCl ws H → va_P g.1 vwCl wc H → va_D (va_A wc H.size) wc → lv_has ls nL lv → (∀ U : State, U.heap = H → s.WarmedH U.vm → wK g (va_A wc H.size) U) → va_Run5 p l e R s m args below meth c H locs cells slots M.2.2.2.2.2.2.1 M.2.2.2.2.2.2.2 (F0 m pc ls st0) st (vQ g (va_A wc H.size) post av.toArray) (va_A wc H.size))
    (k : ∀ (rv : Option Value) (w : va_W), post rv w → V p l e R s m args below meth c g A nL (cells + M.2.2.2.2.2.2.1) (slots + M.2.2.2.2.2.2.2) Q (pc + 5) lv (rv.toList ++ st) (w ++ wr)) : V p l e R s m args below meth c g A nL cells slots Q pc lv st0 ws := by
  intro H locs ls hP hD hS hl
  have hP1 := hP.perm hp
  have hD1 := hD.perm hp
  have hPc : va_P g.1 vwCl wc H := va_P_mem.mpr fun q hq => va_P_mem.mp hP1 q (List.mem_append_left _ hq)
  have hDc : va_D (va_A wc H.size) wc := by
    rw [va_D_iff] at hD1 ⊢
    refine ⟨?_, fun q hq => va_A_mem.mpr (Or.inl ⟨q.2, hq⟩)⟩
    have h := hD1.1
    rw [List.map_append, List.nodup_append] at h
    exact h.1
  have hF : ∀ q, va_A wc H.size q → A q := by
    intro q hq
    rcases va_A_mem.mp hq with ⟨x, hx⟩ | h
    · exact (va_D_iff.mp hD1).2 (q, x) (List.mem_append_left _ hx)
    · exact C.2.2.2.2.2.2.2.2.2 q (Nat.le_trans hS.1 h)
  intro T hT X
  obtain ⟨v, st₀, t, T', L, h0, X', hL, e1, e2, ⟨⟨rv, w, hv, hpo, hPw, hDw⟩, hz, hk⟩, hgo⟩ := hr H locs ls hP hPc hDc hl (fun U hU hW => wK.call C.2.2.2.2.2.2.2.2.1 hS hU hW hF) T hT X
  cases hv
  rw [h0] at hz hk
  rw [← e1] at hz hk hPw
  obtain ⟨hP2, hD2⟩ := va_frame hP1 hD1 hz hk hF hPw hDw
  have hS2 : va_S A s.heap T'.heap (locs ++ L) := ⟨Nat.le_trans hS.1 hz, fun q h1 h2 => by rw [hk q (Nat.lt_of_lt_of_le h1 hS.1) (fun z => h2 (hF q z))]; exact hS.2.1 q h1 h2, fun q hq => by
      rcases List.mem_append.mp hq with h | h
      · exact hS.2.2 q h
      · exact hF _ (hL q h)⟩
  obtain ⟨t2, a1, b1⟩ := k v w hpo T'.heap (locs ++ L) ls hP2 hD2 hS2 hl T' rfl X'
  exact ⟨t2, hgo t2 a1, b1⟩
/-- a call through a lambda -/
theorem v_lam (C : Cx p s m args meth c g A y cc nL ret) (hyc : y.cls = "WheatElevator") {i : Nat} (hi : i < 8) {bytes : ByteArray} {maxL fr lo mc ms : Nat} {wc wr : va_W} {post : Option Value → va_W → Prop} {z b qn index count : Nat}
    (hM : Ct l g (lamN i, bytes, maxL, some .int, fr, lo, mc, ms) [.ref b, .ref qn] wc post) (hint : ∀ rv w, post rv w → ∃ r : Int32, rv = some (.int r)) (hcd : Cond.code (lamN i) bytes maxL (some .int) ∈ lw_all) (hins : Cond.instanceMethod (lamN i) ∈ lw_all) (hse : Cond.selects "WheatElevator" (lamN i) (lamN i) ∈ lw_all) (hini : Cond.initialized "WheatElevator" ∈ lw_all) (hlk : Cond.methodLink "WheatElevator" index deedN ∈ lw_all)
    (h8 : (st.map fun v => v.category).sum ≤ 8) (q0 : Nat) (hz : ws[q0]? = some (lamC g i z b)) (q1 : Nat) {fs : List Value} (he : wc[q1]? = some (b, .inr (0, fs))) (d : decode cc pc = .ok (.invokeinterface index count, 5)) (hfr : fr + 2 ≤ R.frames) (hlo : 8 + 13 + (8 + (maxL + 11) + lo) ≤ R.locals) (hcl : cells + mc ≤ R.cells) (hsl : slots + ms ≤ R.slots) (hp : ws.Perm (wc ++ wr))
    (k : ∀ (rv : Option Value) (w : va_W), post rv w → V p l e R s m args below meth c g A nL (cells + mc) (slots + ms) Q (pc + 5) lv (rv.toList ++ st) (w ++ wr)) : V p l e R s m args below meth c g A nL cells slots Q pc lv (.ref qn :: .ref z :: st) ws := by
  refine v_back5 C (M := (lamN i, bytes, maxL, some .int, fr, lo, mc, ms)) (av := [.ref b, .ref qn]) hp (fun H locs ls hPs hPc hDc hl hK => ?_) k
  refine lam_run C hyc hi (rm := { frames := fr, cells := mc, slots := ms, locals := lo }) (hM H.size) FrameBlind.ct rfl rfl hcd hins hse hini (hPs q0 _ hz) (va_recv C.2.2.2.2.2.2.2.2.1.1 hPc (ci := 0) (q := (RX0, TX0, 9)) rfl he) (fun U hU hW => ⟨rfl, by rw [hU], by rw [hU]; exact hPc, hDc.weaken (fun _ _ _ _ => trivial), hK U hU hW⟩) ?_ rfl hl.1 rfl hlk (lv_room h8) d hfr hlo hcl hsl
  rintro st' v t ⟨⟨rv, w, hv, hpo, -, -⟩, -⟩
  cases hv
  exact hint _ _ hpo
/-- the making of a lambda that holds the elevator -/
theorem v_indy (C : Cx p s m args meth c g A y cc nL ret) (hnm : s.methodNamed? yX0_init = some m) {i : Nat} (hi : i < 8) {b : Nat} (hpc : pc = lmP i) (d : decode cc pc = .ok (.invokedynamic (lmI i), 5)) (h8 : (st.map fun v => v.category).sum ≤ 8) (hlo : 3100 ≤ R.locals) (hcl : cells + 1 ≤ R.cells) (hsl : slots + 1 ≤ R.slots)
    (k : ∀ z : Nat, V p l e R s m args below meth c g A nL (cells + 1) (slots + 1) Q (pc + 5) lv (.ref z :: st) (ws ++ [lamC g i z b])) : V p l e R s m args below meth c g A nL cells slots Q pc lv (.ref b :: st) ws := by
  intro H locs ls hP hD hS hl T hT X
  obtain ⟨⟨hdecl, hface⟩, hlam⟩ := C.2.2.2.2.2.2.2.2.1.2.1.2
  obtain ⟨mD, kD, cfD, i0, p0, hmD, hkD, hcfD, hsh, hfind, hmade, hcan⟩ := hlam i hi
  obtain ⟨kD', hkD', hnameD⟩ := className_of_methodNamed hmD
  cases hkD.symm.trans hkD'
  cases hnm.symm.trans hmD
  obtain ⟨kK, tk, file, methk, ckK, toy, ifc, t, found, f0, hkK, hkn, hfile, hpool, hmk, hckK, hbytes, hml, hlkk, hfl, hretk, htoy, htk, hitf, hlook, hready, hclsR, hfld, hfst, hfsl, htys, hifc, hfo, hsel⟩ := lm_made hi hkD hnameD hmade (Ob0 C (Vm.Alike.refl _))
  obtain ⟨bs, nt, name, desc, sig, e1, e2, e3, e4⟩ := shape_site hsh
  have hsl1 : ((kK.instanceTypes.toList.zip [Value.ref b]).map fun (t, v) => narrow t v) = [.ref b] := by rw [htys]; rfl
  have hlw : e.platform.lambdaLinkWords = 3072 := by rw [X.admits.platform]
  have hr8 := lv_room (m := m) (pc := pc) (ls := ls) (rest := .ref b :: st) h8
  obtain ⟨X₁, st1⟩ := X.lambdaMakes C.1 (g := F0 m pc ls (.ref b :: st)) rfl (hl.1.trans C.2.2.1.symm) (by rw [C.2.1]; exact d) (vals := [.ref b]) (rest := st) hkD (by rw [hpc]; exact hfind) hcfD e1 e2 (parseLong_of_parse e3) (by rw [e4]; rfl) rfl hkK
    (by rw [hlw]; show 2 * (F0 m pc ls (.ref b :: st)).monitorRoom + (1 + (st.map fun v => v.category).sum) + 3072 ≤ R.locals; have : 2 * (F0 m pc ls (.ref b :: st)).monitorRoom + (st.map fun v => v.category).sum ≤ 8 := hr8; omega) hcl (by rw [hsl1]; exact hsl) (fun j v hv => by
      rw [hsl1] at hv
      have hj : j = 0 := by
        rcases j with _ | j
        · rfl
        · simp at hv
      subst hj
      simp at hv
      subst hv
      have hk0 : kK.instanceTypes[0]? = some (.object "WheatElevator") := by rw [← Array.getElem?_toList, htys]; rfl
      have hkind : ∀ z, (match kK.kind with | .array _ type => some type | _ => kK.instanceTypes[0]?) = some z → fits z (.ref b) = true := by
        intro z hz
        obtain ⟨dk', k2, _, _, _, _, _, _, _, _, _, _, _, -, hk2, -, -, -, -, -, -, -, -, -, -, -, hrec, -⟩ := Lambda.isMade_spec hmade
        cases hkK.symm.trans hk2
        rw [hrec.2.1] at hz
        simp only [hk0] at hz
        cases hz; rfl
      simp only [State.fitsSlot, State.slotType?, hkK, Option.bind_eq_bind, Option.bind_some]
      split
      · rename_i z hz; exact hkind z hz
      · rename_i hz
        obtain ⟨dk', k2, _, _, _, _, _, _, _, _, _, _, _, -, hk2, -, -, -, -, -, -, -, -, -, -, -, hrec, -⟩ := Lambda.isMade_spec hmade
        cases hkK.symm.trans hk2
        rw [hrec.2.1] at hz
        simp only [hk0] at hz
        cases hz)
  rw [hsl1] at X₁ st1
  have hcell : ({ cls := g.2 (10 + i), slots := [Value.ref b].toArray, vm := .none } : Cell) = vp_cell (g.2 (10 + i)) (1, .inr (.inr (.inr (.inr (fun _ => some b))))) := rfl
  rw [hcell] at X₁ st1
  have hH1 : (T.pushCell (vp_cell (g.2 (10 + i)) (1, .inr (.inr (.inr (.inr (fun _ => some b))))))).heap = H.push (vp_cell (g.2 (10 + i)) (1, .inr (.inr (.inr (.inr (fun _ => some b)))))) := by rw [← hT]; rfl
  have o1 : ∀ x : Nat, x < H.size → (H.push (vp_cell (g.2 (10 + i)) (1, .inr (.inr (.inr (.inr (fun _ => some b)))))))[x]? = H[x]? := fun x hx => by rw [Array.getElem?_push_lt hx, Array.getElem?_eq_getElem hx]
  have hk : ∀ (k : Nat) (x : Nat × va_E), ws[k]? = some x → (H.push (vp_cell (g.2 (10 + i)) (1, .inr (.inr (.inr (.inr (fun _ => some b)))))))[x.1]? = H[x.1]? := fun k x hx => o1 x.1 ((hP k x hx).lt)
  have hP1 : va_P g.1 vwCl (ws ++ [lamC g i H.size b]) (H.push (vp_cell (g.2 (10 + i)) (1, .inr (.inr (.inr (.inr (fun _ => some b))))))) := (hP.kept hk).app (fun k x hx => by
    have hz : k < 1 := (List.getElem?_eq_some_iff.mp hx).1
    rw [show k = 0 by omega] at hx
    cases hx
    show (H.push _)[H.size]? = some _
    simp)
  obtain ⟨t2, a2, b2⟩ := k H.size _ locs ls hP1 (hD.push hP rfl (C.2.2.2.2.2.2.2.2.2 _ hS.1)) ⟨Nat.le_trans hS.1 (by simp), fun x h1 h2 => (o1 x (Nat.lt_of_lt_of_le h1 hS.1)).trans (hS.2.1 x h1 h2), hS.2.2⟩ hl _ hH1 X₁
  refine ⟨t2, st1 t2 ?_, b2⟩
  rw [hT]
  exact a2
end LV
