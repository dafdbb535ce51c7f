/-! lambdas: what a made class is, the call through one, the making of one -/
set_option maxRecDepth 100000
def lamCode : ByteArray := ⟨#[0x2a, 0xb4, 0x00, 0x0f, 0x2b, 0xb6, 0x00, 0x16, 0xac]⟩
theorem lc0 : decode lamCode 0 = .ok (.aload_n 0, 1) := by decide +kernel
theorem lc1 : decode lamCode 1 = .ok (.getfield 15, 3) := by decide +kernel
theorem lc4 : decode lamCode 4 = .ok (.aload_n 1, 1) := by decide +kernel
theorem lc5 : decode lamCode 5 = .ok (.invokevirtual 22, 3) := by decide +kernel
theorem lc8 : decode lamCode 8 = .ok (.ireturn, 1) := by decide +kernel
def lmD (i : Nat) : ClassFile := ((lmS i).file "WheatElevator").getD { minorVersion := 0, majorVersion := 0, constantPool := #[], accessFlags := 0, thisClass := 0, superClass := 0, interfaces := #[], fields := #[], methods := #[], attributes := #[] }
def lmF (i : Nat) : Method := ((layoutMethods (lmD i)).bind (·[1]?)).getD default
def lmL (i : Nat) : Array Field × Array FieldType × Array FieldType := (layoutFields (lmD i) 0).getD (#[], #[], #[])
theorem lm_file1 : ∀ i, i < 8 → ((lmS i).file "WheatElevator").isSome = true := by decide +kernel
theorem lm_file {i : Nat} (hi : i < 8) : (lmS i).file "WheatElevator" = some (lmD i) := by
  obtain ⟨x, hx⟩ := Option.isSome_iff_exists.mp (lm_file1 i hi)
  simp [lmD, hx]
theorem lm_sec1 : ∀ i, i < 8 → ((layoutMethods (lmD i)).bind (·[1]?)).isSome = true := by decide +kernel
theorem lm_sec {i : Nat} (hi : i < 8) : ∀ ms, layoutMethods (lmD i) = some ms → ms[1]? = some (lmF i) := by
  intro ms hms
  obtain ⟨x, hx⟩ := Option.isSome_iff_exists.mp (lm_sec1 i hi)
  have hf : lmF i = x := by simp [lmF, hx]
  rw [hms] at hx
  rw [hf]
  exact hx
theorem lm_laid1 : ∀ i, i < 8 → (layoutFields (lmD i) 0).isSome = true := by decide +kernel
theorem lm_laid {i : Nat} (hi : i < 8) : layoutFields (lmD i) 0 = some (lmL i) := by
  obtain ⟨x, hx⟩ := Option.isSome_iff_exists.mp (lm_laid1 i hi)
  simp [lmL, hx]
theorem lm_code : ∀ i, i < 8 → ((lmF i).code.map fun c => (c.code.data, c.maxLocals)) = some (lamCode.data, 2) := by decide +kernel
theorem lm_flags : ∀ i, i < 8 → ((lmF i).accessFlags, (lmF i).name, (lmF i).sig.returnType) = (0x0001, "of", some FieldType.int) := by decide +kernel
theorem lm_eM : ∀ i, i < 8 → (lmD i).constantPool[22]? = some (.methodref 19 21) ∧ (lmD i).constantPool.className? 19 = some "WheatElevator" ∧ (lmD i).constantPool.nameAndType? 21 = some (lmN i, "([I)I") := by decide +kernel
theorem lm_eC : ∀ i, i < 8 → (lmD i).constantPool[19]? = some (.class_ 18) ∧ (lmD i).constantPool.string? 18 = some "WheatElevator" ∧ 19 ≠ (lmD i).thisClass := by decide +kernel
theorem lm_eF : ∀ i, i < 8 → (lmD i).constantPool[15]? = some (.fieldref 2 14) ∧ (lmD i).constantPool.nameAndType? 14 = some ("arg$1", "LWheatElevator;") ∧ (lmL i).1.findIdx? (·.name == "arg$1") = some 0 ∧ ((lmL i).1[0]?).map (fun f => (f.isStatic, f.slot)) = some (false, 0) ∧ (lmL i).2.1.toList = [.object "WheatElevator"] := by decide +kernel
theorem lm_sam : ∀ i, i < 8 → (lmS i).sam.toString = "([I)I" ∧ (lmS i).implDesc.toString = "([I)I" := by decide +kernel
abbrev eL : Setting := { classPath := fun _ => none }
theorem lm_made {i : Nat} (hi : i < 8) {vm : Vm} {d c : ClassId} {dk : Class} (hd : vm.classes[d]? = some dk) (hname : dk.name = "WheatElevator") (h : Lambda.isMade eL vm d (lmS i) c = true)
    (hO : ∀ o ok, vm.findClass "java/lang/Object" = some o → vm.classes[o]? = some ok → ok.instanceTypes.size = 0) :
    ∃ (k tk : Class) (file : ClassFile) (methk : Method) (ck : Code) (toy iface : ClassId) (t found : MethodId) (f0 : Field),
      vm.classes[c]? = some k ∧ k.name = "WheatElevator$$Lambda" ∧ k.cf = some file ∧ file.constantPool = (lmD i).constantPool ∧
      vm.method? ⟨c, 1⟩ = some methk ∧ methk.code = some ck ∧ ck.code = lamCode ∧ ck.maxLocals = 2 ∧ methk.locks = false ∧ methk.accessFlags = 0x0001 ∧ methk.sig.returnType = some .int ∧
      vm.findClass "WheatElevator" = some toy ∧ vm.classes[toy]? = some tk ∧ tk.isInterface = false ∧ ((methodIn toy (lmN i) "([I)I" tk.isInterface none).ask eL vm).1 = .ok t ∧
      vm.methodReady c 22 t ∧ vm.classReady c 19 toy ∧ vm.fieldReady c 15 c f0 ∧ f0.isStatic = false ∧ f0.slot = 0 ∧ k.instanceTypes.toList = [.object "WheatElevator"] ∧
      vm.findClass "WheatElevator$Deed" = some iface ∧ ((methodIn iface "of" "([I)I" true none).ask eL vm).1 = .ok found ∧ selectMethod {} vm c found = .method ⟨c, 1⟩ := by
  obtain ⟨dk', k, ok, tk, file, cf, object, iface, toy, lay, methods, target, found, hd', hk, hfile, hcf, hobj, hifc, hok, hlay, hms, ht, htk, hg, hfo, hrec, -, -, -, hitf, hpool, hmeth, hfields, htys, hres, hsel⟩ := Lambda.isMade_spec h
  cases hd.symm.trans hd'
  rw [hname, lm_file hi] at hcf
  cases hcf
  rw [hO object ok hobj hok, lm_laid hi] at hlay
  cases hlay
  have hok0 : ok.instanceTypes = #[] := Array.eq_empty_of_size_eq_zero (hO object ok hobj hok)
  obtain ⟨b, hb, hsame⟩ := hmeth 1 (lmF i) (lm_sec hi methods hms)
  simp only [Lambda.sameMethod, Bool.and_eq_true, decide_eq_true_eq] at hsame
  obtain ⟨⟨hn, -, hsig, hfl⟩, hcode⟩ := hsame
  have fc := lm_code i hi
  have ff := lm_flags i hi
  simp only [Prod.mk.injEq] at ff
  obtain ⟨eF1, eF2, eF3, eF4, eF5⟩ := lm_eF i hi
  obtain ⟨g0, hg0, hp0⟩ := Option.map_eq_some_iff.mp eF4
  simp only [Prod.mk.injEq] at hp0
  obtain ⟨eM1, eM2, eM3⟩ := lm_eM i hi
  obtain ⟨eC1, eC2, eC3⟩ := lm_eC i hi
  obtain ⟨es1, es2⟩ := lm_sam i hi
  rw [es1] at hfo
  rw [es2] at hg
  cases hfc : (lmF i).code with
  | none => rw [hfc] at fc; cases fc
  | some x =>
    cases hbc : b.code with
    | none => simp [hfc, hbc] at hcode
    | some y =>
      simp only [hfc, hbc, Bool.and_eq_true, decide_eq_true_eq] at hcode
      simp only [hfc, Option.map_some, Option.some.injEq, Prod.mk.injEq] at fc
      refine ⟨k, tk, file, b, y, toy, iface, target, found, g0, hk, by rw [hrec.1, hname]; rfl, hfile, hpool.2.1, by simp [Vm.method?, hk, hb], hbc, ?_, by rw [← hcode.1.1.1.1.2.1]; exact fc.2, ?_, by rw [← hfl]; exact ff.1, by rw [← hsig]; exact ff.2.2, ht, htk, hitf, hg,
        ⟨k, hk, hres 22 _ (Lambda.resolvedOf_method eM1 eM2 ht htk eM3 hg)⟩, ⟨k, hk, hres 19 _ (Lambda.resolvedOf_class eC1 eC3 eC2 ht)⟩,
        ⟨k, 0, k, hk, hres 15 _ (Lambda.resolvedOf_field eF1 eF2 eF3), hk, hfields 0 _ hg0⟩, hp0.1, hp0.2, ?_, hifc, hfo, hsel⟩
      · rw [← hcode.1.1.1.1.2.2]
        exact ByteArray.ext fc.1
      · simp [Method.locks, Method.isSynchronized, ← hfl, ff.1, hasFlag, Acc.synchronized]
      · rw [htys.1, hok0]; simpa using eF5
/-- a lambda's cell -/
abbrev lamC (g : GT) (i z b : Nat) : Nat × va_E := (z, .inl (g.2 (10 + i), 1, .inr (.inr (.inr (.inr (fun _ => some b))))))
abbrev lamN (i : Nat) : MethodName := ⟨"WheatElevator", lmN i, "([I)I"⟩
section LR
variable {p : Program} {l : Launch} {e : Env} {R : Room} {s : State} {m : MethodId} {args : Array Value} {below : List Frame} {meth : Method} {c : Code} {g : GT} {A : Nat → Prop} {nL cells slots : Nat} {Q : State → Prop} {y : MethodName} {cc : ByteArray} {ret : Option FieldType} {pc : Nat} {lv : List (Nat × Value)} {st : List Value} {ws : va_W}
theorem Ob0 (C : Cx p s m args meth c g A y cc nL ret) {vm : Vm} (hA : s.vm.Alike vm) : ∀ o ok, vm.findClass "java/lang/Object" = some o → vm.classes[o]? = some ok → ok.instanceTypes.size = 0 := by
  intro o ok h1 h2
  obtain ⟨c1, k1, g1, g2, -, -, -, g3⟩ := Cond.instantiable_spec (C.2.2.2.2.1 _ q1595)
  rw [hA.findClass, g1] at h1
  cases h1
  obtain ⟨k2, h3, he⟩ := hA.2.2 _ _ g2
  cases h2.symm.trans h3
  rw [he]; exact g3
set_option maxHeartbeats 4000000 in
theorem lam_run (C : Cx p s m args meth c g A y cc nL ret) (hyc : y.cls = "WheatElevator") {i : Nat} (hi : i < 8) {rm : Room} {Pc : Array Value → State → Prop} {Qc : Array Value → State → Outcome → State → Prop} {mc ms maxL : Nat} {bytes : ByteArray} {free : Addr → Prop}
    (hM : Met l (lamN i) (ws_ (lamN i) bytes maxL (some .int)) rm Pc Qc mc ms free) (hbl : FrameBlind Pc) (hrc : rm.cells = mc) (hrs : rm.slots = ms) (hcd : Cond.code (lamN i) bytes maxL (some .int) ∈ lw_all) (hins : Cond.instanceMethod (lamN i) ∈ lw_all) (hse : Cond.selects "WheatElevator" (lamN i) (lamN i) ∈ lw_all) (hini : Cond.initialized "WheatElevator" ∈ lw_all)
    {H : Heap} {locs : List Loc} {z b qn : Nat} (hz : H[z]? = some (arrV (g.2 (10 + i)) 1 (fun _ => .ref b))) (hb : ∃ cell : Cell, H[b]? = some cell ∧ cell.vm.isStatics = false ∧ s.vm.findClass "WheatElevator" = some cell.cls)
    (hPc : ∀ U : State, U.heap = H → s.WarmedH U.vm → Pc #[.ref b, .ref qn] U) (hint : ∀ st v t, Qc #[.ref b, .ref qn] st (.returned v) t → ∃ r : Int32, v = some (.int r))
    {f : JFrame} {rest : List Value} {index count : Nat} (hg : f.method = m) (hsize : f.locals.size = nL) (hstack : f.stack = [.ref qn, .ref z] ++ rest) (hlk : Cond.methodLink "WheatElevator" index deedN ∈ lw_all) (h8 : 2 * f.monitorRoom + (rest.map fun v => v.category).sum ≤ 8) (hdg : decode cc f.pc = .ok (.invokeinterface index count, 5))
    (hfr : rm.frames + 2 ≤ R.frames) (hlo : 8 + 13 + (8 + (maxL + 11) + rm.locals) ≤ R.locals) (hcl : cells + mc ≤ R.cells) (hsl : slots + ms ≤ R.slots) :
    va_Run5 p l e R s m args below meth c H locs cells slots mc ms f rest (Qc #[.ref b, .ref qn]) free := by
  intro T hT X
  have hexec := C.1
  have hts := C.2.2.2.2.1
  have hown : s.vm.findClass "WheatElevator" = some m.cls := by rw [← hyc]; exact C.2.2.2.1
  obtain ⟨⟨hdecl, hface⟩, hlam⟩ := C.2.2.2.2.2.2.2.2.1.2.1.2
  obtain ⟨mD, kD, cfD, i0, p0, hmD, hkD, hcfD, hsh, hfind, hmade, hcan⟩ := hlam i hi
  obtain ⟨kD', hkD', hnameD⟩ := className_of_methodNamed hmD
  cases hkD.symm.trans hkD'
  obtain ⟨kK, tk, file, methk, ckK, toy, ifc, t, found, f0, hkK, hkn, hfile, hpool, hmk, hckK, hbytes, hml, hlkk, hfl, hretk, htoy, htk, hitf, hlook, hready, hclsR, hfld, hfst, hfsl, htys, hifc, hfo, hsel⟩ := lm_made hi hkD hnameD hmade (Ob0 C (Vm.Alike.refl _))
  obtain ⟨r0, r, hn, hrm, hstR, hsigR⟩ := Cond.declares_spec hdecl
  obtain ⟨cL, kL, r1, hcL, hkL, hiL, hfoundL, hn1⟩ := Cond.interfaceMethod_spec hface
  cases hn.symm.trans hn1
  have hr0cls : r0.cls = cL := Option.some.inj ((findClass_of_methodNamed hn).symm.trans hcL)
  obtain ⟨hnameR, hdescR⟩ := name_of_methodNamed hn hrm
  cases hcL.symm.trans hifc
  have hfr0 : found = r0 := by
    have h1 : s.methodFound? "WheatElevator$Deed" "of" "([I)I" = some r0 := hfoundL
    simp only [State.methodFound?, hcL, hkL, hiL, Option.bind_eq_bind, Option.bind_some] at h1
    rw [hfo] at h1
    exact Option.some.inj h1
  subst hfr0
  obtain ⟨i2, hi2, hasg, hway⟩ := State.lambdaCallable_spec hcan
  cases hcL.symm.trans hi2
  have hsigI : r.sig = ⟨[.array .int], some .int⟩ := (Option.some.inj ((by decide +kernel : parseMethodDescriptor "([I)I" = some ⟨[.array .int], some .int⟩).symm.trans hsigR)).symm
  obtain ⟨vm₁, X₁, hstep₁⟩ := X.invokeinterface hexec hown (hts _ hlk) hn hrm hstR (ki := kL) (by rw [hr0cls]; exact hkL) hiL (by decide) (a := z) (cell := arrV (g.2 (10 + i)) 1 (fun _ => .ref b)) (kcell := kK) (by rw [hT]; exact hz) (fun _ h => by cases h) hkK (by rw [hr0cls]; exact hasg)
    (m' := ⟨g.2 (10 + i), 1⟩) (meth' := methk) (by rw [Launch.admits_selectMethod X.admits]; exact hsel) hmk (by rw [hnameR, hdescR]; rw [(lm_sam i hi).1] at hway; exact hway) (by rw [hfl]; decide) (by simp [Method.isAbstract, hfl, hasFlag, Acc.abstract])
    (g := f) hg (argsL := [.ref qn]) (rest := rest) (by rw [hsigI]; rfl) hstack (by rw [C.2.1]; exact hdg)
  have hW₁ : s.WarmedH vm₁ := X₁.warmed
  obtain ⟨kD₁, hkD₁, heD₁⟩ := hW₁.alike.2.2 _ _ hkD
  have hnameD₁ : kD₁.name = "WheatElevator" := by rw [heD₁]; exact hnameD
  obtain ⟨kK₁, tk₁, file₁, methk₁, ckK₁, toy₁, ifc₁, t₁, found₁, f1, hkK₁, hkn₁, hfile₁, hpool₁, hmk₁, hckK₁, hbytes₁, hml₁, hlk₁, hfl₁, hretk₁, htoy₁, htk₁, hitf₁, hlook₁, hready₁, hclsR₁, hfld₁, hfst₁, hfsl₁, -, -, -, -⟩ := lm_made hi hkD₁ hnameD₁ (Lambda.isMade_warmer hW₁ hmade) (Ob0 C hW₁.alike)
  -- the lambda's own method
  obtain ⟨mT, methT, hmT, hmethT, hstT, habT⟩ := Cond.instanceMethod_spec (hts _ hins)
  obtain ⟨methT', cT, hmethT', hcT, hbytesT, hlocT, hretT, hlocksT, -, hsigT⟩ := Cond.code_spec hmT (hts _ hcd)
  cases hmethT.symm.trans hmethT'
  have hsigTI : methT.sig = ⟨[.array .int], some .int⟩ := (Option.some.inj ((by decide +kernel : parseMethodDescriptor "([I)I" = some ⟨[.array .int], some .int⟩).symm.trans hsigT)).symm
  have hfT : s.vm.findClass "WheatElevator" = some mT.cls := findClass_of_methodNamed hmT
  have hfT₁ : vm₁.findClass "WheatElevator" = some mT.cls := by rw [hW₁.alike.findClass]; exact hfT
  cases htoy₁.symm.trans hfT₁
  have ht₁ : t₁ = mT := by
    have h1 : (s.setVm vm₁).methodFound? "WheatElevator" (lmN i) "([I)I" = some mT := by rw [State.methodFound?_setVm hW₁.alike]; exact State.methodFound?_of_named hmT ⟨show "WheatElevator" ≠ _ by decide, show "WheatElevator" ≠ _ by decide⟩
    simp only [State.methodFound?, State.vm_setVm, hfT₁, htk₁, Option.bind_eq_bind, Option.bind_some] at h1
    rw [hlook₁] at h1
    exact Option.some.inj h1
  subst ht₁
  have hmethT₁ : vm₁.method? t₁ = some methT := by rw [hW₁.alike.method?]; exact hmethT
  obtain ⟨cellB, hcB, hoB, hclB⟩ := hb
  obtain ⟨c2, r2, m2, e1, e2, e3, e4, -⟩ := Cond.selects_spec (hts _ hse)
  cases hclB.symm.trans e1
  cases (State.methodFound?_of_named hmT ⟨show "WheatElevator" ≠ _ by decide, show "WheatElevator" ≠ _ by decide⟩).symm.trans e2
  cases hmT.symm.trans e3
  have hselB : selectMethod e.platform vm₁ cellB.cls t₁ = .method t₁ := by rw [Launch.admits_selectMethod X.admits, hW₁.alike.selectMethod]; exact e4
  have hpk : (T.setVm vm₁).plainMethod ⟨g.2 (10 + i), 1⟩ := State.plainMethod.of_name (fun k' hk' => by cases hkK₁.symm.trans hk'; rw [hkn₁]; decide)
  obtain ⟨Y₀, hin⟩ := X₁.into (g := { f with stack := rest }) hg (hsize.trans C.2.2.1.symm) (by rw [C.2.1]; exact hdg) #[.ref z, .ref qn] (R' := { frames := rm.frames + 1, cells := mc, slots := ms, locals := 8 + (maxL + 11) + rm.locals }) hmk₁ hckK₁ hlk₁ hpk
    (by show rm.frames + 1 + 1 ≤ R.frames; omega) (by rw [hml₁]; show 2 * f.monitorRoom + (rest.map fun v => v.category).sum + (2 + 11) + (8 + (maxL + 11) + rm.locals) ≤ R.locals; omega) hcl hsl
  have hcalls : ((T.setVm vm₁).calling { f with stack := rest } ⟨g.2 (10 + i), 1⟩ #[.ref z, .ref qn]).vm = vm₁ := rfl
  have hWs : ∀ U : State, ((T.setVm vm₁).calling { f with stack := rest } ⟨g.2 (10 + i), 1⟩ #[.ref z, .ref qn]).WarmedH U.vm → s.WarmedH U.vm := fun U h => State.WarmedH.trans (t := (T.setVm vm₁).calling { f with stack := rest } ⟨g.2 (10 + i), 1⟩ #[.ref z, .ref qn]) hW₁ h
  have hK : Back l { frames := rm.frames + 1, cells := mc, slots := ms, locals := 8 + (maxL + 11) + rm.locals } p e (.java { f with stack := rest } :: below) ((T.setVm vm₁).calling { f with stack := rest } ⟨g.2 (10 + i), 1⟩ #[.ref z, .ref qn]) #[.ref z, .ref qn] (lamN i) 3 8 (PreOf { frames := rm.frames + 1, cells := mc, slots := ms, locals := 8 + (maxL + 11) + rm.locals } mc ms Pc) (PostOf Qc mc ms free) :=
    back_of (bytes := bytes) (maxL := maxL) (ret := some .int) hM hbl hrc hrs (Nat.le_refl _) (Nat.le_refl _) (fun w hw a' U hU => pay_in hts (lw_meth hcd) w hw a' U (hWs U hU)) List.mem_cons_self (fun a' U hU => word_at (hWs U hU) (Or.inl (by first | rfl | simp [Cond.onTables, Cond.keeps, Cond.steady])) (hts _ hini))
  generalize hU : ((T.setVm vm₁).setTop { f with stack := rest }).pushFrame (.java (entryFrame ⟨g.2 (10 + i), 1⟩ #[.ref z, .ref qn] ckK₁.maxLocals)) = U at Y₀ hin
  have hvm : U.vm = vm₁ := by rw [← hU]; rfl
  have hheap : U.heap = H := by rw [← hU]; exact hT
  have hnamedU : U.methodNamed? (lamN i) = some t₁ := by
    have h1 : (s.setVm vm₁).methodNamed? (lamN i) = some t₁ := by rw [State.methodNamed?_setVm hW₁.alike]; exact hmT
    rw [← hU]; exact h1
  obtain ⟨v, B, Y', hpost, hsteps⟩ := hK ⟨g.2 (10 + i), 1⟩ methk₁ ckK₁ ⟨U, [], 0, 0⟩ { method := ⟨g.2 (10 + i), 1⟩, pc := 5, locals := #[.val (.ref z), .val (.ref qn)], stack := [], locked := none } (.invokevirtual 22) t₁ #[.ref b, .ref qn] Y₀ rfl (by rw [hml₁]; rfl) (by rw [hbytes₁]; exact lc5) (by show 2 * 0 + 0 ≤ 8; omega) hnamedU
    ⟨by show 0 + mc ≤ mc; omega, by show 0 + ms ≤ ms; omega, hPc U hheap (by rw [hvm]; exact hW₁)⟩
  obtain ⟨g', mk', t', L, b1, b2, hq, b3, hL, b4, b5⟩ := hpost
  obtain ⟨rv, rfl⟩ := hint _ _ _ hq
  obtain ⟨fs, hleave, -, hended, hWe, hsame⟩ := Y'.leave (v := some (.int rv)) (fun h => by rw [hretk₁] at h; cases h) hlk₁
  obtain ⟨T', X', hW', -, ht⟩ := X₁.outOf (g := { f with stack := rest }) hg (by rw [C.2.1]; exact hdg) hended hWe hsame
  have hT'h : T'.heap = B.U.heap := by
    have h1 : (B.U.setFrames fs).heap = (T'.setTop { f with pc := f.pc + 5, stack := (some (Value.int rv)).toList ++ rest }).heap := congrArg State.heap ht
    exact h1.symm
  have hT'v : T'.vm = B.U.vm := by
    have h1 : (B.U.setFrames fs).vm = (T'.setTop { f with pc := f.pc + 5, stack := (some (Value.int rv)).toList ++ rest }).vm := congrArg State.vm ht
    exact h1.symm
  have b3' : B.locs = L := b3
  have b4' : B.cells = mc := by rw [b4]; exact Nat.zero_add _
  have b5' : B.slots = ms := by rw [b5]; exact Nat.zero_add _
  refine ⟨some (.int rv), U.calling g' mk' #[.ref b, .ref qn], t', T', L, hheap, by rw [← b3', ← b4', ← b5']; exact X', hL, hT'h.trans b1, hT'v.trans b2, hq, ?_⟩
  intro target htg
  refine hstep₁ _ fun acts => ?_
  refine Steps.trans ?_ htg
  show Steps p.tables e below (doInvoke e ((T.setVm vm₁).setTop { f with stack := rest }) acts ⟨g.2 (10 + i), 1⟩ #[.ref z, .ref qn]).1 (T'.setTop { f with pc := f.pc + 5, stack := (some (Value.int rv)).toList ++ rest })
  rw [hin acts, ← ht]
  refine Steps.weaken (mid := [.java { f with stack := rest }]) ?_
  have hloc : entryFrame ⟨g.2 (10 + i), 1⟩ #[.ref z, .ref qn] ckK₁.maxLocals = { method := ⟨g.2 (10 + i), 1⟩, pc := 0, locals := #[.val (.ref z), .val (.ref qn)], stack := [], locked := none } := by rw [hml₁]; rfl
  rw [hloc]
  have hs : U.topJava?.isSome := Y₀.here.top
  jvm_step Y₀.here [hexec, hbytes₁, lc0, Value.isRef]
  jvm_step Y₀.here [hexec, hbytes₁, lc1, getfield.wp_ready (e := e) (s := U) (c := g.2 (10 + i)) (field := f1) (a := z) (rest := []) (cell := arrV (g.2 (10 + i)) 1 (fun _ => .ref b)) (v := .ref b)
    (f := { method := ⟨g.2 (10 + i), 1⟩, pc := 1, locals := #[.val (.ref z), .val (.ref qn)], stack := [.ref z], locked := none }) hs (by rw [hvm]; exact hfld₁) hfst₁ rfl (by rw [hheap]; exact hz) (by intro h; cases h) (by rw [hfsl₁]; rfl)]
  jvm_step Y₀.here [hexec, hbytes₁, lc4, Value.isRef]
  jvm_step Y₀.here [hexec, hbytes₁, lc5, invokevirtual.wp_ready (e := e) (s := U) (r := t₁) (m := t₁) (k := tk₁) (mk := tk₁) (rmeth := methT) (meth := methT) (a := b) (args := [.ref qn]) (rest := []) (cell := cellB)
    (f := { method := ⟨g.2 (10 + i), 1⟩, pc := 5, locals := #[.val (.ref z), .val (.ref qn)], stack := [.ref qn, .ref b], locked := none }) hs ⟨kK₁, file₁, 19, 21, t₁.cls, tk₁, by rw [hvm]; exact hkK₁, hfile₁, by rw [hpool₁]; exact (lm_eM i hi).1, by rw [hvm]; exact hclsR₁, by rw [hvm]; exact htk₁, hitf₁⟩ (by rw [hvm]; exact hready₁) (by rw [hvm]; exact htk₁) (by rw [hvm]; exact hmethT₁)
    (by
      have hnm : tk₁.name = "WheatElevator" := by
        obtain ⟨kT, hkT, hnT⟩ := className_of_methodNamed hmT
        obtain ⟨kT₁, hkT₁, heT₁⟩ := hW₁.alike.2.2 _ _ hkT
        cases htk₁.symm.trans hkT₁
        rw [heT₁]; exact hnT
      simp [signaturePolymorphic, hnm]) hstT (by rw [hsigTI]; rfl) rfl
    (by rw [hheap]; exact hcB) (fun k h => by rw [h] at hoB; cases hoB) (by rw [hvm]; exact hselB) (by rw [hvm]; exact hmethT₁) habT (by rw [hvm]; exact htk₁) hitf₁]
  intro acts'
  rw [doInvoke_state]
  refine hsteps.trans ?_
  show Steps p.tables e (.java { f with stack := rest } :: below) (B.U.setTop { method := ⟨g.2 (10 + i), 1⟩, pc := 8, locals := #[.val (.ref z), .val (.ref qn)], stack := [.int rv], locked := none }) _
  jvm_step Y'.here [Y'.here.top, hexec, hbytes₁, lc8, Y'.method', hretk₁, narrow]
  intro acts''
  rw [hleave { method := ⟨g.2 (10 + i), 1⟩, pc := 8, locals := #[.val (.ref z), .val (.ref qn)], stack := [], locked := none } acts'' rfl rfl rfl]
  exact Steps.refl _
end LR
