/-! rows for calls; static methods; State -/
set_option maxRecDepth 100000
section VZ
variable {p : Program} {l : Launch} {e : Env} {R : Room} {s : State} {m : MethodId} {args : Array Value} {below : List Frame} {meth : Method} {c : Code} {g : GT} {A : Nat → Prop} {nL cells slots : Nat} {Q : State → Prop} {y : MethodName} {cc : ByteArray} {ret : Option FieldType} {pc : Nat} {lv : List (Nat × Value)} {st : List Value} {ws : va_W}
variable {M : Md} {wc wr w suf ws' : va_W} {As st0 : List Value} {index b n : Nat} {r : Value}
theorem v_zMV (C : Cx p s m args meth c g A y cc nL ret) (hM : CtE l g M (.ref b :: As) wc (some r) w) (pre : va_W) (hw : ws = pre ++ (wc ++ suf)) (ok : MOKv M n) (hn : As.length = n) (hlk : Cond.methodLink y.cls index M.1 ∈ lw_all) (hst : st0 = As.reverse ++ .ref b :: st) (h8 : (st.map fun v => v.category).sum ≤ 8) {ci : Nat} {r0 : vw_C} {fs : List Value} (q0 : Nat) (he : wc[q0]? = some (b, .inr (ci, fs))) (hc : vwCl[ci]? = some r0) (hrc : r0.1 = M.1.cls) (d : decode cc pc = .ok (.invokevirtual index, 3)) (hR : roomOk M R cells slots) (hz : M.2.2.2.2.2.2.1 = 0 ∧ M.2.2.2.2.2.2.2 = 0) (hw' : pre ++ (w ++ suf) = ws')
    (k : V p l e R s m args below meth c g A nL cells slots Q (pc + 3) lv (r :: st) ws') : V p l e R s m args below meth c g A nL cells slots Q pc lv st0 ws := by
  subst hw'
  exact v_callV C hM ok hn hlk hst h8 q0 he hc hrc d hR (by rw [hw]; exact perm_mid pre wc suf) (fun rv w' h => by obtain ⟨rfl, rfl⟩ := h; rw [hz.1, hz.2]; exact v_perm (perm_mid _ pre suf) k)
theorem v_zTV (C : Cx p s m args meth c g A y cc nL ret) (hM : CtE l g M (.ref b :: As) wc (some r) w) (pre : va_W) (hw : ws = pre ++ wc) (ok : MOKv M n) (hn : As.length = n) (hlk : Cond.methodLink y.cls index M.1 ∈ lw_all) (hst : st0 = As.reverse ++ .ref b :: st) (h8 : (st.map fun v => v.category).sum ≤ 8) {ci : Nat} {r0 : vw_C} {fs : List Value} (q0 : Nat) (he : wc[q0]? = some (b, .inr (ci, fs))) (hc : vwCl[ci]? = some r0) (hrc : r0.1 = M.1.cls) (d : decode cc pc = .ok (.invokevirtual index, 3)) (hR : roomOk M R cells slots) (hz : M.2.2.2.2.2.2.1 = 0 ∧ M.2.2.2.2.2.2.2 = 0) (hw' : pre ++ w = ws')
    (k : V p l e R s m args below meth c g A nL cells slots Q (pc + 3) lv (r :: st) ws') : V p l e R s m args below meth c g A nL cells slots Q pc lv st0 ws := by
  subst hw'
  exact v_callV C hM ok hn hlk hst h8 q0 he hc hrc d hR (by rw [hw]; exact List.perm_append_comm) (fun rv w' h => by obtain ⟨rfl, rfl⟩ := h; rw [hz.1, hz.2]; exact v_perm List.perm_append_comm k)
theorem v_zFV (C : Cx p s m args meth c g A y cc nL ret) {ci : Nat} {r0 : vw_C} {fs fs' : List Value} (hM : CtE l g M (.ref b :: As) [(b, .inr (ci, fs))] (some r) [(b, .inr (ci, fs'))]) (ok : MOKv M n) (hn : As.length = n) (hlk : Cond.methodLink y.cls index M.1 ∈ lw_all) (hst : st0 = As.reverse ++ .ref b :: st) (h8 : (st.map fun v => v.category).sum ≤ 8) (q0 : Nat) (he : ws[q0]? = some (b, .inr (ci, fs))) (hc : vwCl[ci]? = some r0) (hrc : r0.1 = M.1.cls) (d : decode cc pc = .ok (.invokevirtual index, 3)) (hR : roomOk M R cells slots) (hz : M.2.2.2.2.2.2.1 = 0 ∧ M.2.2.2.2.2.2.2 = 0) (hw : ws.set q0 (b, .inr (ci, fs')) = ws')
    (k : V p l e R s m args below meth c g A nL cells slots Q (pc + 3) lv (r :: st) ws') : V p l e R s m args below meth c g A nL cells slots Q pc lv st0 ws := by
  subst hw
  exact v_callV C hM ok hn hlk hst h8 0 rfl hc hrc d hR (perm_at he) (fun rv w' h => by obtain ⟨rfl, rfl⟩ := h; rw [hz.1, hz.2]; exact v_perm (perm_set he) k)
theorem v_zMVv (C : Cx p s m args meth c g A y cc nL ret) (hM : CtE l g M (.ref b :: As) wc none w) (pre : va_W) (hw : ws = pre ++ (wc ++ suf)) (ok : MOKv M n) (hn : As.length = n) (hlk : Cond.methodLink y.cls index M.1 ∈ lw_all) (hst : st0 = As.reverse ++ .ref b :: st) (h8 : (st.map fun v => v.category).sum ≤ 8) {ci : Nat} {r0 : vw_C} {fs : List Value} (q0 : Nat) (he : wc[q0]? = some (b, .inr (ci, fs))) (hc : vwCl[ci]? = some r0) (hrc : r0.1 = M.1.cls) (d : decode cc pc = .ok (.invokevirtual index, 3)) (hR : roomOk M R cells slots) (hz : M.2.2.2.2.2.2.1 = 0 ∧ M.2.2.2.2.2.2.2 = 0) (hw' : pre ++ (w ++ suf) = ws')
    (k : V p l e R s m args below meth c g A nL cells slots Q (pc + 3) lv st ws') : V p l e R s m args below meth c g A nL cells slots Q pc lv st0 ws := by
  subst hw'
  exact v_callV C hM ok hn hlk hst h8 q0 he hc hrc d hR (by rw [hw]; exact perm_mid pre wc suf) (fun rv w' h => by obtain ⟨rfl, rfl⟩ := h; rw [hz.1, hz.2]; exact v_perm (perm_mid _ pre suf) k)
theorem v_zTVv (C : Cx p s m args meth c g A y cc nL ret) (hM : CtE l g M (.ref b :: As) wc none w) (pre : va_W) (hw : ws = pre ++ wc) (ok : MOKv M n) (hn : As.length = n) (hlk : Cond.methodLink y.cls index M.1 ∈ lw_all) (hst : st0 = As.reverse ++ .ref b :: st) (h8 : (st.map fun v => v.category).sum ≤ 8) {ci : Nat} {r0 : vw_C} {fs : List Value} (q0 : Nat) (he : wc[q0]? = some (b, .inr (ci, fs))) (hc : vwCl[ci]? = some r0) (hrc : r0.1 = M.1.cls) (d : decode cc pc = .ok (.invokevirtual index, 3)) (hR : roomOk M R cells slots) (hz : M.2.2.2.2.2.2.1 = 0 ∧ M.2.2.2.2.2.2.2 = 0) (hw' : pre ++ w = ws')
    (k : V p l e R s m args below meth c g A nL cells slots Q (pc + 3) lv st ws') : V p l e R s m args below meth c g A nL cells slots Q pc lv st0 ws := by
  subst hw'
  exact v_callV C hM ok hn hlk hst h8 q0 he hc hrc d hR (by rw [hw]; exact List.perm_append_comm) (fun rv w' h => by obtain ⟨rfl, rfl⟩ := h; rw [hz.1, hz.2]; exact v_perm List.perm_append_comm k)
theorem v_zFVv (C : Cx p s m args meth c g A y cc nL ret) {ci : Nat} {r0 : vw_C} {fs fs' : List Value} (hM : CtE l g M (.ref b :: As) [(b, .inr (ci, fs))] none [(b, .inr (ci, fs'))]) (ok : MOKv M n) (hn : As.length = n) (hlk : Cond.methodLink y.cls index M.1 ∈ lw_all) (hst : st0 = As.reverse ++ .ref b :: st) (h8 : (st.map fun v => v.category).sum ≤ 8) (q0 : Nat) (he : ws[q0]? = some (b, .inr (ci, fs))) (hc : vwCl[ci]? = some r0) (hrc : r0.1 = M.1.cls) (d : decode cc pc = .ok (.invokevirtual index, 3)) (hR : roomOk M R cells slots) (hz : M.2.2.2.2.2.2.1 = 0 ∧ M.2.2.2.2.2.2.2 = 0) (hw : ws.set q0 (b, .inr (ci, fs')) = ws')
    (k : V p l e R s m args below meth c g A nL cells slots Q (pc + 3) lv st ws') : V p l e R s m args below meth c g A nL cells slots Q pc lv st0 ws := by
  subst hw
  exact v_callV C hM ok hn hlk hst h8 0 rfl hc hrc d hR (perm_at he) (fun rv w' h => by obtain ⟨rfl, rfl⟩ := h; rw [hz.1, hz.2]; exact v_perm (perm_set he) k)
theorem v_zMS (C : Cx p s m args meth c g A y cc nL ret) (hM : CtE l g M As wc (some r) w) (pre : va_W) (hw : ws = pre ++ (wc ++ suf)) (ok : MOKs M n) (hn : As.length = n) (hlk : Cond.methodLink y.cls index M.1 ∈ lw_all) (hst : st0 = As.reverse ++ st) (h8 : (st.map fun v => v.category).sum ≤ 8) (d : decode cc pc = .ok (.invokestatic index, 3)) (hR : roomOk M R cells slots) (hz : M.2.2.2.2.2.2.1 = 0 ∧ M.2.2.2.2.2.2.2 = 0) (hw' : pre ++ (w ++ suf) = ws')
    (k : V p l e R s m args below meth c g A nL cells slots Q (pc + 3) lv (r :: st) ws') : V p l e R s m args below meth c g A nL cells slots Q pc lv st0 ws := by
  subst hw'
  exact v_callS C hM ok hn hlk hst h8 d hR (by rw [hw]; exact perm_mid pre wc suf) (fun rv w' h => by obtain ⟨rfl, rfl⟩ := h; rw [hz.1, hz.2]; exact v_perm (perm_mid _ pre suf) k)
theorem v_zTS (C : Cx p s m args meth c g A y cc nL ret) (hM : CtE l g M As wc (some r) w) (pre : va_W) (hw : ws = pre ++ wc) (ok : MOKs M n) (hn : As.length = n) (hlk : Cond.methodLink y.cls index M.1 ∈ lw_all) (hst : st0 = As.reverse ++ st) (h8 : (st.map fun v => v.category).sum ≤ 8) (d : decode cc pc = .ok (.invokestatic index, 3)) (hR : roomOk M R cells slots) (hz : M.2.2.2.2.2.2.1 = 0 ∧ M.2.2.2.2.2.2.2 = 0) (hw' : pre ++ w = ws')
    (k : V p l e R s m args below meth c g A nL cells slots Q (pc + 3) lv (r :: st) ws') : V p l e R s m args below meth c g A nL cells slots Q pc lv st0 ws := by
  subst hw'
  exact v_callS C hM ok hn hlk hst h8 d hR (by rw [hw]; exact List.perm_append_comm) (fun rv w' h => by obtain ⟨rfl, rfl⟩ := h; rw [hz.1, hz.2]; exact v_perm List.perm_append_comm k)
theorem v_zMSv (C : Cx p s m args meth c g A y cc nL ret) (hM : CtE l g M As wc none w) (pre : va_W) (hw : ws = pre ++ (wc ++ suf)) (ok : MOKs M n) (hn : As.length = n) (hlk : Cond.methodLink y.cls index M.1 ∈ lw_all) (hst : st0 = As.reverse ++ st) (h8 : (st.map fun v => v.category).sum ≤ 8) (d : decode cc pc = .ok (.invokestatic index, 3)) (hR : roomOk M R cells slots) (hz : M.2.2.2.2.2.2.1 = 0 ∧ M.2.2.2.2.2.2.2 = 0) (hw' : pre ++ (w ++ suf) = ws')
    (k : V p l e R s m args below meth c g A nL cells slots Q (pc + 3) lv st ws') : V p l e R s m args below meth c g A nL cells slots Q pc lv st0 ws := by
  subst hw'
  exact v_callS C hM ok hn hlk hst h8 d hR (by rw [hw]; exact perm_mid pre wc suf) (fun rv w' h => by obtain ⟨rfl, rfl⟩ := h; rw [hz.1, hz.2]; exact v_perm (perm_mid _ pre suf) k)
theorem v_zTSv (C : Cx p s m args meth c g A y cc nL ret) (hM : CtE l g M As wc none w) (pre : va_W) (hw : ws = pre ++ wc) (ok : MOKs M n) (hn : As.length = n) (hlk : Cond.methodLink y.cls index M.1 ∈ lw_all) (hst : st0 = As.reverse ++ st) (h8 : (st.map fun v => v.category).sum ≤ 8) (d : decode cc pc = .ok (.invokestatic index, 3)) (hR : roomOk M R cells slots) (hz : M.2.2.2.2.2.2.1 = 0 ∧ M.2.2.2.2.2.2.2 = 0) (hw' : pre ++ w = ws')
    (k : V p l e R s m args below meth c g A nL cells slots Q (pc + 3) lv st ws') : V p l e R s m args below meth c g A nL cells slots Q pc lv st0 ws := by
  subst hw'
  exact v_callS C hM ok hn hlk hst h8 d hR (by rw [hw]; exact List.perm_append_comm) (fun rv w' h => by obtain ⟨rfl, rfl⟩ := h; rw [hz.1, hz.2]; exact v_perm List.perm_append_comm k)
theorem v_zMSN (C : Cx p s m args meth c g A y cc nL ret) {host : String} (hM : CtE l g M As wc (some r) w) (pre : va_W) (hw : ws = pre ++ (wc ++ suf)) (ok : MOKs M n) (hn : As.length = n) (hlk : Cond.methodLinkNest y.cls index M.1 host ∈ lw_tbl) (hst : st0 = As.reverse ++ st) (h8 : (st.map fun v => v.category).sum ≤ 8) (d : decode cc pc = .ok (.invokestatic index, 3)) (hR : roomOk M R cells slots) (hz : M.2.2.2.2.2.2.1 = 0 ∧ M.2.2.2.2.2.2.2 = 0) (hw' : pre ++ (w ++ suf) = ws')
    (k : V p l e R s m args below meth c g A nL cells slots Q (pc + 3) lv (r :: st) ws') : V p l e R s m args below meth c g A nL cells slots Q pc lv st0 ws := by
  subst hw'
  exact v_callSN C hM ok hn hlk hst h8 d hR (by rw [hw]; exact perm_mid pre wc suf) (fun rv w' h => by obtain ⟨rfl, rfl⟩ := h; rw [hz.1, hz.2]; exact v_perm (perm_mid _ pre suf) k)
theorem v_zTSN (C : Cx p s m args meth c g A y cc nL ret) {host : String} (hM : CtE l g M As wc (some r) w) (pre : va_W) (hw : ws = pre ++ wc) (ok : MOKs M n) (hn : As.length = n) (hlk : Cond.methodLinkNest y.cls index M.1 host ∈ lw_tbl) (hst : st0 = As.reverse ++ st) (h8 : (st.map fun v => v.category).sum ≤ 8) (d : decode cc pc = .ok (.invokestatic index, 3)) (hR : roomOk M R cells slots) (hz : M.2.2.2.2.2.2.1 = 0 ∧ M.2.2.2.2.2.2.2 = 0) (hw' : pre ++ w = ws')
    (k : V p l e R s m args below meth c g A nL cells slots Q (pc + 3) lv (r :: st) ws') : V p l e R s m args below meth c g A nL cells slots Q pc lv st0 ws := by
  subst hw'
  exact v_callSN C hM ok hn hlk hst h8 d hR (by rw [hw]; exact List.perm_append_comm) (fun rv w' h => by obtain ⟨rfl, rfl⟩ := h; rw [hz.1, hz.2]; exact v_perm List.perm_append_comm k)
theorem v_zMSNv (C : Cx p s m args meth c g A y cc nL ret) {host : String} (hM : CtE l g M As wc none w) (pre : va_W) (hw : ws = pre ++ (wc ++ suf)) (ok : MOKs M n) (hn : As.length = n) (hlk : Cond.methodLinkNest y.cls index M.1 host ∈ lw_tbl) (hst : st0 = As.reverse ++ st) (h8 : (st.map fun v => v.category).sum ≤ 8) (d : decode cc pc = .ok (.invokestatic index, 3)) (hR : roomOk M R cells slots) (hz : M.2.2.2.2.2.2.1 = 0 ∧ M.2.2.2.2.2.2.2 = 0) (hw' : pre ++ (w ++ suf) = ws')
    (k : V p l e R s m args below meth c g A nL cells slots Q (pc + 3) lv st ws') : V p l e R s m args below meth c g A nL cells slots Q pc lv st0 ws := by
  subst hw'
  exact v_callSN C hM ok hn hlk hst h8 d hR (by rw [hw]; exact perm_mid pre wc suf) (fun rv w' h => by obtain ⟨rfl, rfl⟩ := h; rw [hz.1, hz.2]; exact v_perm (perm_mid _ pre suf) k)
theorem v_zTSNv (C : Cx p s m args meth c g A y cc nL ret) {host : String} (hM : CtE l g M As wc none w) (pre : va_W) (hw : ws = pre ++ wc) (ok : MOKs M n) (hn : As.length = n) (hlk : Cond.methodLinkNest y.cls index M.1 host ∈ lw_tbl) (hst : st0 = As.reverse ++ st) (h8 : (st.map fun v => v.category).sum ≤ 8) (d : decode cc pc = .ok (.invokestatic index, 3)) (hR : roomOk M R cells slots) (hz : M.2.2.2.2.2.2.1 = 0 ∧ M.2.2.2.2.2.2.2 = 0) (hw' : pre ++ w = ws')
    (k : V p l e R s m args below meth c g A nL cells slots Q (pc + 3) lv st ws') : V p l e R s m args below meth c g A nL cells slots Q pc lv st0 ws := by
  subst hw'
  exact v_callSN C hM ok hn hlk hst h8 d hR (by rw [hw]; exact List.perm_append_comm) (fun rv w' h => by obtain ⟨rfl, rfl⟩ := h; rw [hz.1, hz.2]; exact v_perm List.perm_append_comm k)
theorem v_zMIv (C : Cx p s m args meth c g A y cc nL ret) (hM : CtE l g M (.ref b :: As) wc none w) (pre : va_W) (hw : ws = pre ++ (wc ++ suf)) (ok : MOKi M n) (hn : As.length = n) (hlk : Cond.methodLink y.cls index M.1 ∈ lw_all) (hst : st0 = As.reverse ++ .ref b :: st) (h8 : (st.map fun v => v.category).sum ≤ 8) (d : decode cc pc = .ok (.invokespecial index, 3)) (hR : roomOk M R cells slots) (hz : M.2.2.2.2.2.2.1 = 0 ∧ M.2.2.2.2.2.2.2 = 0) (hw' : pre ++ (w ++ suf) = ws')
    (k : V p l e R s m args below meth c g A nL cells slots Q (pc + 3) lv st ws') : V p l e R s m args below meth c g A nL cells slots Q pc lv st0 ws := by
  subst hw'
  exact v_callI C hM ok hn hlk hst h8 d hR (by rw [hw]; exact perm_mid pre wc suf) (fun rv w' h => by obtain ⟨rfl, rfl⟩ := h; rw [hz.1, hz.2]; exact v_perm (perm_mid _ pre suf) k)
theorem v_zTIv (C : Cx p s m args meth c g A y cc nL ret) (hM : CtE l g M (.ref b :: As) wc none w) (pre : va_W) (hw : ws = pre ++ wc) (ok : MOKi M n) (hn : As.length = n) (hlk : Cond.methodLink y.cls index M.1 ∈ lw_all) (hst : st0 = As.reverse ++ .ref b :: st) (h8 : (st.map fun v => v.category).sum ≤ 8) (d : decode cc pc = .ok (.invokespecial index, 3)) (hR : roomOk M R cells slots) (hz : M.2.2.2.2.2.2.1 = 0 ∧ M.2.2.2.2.2.2.2 = 0) (hw' : pre ++ w = ws')
    (k : V p l e R s m args below meth c g A nL cells slots Q (pc + 3) lv st ws') : V p l e R s m args below meth c g A nL cells slots Q pc lv st0 ws := by
  subst hw'
  exact v_callI C hM ok hn hlk hst h8 d hR (by rw [hw]; exact List.perm_append_comm) (fun rv w' h => by obtain ⟨rfl, rfl⟩ := h; rw [hz.1, hz.2]; exact v_perm List.perm_append_comm k)
theorem v_zMINv (C : Cx p s m args meth c g A y cc nL ret) {host : String} (hM : CtE l g M (.ref b :: As) wc none w) (pre : va_W) (hw : ws = pre ++ (wc ++ suf)) (ok : MOKi M n) (hn : As.length = n) (hlk : Cond.methodLinkNest y.cls index M.1 host ∈ lw_tbl) (hst : st0 = As.reverse ++ .ref b :: st) (h8 : (st.map fun v => v.category).sum ≤ 8) (d : decode cc pc = .ok (.invokespecial index, 3)) (hR : roomOk M R cells slots) (hz : M.2.2.2.2.2.2.1 = 0 ∧ M.2.2.2.2.2.2.2 = 0) (hw' : pre ++ (w ++ suf) = ws')
    (k : V p l e R s m args below meth c g A nL cells slots Q (pc + 3) lv st ws') : V p l e R s m args below meth c g A nL cells slots Q pc lv st0 ws := by
  subst hw'
  exact v_callIN C hM ok hn hlk hst h8 d hR (by rw [hw]; exact perm_mid pre wc suf) (fun rv w' h => by obtain ⟨rfl, rfl⟩ := h; rw [hz.1, hz.2]; exact v_perm (perm_mid _ pre suf) k)
theorem v_zTINv (C : Cx p s m args meth c g A y cc nL ret) {host : String} (hM : CtE l g M (.ref b :: As) wc none w) (pre : va_W) (hw : ws = pre ++ wc) (ok : MOKi M n) (hn : As.length = n) (hlk : Cond.methodLinkNest y.cls index M.1 host ∈ lw_tbl) (hst : st0 = As.reverse ++ .ref b :: st) (h8 : (st.map fun v => v.category).sum ≤ 8) (d : decode cc pc = .ok (.invokespecial index, 3)) (hR : roomOk M R cells slots) (hz : M.2.2.2.2.2.2.1 = 0 ∧ M.2.2.2.2.2.2.2 = 0) (hw' : pre ++ w = ws')
    (k : V p l e R s m args below meth c g A nL cells slots Q (pc + 3) lv st ws') : V p l e R s m args below meth c g A nL cells slots Q pc lv st0 ws := by
  subst hw'
  exact v_callIN C hM ok hn hlk hst h8 d hR (by rw [hw]; exact List.perm_append_comm) (fun rv w' h => by obtain ⟨rfl, rfl⟩ := h; rw [hz.1, hz.2]; exact v_perm List.perm_append_comm k)
theorem set_same {α : Type} {L : List α} {i : Nat} {x : α} (h : L[i]? = some x) : L.set i x = L := by
  induction L generalizing i with
  | nil => rfl
  | cons a L ih =>
    cases i with
    | zero => simp at h; subst h; rfl
    | succ i => exact congrArg (a :: ·) (ih (by simpa using h))
end VZ
theorem sw_setB1 {g : GT} {A : Nat → Nat} {nb nl nc : Nat} {r : Nat → Int32} {b : Nat → Int64} {suf : va_W} {i k : Nat} (hi : i < nb) (hnb : nb ≤ 8) (hk : k < 9) (x : Int32) : (sw g A nb nl nc r b suf).set (i + 8) (bnC (A (10 + i)) (upd (bv r i) k x)) = sw g A nb nl nc (upd r (10 + 9 * i + k) x) b suf :=
  sw_setB hi hnb (bv_upd hk) (fun j hj => pk_un (by omega))
def M_X0_isIn : Md := (yX0_isIn, cX0_isIn, 3, (some .boolean), 1, 40, 0, 0)
theorem ok_X0_isIn : MOKs M_X0_isIn 3 := ⟨q277, q89, q278, ⟨by decide +kernel, by decide +kernel, by decide +kernel⟩⟩
set_option maxHeartbeats 4000000 in
theorem x_isIn (l : Launch) (g : GT) (v lo hi : Int32) : CtE l g M_X0_isIn [.int v, .int lo, .int hi] [] (some (.int (bI (lo ≤ v ∧ v ≤ hi)))) [] := by
  refine Ct.start2 (M := M_X0_isIn) rfl [(0, .int v), (1, .int lo), (2, .int hi)] rfl (by decide +kernel) (Nat.le_of_ble_eq_true rfl) ?_
  intro p e s m args below meth c A9 C
  refine v_iload_n C dX0_isIn_0 0 rfl ?_
  refine v_iload_n C dX0_isIn_1 1 rfl ?_
  refine v_icmp_lt C 14 dX0_isIn_2 (by decide) (fun c2_1 => ?_) (fun c2_1 => ?_)
  · skip
    refine v_iconst (v := 0) C dX0_isIn_14 (by decide) ?_
    exact v_zret C rfl dX0_isIn_15 (Nat.le_of_ble_eq_true rfl) (Nat.le_of_ble_eq_true rfl) ⟨si (in_f1 c2_1), rfl⟩
  · skip
    refine v_iload_n C dX0_isIn_5 0 rfl ?_
    refine v_iload_n C dX0_isIn_6 2 rfl ?_
    refine v_icmp_gt C 14 dX0_isIn_7 (by decide) (fun c7_2 => ?_) (fun c7_2 => ?_)
    · skip
      refine v_iconst (v := 0) C dX0_isIn_14 (by decide) ?_
      exact v_zret C rfl dX0_isIn_15 (Nat.le_of_ble_eq_true rfl) (Nat.le_of_ble_eq_true rfl) ⟨si (in_f2 c7_2), rfl⟩
    · skip
      refine v_iconst (v := 1) C dX0_isIn_10 (by decide) ?_
      refine v_goto C 15 dX0_isIn_11 (by decide) ?_
      exact v_zret C rfl dX0_isIn_15 (Nat.le_of_ble_eq_true rfl) (Nat.le_of_ble_eq_true rfl) ⟨si (in_t c2_1 c7_2), rfl⟩
def M_X0_isMoisture : Md := (yX0_isMoisture, cX0_isMoisture, 1, (some .boolean), 2, 62, 0, 0)
theorem ok_X0_isMoisture : MOKs M_X0_isMoisture 1 := ⟨q280, q89, q281, ⟨by decide +kernel, by decide +kernel, by decide +kernel⟩⟩
set_option maxHeartbeats 4000000 in
theorem x_isMoisture (l : Launch) (g : GT) (v : Int32) : CtE l g M_X0_isMoisture [.int v] [] (some (.int (bI (50 ≤ v ∧ v ≤ 400)))) [] := by
  refine Ct.start2 (M := M_X0_isMoisture) rfl [(0, .int v)] rfl (by decide +kernel) (Nat.le_of_ble_eq_true rfl) ?_
  intro p e s m args below meth c A9 C
  refine v_iload_n C dX0_isMoisture_0 0 rfl ?_
  refine v_bipush (v := 50) C dX0_isMoisture_1 (by decide) ?_
  refine v_sipush (v := 400) C dX0_isMoisture_3 (by decide) ?_
  refine v_callSp C (x_isIn l g _ _ _) ok_X0_isIn rfl q276 rfl (Nat.le_of_ble_eq_true rfl) dX0_isMoisture_6 (roomL rfl rfl) ⟨rfl, rfl⟩ ?_
  exact v_zret C (bI_nar _) dX0_isMoisture_9 (Nat.le_of_ble_eq_true rfl) (Nat.le_of_ble_eq_true rfl) ⟨rfl, rfl⟩
def M_X0_isKind : Md := (yX0_isKind, cX0_isKind, 1, (some .boolean), 2, 62, 0, 0)
theorem ok_X0_isKind : MOKs M_X0_isKind 1 := ⟨q747, q89, q748, ⟨by decide +kernel, by decide +kernel, by decide +kernel⟩⟩
set_option maxHeartbeats 4000000 in
theorem x_isKind (l : Launch) (g : GT) (v : Int32) : CtE l g M_X0_isKind [.int v] [] (some (.int (bI (0 ≤ v ∧ v ≤ 3)))) [] := by
  refine Ct.start2 (M := M_X0_isKind) rfl [(0, .int v)] rfl (by decide +kernel) (Nat.le_of_ble_eq_true rfl) ?_
  intro p e s m args below meth c A9 C
  refine v_iload_n C dX0_isKind_0 0 rfl ?_
  refine v_iconst (v := 0) C dX0_isKind_1 (by decide) ?_
  refine v_iconst (v := 3) C dX0_isKind_2 (by decide) ?_
  refine v_callSp C (x_isIn l g _ _ _) ok_X0_isIn rfl q276 rfl (Nat.le_of_ble_eq_true rfl) dX0_isKind_3 (roomL rfl rfl) ⟨rfl, rfl⟩ ?_
  exact v_zret C (bI_nar _) dX0_isKind_6 (Nat.le_of_ble_eq_true rfl) (Nat.le_of_ble_eq_true rfl) ⟨rfl, rfl⟩
def M_X0_isImage : Md := (yX0_isImage, cX0_isImage, 1, (some .boolean), 2, 62, 0, 0)
theorem ok_X0_isImage : MOKs M_X0_isImage 1 := ⟨q1143, q89, q1144, ⟨by decide +kernel, by decide +kernel, by decide +kernel⟩⟩
set_option maxHeartbeats 4000000 in
theorem x_isImage (l : Launch) (g : GT) (v : Int32) : CtE l g M_X0_isImage [.int v] [] (some (.int (bI (0 ≤ v ∧ v ≤ 1)))) [] := by
  refine Ct.start2 (M := M_X0_isImage) rfl [(0, .int v)] rfl (by decide +kernel) (Nat.le_of_ble_eq_true rfl) ?_
  intro p e s m args below meth c A9 C
  refine v_iload_n C dX0_isImage_0 0 rfl ?_
  refine v_iconst (v := 0) C dX0_isImage_1 (by decide) ?_
  refine v_iconst (v := 1) C dX0_isImage_2 (by decide) ?_
  refine v_callSp C (x_isIn l g _ _ _) ok_X0_isIn rfl q276 rfl (Nat.le_of_ble_eq_true rfl) dX0_isImage_3 (roomL rfl rfl) ⟨rfl, rfl⟩ ?_
  exact v_zret C (bI_nar _) dX0_isImage_6 (Nat.le_of_ble_eq_true rfl) (Nat.le_of_ble_eq_true rfl) ⟨rfl, rfl⟩
def M_X0_minutesFor : Md := (yX0_minutesFor, cX0_minutesFor, 2, (some .int), 1, 40, 0, 0)
theorem ok_X0_minutesFor : MOKs M_X0_minutesFor 2 := ⟨q323, q89, q324, ⟨by decide +kernel, by decide +kernel, by decide +kernel⟩⟩
set_option maxHeartbeats 4000000 in
theorem x_minutesFor (l : Launch) (g : GT) (u sp : Int32) (hz : ¬ sp = 0) : CtE l g M_X0_minutesFor [.int u, .int sp] [] (some (.int (p_min u sp))) [] := by
  refine Ct.start2 (M := M_X0_minutesFor) rfl [(0, .int u), (1, .int sp)] rfl (by decide +kernel) (Nat.le_of_ble_eq_true rfl) ?_
  intro p e s m args below meth c A9 C
  refine v_iload_n C dX0_minutesFor_0 0 rfl ?_
  refine v_iload_n C dX0_minutesFor_1 1 rfl ?_
  refine v_iadd C dX0_minutesFor_2 ?_
  refine v_iconst (v := 1) C dX0_minutesFor_3 (by decide) ?_
  refine v_isub C dX0_minutesFor_4 ?_
  refine v_iload_n C dX0_minutesFor_5 1 rfl ?_
  refine v_idiv C dX0_minutesFor_6 hz ?_
  exact v_iret C dX0_minutesFor_7 (Nat.le_of_ble_eq_true rfl) (Nat.le_of_ble_eq_true rfl) ⟨rfl, rfl⟩
def M_X0_has : Md := (yX0_has, cX0_has, 2, (some .boolean), 1, 40, 0, 0)
theorem ok_X0_has : MOKs M_X0_has 2 := ⟨q307, q89, q308, ⟨by decide +kernel, by decide +kernel, by decide +kernel⟩⟩
set_option maxHeartbeats 4000000 in
theorem x_has (l : Launch) (g : GT) (u bt : Int32) : CtE l g M_X0_has [.int u, .int bt] [] (some (.int (bI (u >>> (bt &&& 31) &&& 1 = 1)))) [] := by
  refine Ct.start2 (M := M_X0_has) rfl [(0, .int u), (1, .int bt)] rfl (by decide +kernel) (Nat.le_of_ble_eq_true rfl) ?_
  intro p e s m args below meth c A9 C
  refine v_iload_n C dX0_has_0 0 rfl ?_
  refine v_iload_n C dX0_has_1 1 rfl ?_
  refine v_ishr C dX0_has_2 ?_
  refine v_iconst (v := 1) C dX0_has_3 (by decide) ?_
  refine v_iand C dX0_has_4 ?_
  refine v_iconst (v := 1) C dX0_has_5 (by decide) ?_
  refine v_ternI C 13 14 dX0_has_9 dX0_has_10 dX0_has_13 (by decide) rfl (fun ht hf => v_icmp_ne C 13 dX0_has_6 (by decide) (fun q => ht q) (fun q => hf q)) ?_
  exact v_zret C (bI_nar _) dX0_has_14 (Nat.le_of_ble_eq_true rfl) (Nat.le_of_ble_eq_true rfl) ⟨rfl, rfl⟩
def M_X0_mixed : Md := (yX0_mixed, cX0_mixed, 4, (some .long), 1, 40, 0, 0)
theorem ok_X0_mixed : MOKs M_X0_mixed 2 := ⟨q1156, q89, q1157, ⟨by decide +kernel, by decide +kernel, by decide +kernel⟩⟩
set_option maxHeartbeats 4000000 in
theorem x_mixed (l : Launch) (g : GT) (u v : Int64) : CtE l g M_X0_mixed [.long u, .long v] [] (some (.long (31 * u + v))) [] := by
  refine Ct.start2 (M := M_X0_mixed) rfl [(0, .long u), (2, .long v)] rfl (by decide +kernel) (Nat.le_of_ble_eq_true rfl) ?_
  intro p e s m args below meth c A9 C
  refine v_ldc2 C dX0_mixed_0 q1158 ?_
  refine v_lload_n C dX0_mixed_3 0 rfl ?_
  refine v_lmul C dX0_mixed_4 ?_
  refine v_lload_n C dX0_mixed_5 1 rfl ?_
  refine v_ladd C dX0_mixed_6 ?_
  exact v_lret C dX0_mixed_7 (Nat.le_of_ble_eq_true rfl) (Nat.le_of_ble_eq_true rfl) ⟨rfl, rfl⟩
def x_truck (k u mo : Int32) : Int32 := if 0 ≤ k ∧ k ≤ 3 then if 1 ≤ u ∧ u ≤ 5000 then if 50 ≤ mo ∧ mo ≤ 400 then 0 else -3 else -3 else -2
def M_X0_truckFault : Md := (yX0_truckFault, cX0_truckFault, 3, (some .int), 3, 82, 0, 0)
theorem ok_X0_truckFault : MOKs M_X0_truckFault 3 := ⟨q923, q89, q924, ⟨by decide +kernel, by decide +kernel, by decide +kernel⟩⟩
set_option maxHeartbeats 4000000 in
theorem x_truckFault (l : Launch) (g : GT) (k u mo : Int32) : CtE l g M_X0_truckFault [.int k, .int u, .int mo] [] (some (.int (x_truck k u mo))) [] := by
  refine Ct.start2 (M := M_X0_truckFault) rfl [(0, .int k), (1, .int u), (2, .int mo)] rfl (by decide +kernel) (Nat.le_of_ble_eq_true rfl) ?_
  intro p e s m args below meth c A9 C
  refine v_iload_n C dX0_truckFault_0 0 rfl ?_
  refine v_callSp C (x_isKind l g _) ok_X0_isKind rfl q746 rfl (Nat.le_of_ble_eq_true rfl) dX0_truckFault_1 (roomL rfl rfl) ⟨rfl, rfl⟩ ?_
  refine v_if_neB C 10 dX0_truckFault_4 (by decide) (fun c4_1 => ?_) (fun c4_1 => ?_)
  · skip
    refine v_iload_n C dX0_truckFault_10 1 rfl ?_
    refine v_iconst (v := 1) C dX0_truckFault_11 (by decide) ?_
    refine v_sipush (v := 5000) C dX0_truckFault_12 (by decide) ?_
    refine v_callSp C (x_isIn l g _ _ _) ok_X0_isIn rfl q276 rfl (Nat.le_of_ble_eq_true rfl) dX0_truckFault_15 (roomL rfl rfl) ⟨rfl, rfl⟩ ?_
    refine v_if_eqB C 32 dX0_truckFault_18 (by decide) (fun c18_2 => ?_) (fun c18_2 => ?_)
    · skip
      refine v_bipush (v := -3) C dX0_truckFault_32 (by decide) ?_
      exact v_iret C dX0_truckFault_34 (Nat.le_of_ble_eq_true rfl) (Nat.le_of_ble_eq_true rfl) (by unfold x_truck; rw [if_pos c4_1, if_neg c18_2]; exact ⟨rfl, rfl⟩)
    · skip
      refine v_iload_n C dX0_truckFault_21 2 rfl ?_
      refine v_callSp C (x_isMoisture l g _) ok_X0_isMoisture rfl q279 rfl (Nat.le_of_ble_eq_true rfl) dX0_truckFault_22 (roomL rfl rfl) ⟨rfl, rfl⟩ ?_
      refine v_if_eqB C 32 dX0_truckFault_25 (by decide) (fun c25_3 => ?_) (fun c25_3 => ?_)
      · skip
        refine v_bipush (v := -3) C dX0_truckFault_32 (by decide) ?_
        exact v_iret C dX0_truckFault_34 (Nat.le_of_ble_eq_true rfl) (Nat.le_of_ble_eq_true rfl) (by unfold x_truck; rw [if_pos c4_1, if_pos c18_2, if_neg c25_3]; exact ⟨rfl, rfl⟩)
      · skip
        refine v_iconst (v := 0) C dX0_truckFault_28 (by decide) ?_
        refine v_goto C 34 dX0_truckFault_29 (by decide) ?_
        exact v_iret C dX0_truckFault_34 (Nat.le_of_ble_eq_true rfl) (Nat.le_of_ble_eq_true rfl) (by unfold x_truck; rw [if_pos c4_1, if_pos c18_2, if_pos c25_3]; exact ⟨rfl, rfl⟩)
  · skip
    refine v_bipush (v := -2) C dX0_truckFault_7 (by decide) ?_
    exact v_iret C dX0_truckFault_9 (Nat.le_of_ble_eq_true rfl) (Nat.le_of_ble_eq_true rfl) (by unfold x_truck; rw [if_neg c4_1]; exact ⟨rfl, rfl⟩)
def M_X1_stands : Md := (yX1_stands, cX1_stands, 2, (some .boolean), 4, 104, 0, 0)
theorem ok_X1_stands : MOKv M_X1_stands 1 := ⟨q302, q303, q90, q304, ⟨by decide +kernel, by decide +kernel, by decide +kernel⟩⟩
set_option maxHeartbeats 4000000 in
theorem x_stands (l : Launch) (g : GT) (A : Nat → Nat) (nb nl nc : Nat) (r : Nat → Int32) (b : Nat → Int64) (suf : va_W) (hnb : nb ≤ 8) (hnl : nl ≤ 3) (hnc : nc ≤ 6) (le : Nat) (hl : le < nl) : CtE l g M_X1_stands [.ref (A 0), .int (nI le)] (sw g A nb nl nc r b suf) (some (.int (bI (q_stands r le)))) (sw g A nb nl nc r b suf) := by
  refine Ct.start2 (M := M_X1_stands) rfl [(0, .ref (A 0)), (1, .int (nI le))] rfl (by decide +kernel) (Nat.le_of_ble_eq_true rfl) ?_
  intro p e s m args below meth c A9 C
  refine v_aload_n C dX1_stands_0 0 rfl ?_
  refine v_get C in_X1 rfl 0 rfl 1 (by decide) q156 (fun _ h => h) rfl dX1_stands_1 ?_
  refine v_iload_n C dX1_stands_4 1 rfl ?_
  refine v_zMV (ws' := (sw g A nb nl nc r b suf)) C (j_get l g (A 3) (A 4) 3 (nI nl) nl (rfs A 20 nl) le (A (20 + le)) hl hnl (by decide) (rfs_at A 20 hl)) [_, _, _] rfl ok_J2_get rfl q286 rfl (Nat.le_of_ble_eq_true rfl) 0 rfl rfl rfl dX1_stands_5 (roomL rfl rfl) ⟨rfl, rfl⟩ rfl ?_
  refine v_castS (r := (RX5, TX5, 4)) C q305 (nb + le + 8) (sw_leg hl) rfl dX1_stands_8 ?_
  refine v_getN C in_X5 rfl (nb + le + 8) (sw_leg hl) 2 (by decide) q679 (fun _ h => h) rfl dX1_stands_11 ?_
  refine v_eqi (show _ = r (82 + 4 * le + 2) from rfl) ?_
  refine v_aload_n C dX1_stands_14 0 rfl ?_
  refine v_get C in_X1 rfl 0 rfl 5 (by decide) q164 (fun _ h => h) rfl dX1_stands_15 ?_
  refine v_ternI C 25 26 dX1_stands_21 dX1_stands_22 dX1_stands_25 (by decide) rfl (fun ht hf => v_icmp_lt C 25 dX1_stands_18 (by decide) (fun q => ht (fun n => n q)) (fun q => hf q)) ?_
  exact v_zret C (bI_nar _) dX1_stands_26 (Nat.le_of_ble_eq_true rfl) (Nat.le_of_ble_eq_true rfl) ⟨rfl, rfl⟩
def s_ref (r : Nat → Int32) (le bi : Nat) (kind amt mo : Int32) : Int32 :=
  if q_stands r le then 1 else if q_leads r le (nI bi) then
    if r (10 + 9 * bi + 3) ≤ 0 then
      if r (10 + 9 * bi + 1) ≤ mo ∧ mo ≤ r (10 + 9 * bi + 2) then if r (10 + 9 * bi + 3) + amt ≤ r (10 + 9 * bi + 0) then if q_spoilt r bi then 6 else 0 else 5 else 4
    else if r (10 + 9 * bi + 5) = kind then
      if r (10 + 9 * bi + 1) ≤ mo ∧ mo ≤ r (10 + 9 * bi + 2) then if r (10 + 9 * bi + 3) + amt ≤ r (10 + 9 * bi + 0) then if q_spoilt r bi then 6 else 0 else 5 else 4
    else 3
  else 2
def s_pass (m : Int32) (r : Nat → Int32) (n : Nat) : Nat → Int32 := iter (fun i r => pb r i (b_pass m (bv r i))) n r
def s_unit (r : Nat → Int32) : Nat → Int64
  | 0 => 0
  | k + 1 => s_unit r k + (r (10 + 9 * k + 3)).toInt64
def s_pay (r : Nat → Int32) (kd : Nat) (u mo : Int32) : Int64 := u.toInt64 * (r (6 + kd)).toInt64 * (1000 - 2 * (if 0 < mo - 140 then mo - 140 else 0)).toInt64 / 1000
def M_X1_refusal : Md := (yX1_refusal, cX1_refusal, 7, (some .int), 5, 125, 0, 0)
theorem ok_X1_refusal : MOKv M_X1_refusal 5 := ⟨q283, q284, q90, q285, ⟨by decide +kernel, by decide +kernel, by decide +kernel⟩⟩
set_option maxHeartbeats 4000000 in
theorem x_refusal (l : Launch) (g : GT) (A : Nat → Nat) (nb nl nc : Nat) (r : Nat → Int32) (b : Nat → Int64) (suf : va_W) (hnb : nb ≤ 8) (hnl : nl ≤ 3) (hnc : nc ≤ 6) (le : Nat) (hl : le < nl) (bi : Nat) (hb : bi < nb) (kind amt mo : Int32) : CtE l g M_X1_refusal [.ref (A 0), .int (nI le), .int (nI bi), .int kind, .int amt, .int mo] (sw g A nb nl nc r b suf) (some (.int (s_ref r le bi kind amt mo))) (sw g A nb nl nc r b suf) := by
  refine Ct.start2 (M := M_X1_refusal) rfl [(0, .ref (A 0)), (1, .int (nI le)), (2, .int (nI bi)), (3, .int kind), (4, .int amt), (5, .int mo)] rfl (by decide +kernel) (Nat.le_of_ble_eq_true rfl) ?_
  intro p e s m args below meth c A9 C
  refine v_aload_n C dX1_refusal_0 0 rfl ?_
  refine v_get C in_X1 rfl 0 rfl 0 (by decide) q154 (fun _ h => h) rfl dX1_refusal_1 ?_
  refine v_iload_n C dX1_refusal_4 2 rfl ?_
  refine v_zMV (ws' := (sw g A nb nl nc r b suf)) C (j_get l g (A 1) (A 2) 8 (nI nb) nb (rfs A 10 nb) bi (A (10 + bi)) hb hnb (by decide) (rfs_at A 10 hb)) [_] rfl ok_J2_get rfl q286 rfl (Nat.le_of_ble_eq_true rfl) 0 rfl rfl rfl dX1_refusal_5 (roomL rfl rfl) ⟨rfl, rfl⟩ rfl ?_
  refine v_castS (r := (RX4, TX4, 9)) C q300 (bi + 8) (sw_bin hb) rfl dX1_refusal_8 ?_
  refine v_astore (lv' := [(6, _), (0, _), (1, _), (2, _), (3, _), (4, _), (5, _)]) C dX1_refusal_11 (by decide) rfl ?_
  refine v_aload_n C dX1_refusal_13 1 rfl ?_
  refine v_iload_n C dX1_refusal_14 2 rfl ?_
  refine v_callVw C (x_stands l g A nb nl nc r b suf hnb hnl hnc le hl) ok_X1_stands rfl q301 rfl (Nat.le_of_ble_eq_true rfl) 0 rfl rfl rfl dX1_refusal_15 (roomL rfl rfl) ⟨rfl, rfl⟩ ?_
  refine v_if_eqB C 23 dX1_refusal_18 (by decide) (fun c18_1 => ?_) (fun c18_1 => ?_)
  · skip
    refine v_aload_n C dX1_refusal_23 1 rfl ?_
    refine v_get C in_X1 rfl 0 rfl 1 (by decide) q156 (fun _ h => h) rfl dX1_refusal_24 ?_
    refine v_iload_n C dX1_refusal_27 2 rfl ?_
    refine v_zMV (ws' := (sw g A nb nl nc r b suf)) C (j_get l g (A 3) (A 4) 3 (nI nl) nl (rfs A 20 nl) le (A (20 + le)) hl hnl (by decide) (rfs_at A 20 hl)) [_, _, _] rfl ok_J2_get rfl q286 rfl (Nat.le_of_ble_eq_true rfl) 0 rfl rfl rfl dX1_refusal_28 (roomL rfl rfl) ⟨rfl, rfl⟩ rfl ?_
    refine v_castS (r := (RX5, TX5, 4)) C q305 (nb + le + 8) (sw_leg hl) rfl dX1_refusal_31 ?_
    refine v_getN C in_X5 rfl (nb + le + 8) (sw_leg hl) 1 (by decide) q676 (fun _ h => h) rfl dX1_refusal_34 ?_
    refine v_eqi (show _ = r (82 + 4 * le + 1) from rfl) ?_
    refine v_iload_n C dX1_refusal_37 3 rfl ?_
    refine v_callSNp C (x_has l g _ _) ok_X0_has rfl q306 rfl (Nat.le_of_ble_eq_true rfl) dX1_refusal_38 (roomL rfl rfl) ⟨rfl, rfl⟩ ?_
    refine v_if_neB C 46 dX1_refusal_41 (by decide) (fun c41_2 => ?_) (fun c41_2 => ?_)
    · skip
      refine v_aload C dX1_refusal_46 0 rfl ?_
      refine v_getN C in_X4 rfl (bi + 8) (sw_bin hb) 3 (by decide) q604 (fun _ h => h) rfl dX1_refusal_48 ?_
      refine v_eqi (show _ = r (10 + 9 * bi + 3) from rfl) ?_
      refine v_if_le C 65 dX1_refusal_51 (by decide) (fun c51_3 => ?_) (fun c51_3 => ?_)
      · skip
        refine v_iload C dX1_refusal_65 6 rfl ?_
        refine v_aload C dX1_refusal_67 0 rfl ?_
        refine v_getN C in_X4 rfl (bi + 8) (sw_bin hb) 1 (by decide) q598 (fun _ h => h) rfl dX1_refusal_69 ?_
        refine v_eqi (show _ = r (10 + 9 * bi + 1) from rfl) ?_
        refine v_aload C dX1_refusal_72 0 rfl ?_
        refine v_getN C in_X4 rfl (bi + 8) (sw_bin hb) 2 (by decide) q601 (fun _ h => h) rfl dX1_refusal_74 ?_
        refine v_eqi (show _ = r (10 + 9 * bi + 2) from rfl) ?_
        refine v_callSNp C (x_isIn l g _ _ _) ok_X0_isIn rfl q309 rfl (Nat.le_of_ble_eq_true rfl) dX1_refusal_77 (roomL rfl rfl) ⟨rfl, rfl⟩ ?_
        refine v_if_neB C 85 dX1_refusal_80 (by decide) (fun c80_4 => ?_) (fun c80_4 => ?_)
        · skip
          refine v_aload C dX1_refusal_85 0 rfl ?_
          refine v_getN C in_X4 rfl (bi + 8) (sw_bin hb) 3 (by decide) q604 (fun _ h => h) rfl dX1_refusal_87 ?_
          refine v_eqi (show _ = r (10 + 9 * bi + 3) from rfl) ?_
          refine v_iload C dX1_refusal_90 5 rfl ?_
          refine v_iadd C dX1_refusal_92 ?_
          refine v_aload C dX1_refusal_93 0 rfl ?_
          refine v_getN C in_X4 rfl (bi + 8) (sw_bin hb) 0 (by decide) q595 (fun _ h => h) rfl dX1_refusal_95 ?_
          refine v_eqi (show _ = r (10 + 9 * bi + 0) from rfl) ?_
          refine v_icmp_le C 103 dX1_refusal_98 (by decide) (fun c98_5 => ?_) (fun c98_5 => ?_)
          · skip
            refine v_aload C dX1_refusal_103 0 rfl ?_
            refine v_zFV (ws' := (sw g A nb nl nc r b suf)) C (x_isSpoilt l g _ (bv r bi)) ok_X4_isSpoilt rfl q310 rfl (Nat.le_of_ble_eq_true rfl) (bi + 8) (sw_bin hb) rfl rfl dX1_refusal_105 (roomL rfl rfl) ⟨rfl, rfl⟩ (set_same (sw_bin hb)) ?_
            refine v_if_eqB C 116 dX1_refusal_108 (by decide) (fun c108_6 => ?_) (fun c108_6 => ?_)
            · skip
              refine v_iconst (v := 0) C dX1_refusal_116 (by decide) ?_
              exact v_iret C dX1_refusal_117 (Nat.le_of_ble_eq_true rfl) (Nat.le_of_ble_eq_true rfl) (by unfold s_ref; rw [if_neg c18_1, if_pos c41_2, if_pos c51_3, if_pos c80_4, if_pos c98_5, if_neg c108_6]; exact ⟨rfl, rfl⟩)
            · skip
              refine v_bipush (v := 6) C dX1_refusal_111 (by decide) ?_
              refine v_goto C 117 dX1_refusal_113 (by decide) ?_
              exact v_iret C dX1_refusal_117 (Nat.le_of_ble_eq_true rfl) (Nat.le_of_ble_eq_true rfl) (by unfold s_ref; rw [if_neg c18_1, if_pos c41_2, if_pos c51_3, if_pos c80_4, if_pos c98_5, if_pos c108_6]; exact ⟨rfl, rfl⟩)
          · skip
            refine v_iconst (v := 5) C dX1_refusal_101 (by decide) ?_
            exact v_iret C dX1_refusal_102 (Nat.le_of_ble_eq_true rfl) (Nat.le_of_ble_eq_true rfl) (by unfold s_ref; rw [if_neg c18_1, if_pos c41_2, if_pos c51_3, if_pos c80_4, if_neg c98_5]; exact ⟨rfl, rfl⟩)
        · skip
          refine v_iconst (v := 4) C dX1_refusal_83 (by decide) ?_
          exact v_iret C dX1_refusal_84 (Nat.le_of_ble_eq_true rfl) (Nat.le_of_ble_eq_true rfl) (by unfold s_ref; rw [if_neg c18_1, if_pos c41_2, if_pos c51_3, if_neg c80_4]; exact ⟨rfl, rfl⟩)
      · skip
        refine v_aload C dX1_refusal_54 0 rfl ?_
        refine v_getN C in_X4 rfl (bi + 8) (sw_bin hb) 5 (by decide) q609 (fun _ h => h) rfl dX1_refusal_56 ?_
        refine v_eqi (show _ = r (10 + 9 * bi + 5) from rfl) ?_
        refine v_iload_n C dX1_refusal_59 4 rfl ?_
        refine v_icmp_eq C 65 dX1_refusal_60 (by decide) (fun c60_7 => ?_) (fun c60_7 => ?_)
        · skip
          refine v_iload C dX1_refusal_65 6 rfl ?_
          refine v_aload C dX1_refusal_67 0 rfl ?_
          refine v_getN C in_X4 rfl (bi + 8) (sw_bin hb) 1 (by decide) q598 (fun _ h => h) rfl dX1_refusal_69 ?_
          refine v_eqi (show _ = r (10 + 9 * bi + 1) from rfl) ?_
          refine v_aload C dX1_refusal_72 0 rfl ?_
          refine v_getN C in_X4 rfl (bi + 8) (sw_bin hb) 2 (by decide) q601 (fun _ h => h) rfl dX1_refusal_74 ?_
          refine v_eqi (show _ = r (10 + 9 * bi + 2) from rfl) ?_
          refine v_callSNp C (x_isIn l g _ _ _) ok_X0_isIn rfl q309 rfl (Nat.le_of_ble_eq_true rfl) dX1_refusal_77 (roomL rfl rfl) ⟨rfl, rfl⟩ ?_
          refine v_if_neB C 85 dX1_refusal_80 (by decide) (fun c80_8 => ?_) (fun c80_8 => ?_)
          · skip
            refine v_aload C dX1_refusal_85 0 rfl ?_
            refine v_getN C in_X4 rfl (bi + 8) (sw_bin hb) 3 (by decide) q604 (fun _ h => h) rfl dX1_refusal_87 ?_
            refine v_eqi (show _ = r (10 + 9 * bi + 3) from rfl) ?_
            refine v_iload C dX1_refusal_90 5 rfl ?_
            refine v_iadd C dX1_refusal_92 ?_
            refine v_aload C dX1_refusal_93 0 rfl ?_
            refine v_getN C in_X4 rfl (bi + 8) (sw_bin hb) 0 (by decide) q595 (fun _ h => h) rfl dX1_refusal_95 ?_
            refine v_eqi (show _ = r (10 + 9 * bi + 0) from rfl) ?_
            refine v_icmp_le C 103 dX1_refusal_98 (by decide) (fun c98_9 => ?_) (fun c98_9 => ?_)
            · skip
              refine v_aload C dX1_refusal_103 0 rfl ?_
              refine v_zFV (ws' := (sw g A nb nl nc r b suf)) C (x_isSpoilt l g _ (bv r bi)) ok_X4_isSpoilt rfl q310 rfl (Nat.le_of_ble_eq_true rfl) (bi + 8) (sw_bin hb) rfl rfl dX1_refusal_105 (roomL rfl rfl) ⟨rfl, rfl⟩ (set_same (sw_bin hb)) ?_
              refine v_if_eqB C 116 dX1_refusal_108 (by decide) (fun c108_10 => ?_) (fun c108_10 => ?_)
              · skip
                refine v_iconst (v := 0) C dX1_refusal_116 (by decide) ?_
                exact v_iret C dX1_refusal_117 (Nat.le_of_ble_eq_true rfl) (Nat.le_of_ble_eq_true rfl) (by unfold s_ref; rw [if_neg c18_1, if_pos c41_2, if_neg c51_3, if_pos c60_7, if_pos c80_8, if_pos c98_9, if_neg c108_10]; exact ⟨rfl, rfl⟩)
              · skip
                refine v_bipush (v := 6) C dX1_refusal_111 (by decide) ?_
                refine v_goto C 117 dX1_refusal_113 (by decide) ?_
                exact v_iret C dX1_refusal_117 (Nat.le_of_ble_eq_true rfl) (Nat.le_of_ble_eq_true rfl) (by unfold s_ref; rw [if_neg c18_1, if_pos c41_2, if_neg c51_3, if_pos c60_7, if_pos c80_8, if_pos c98_9, if_pos c108_10]; exact ⟨rfl, rfl⟩)
            · skip
              refine v_iconst (v := 5) C dX1_refusal_101 (by decide) ?_
              exact v_iret C dX1_refusal_102 (Nat.le_of_ble_eq_true rfl) (Nat.le_of_ble_eq_true rfl) (by unfold s_ref; rw [if_neg c18_1, if_pos c41_2, if_neg c51_3, if_pos c60_7, if_pos c80_8, if_neg c98_9]; exact ⟨rfl, rfl⟩)
          · skip
            refine v_iconst (v := 4) C dX1_refusal_83 (by decide) ?_
            exact v_iret C dX1_refusal_84 (Nat.le_of_ble_eq_true rfl) (Nat.le_of_ble_eq_true rfl) (by unfold s_ref; rw [if_neg c18_1, if_pos c41_2, if_neg c51_3, if_pos c60_7, if_neg c80_8]; exact ⟨rfl, rfl⟩)
        · skip
          refine v_iconst (v := 3) C dX1_refusal_63 (by decide) ?_
          exact v_iret C dX1_refusal_64 (Nat.le_of_ble_eq_true rfl) (Nat.le_of_ble_eq_true rfl) (by unfold s_ref; rw [if_neg c18_1, if_pos c41_2, if_neg c51_3, if_neg c60_7]; exact ⟨rfl, rfl⟩)
    · skip
      refine v_iconst (v := 2) C dX1_refusal_44 (by decide) ?_
      exact v_iret C dX1_refusal_45 (Nat.le_of_ble_eq_true rfl) (Nat.le_of_ble_eq_true rfl) (by unfold s_ref; rw [if_neg c18_1, if_neg c41_2]; exact ⟨rfl, rfl⟩)
  · skip
    refine v_iconst (v := 1) C dX1_refusal_21 (by decide) ?_
    exact v_iret C dX1_refusal_22 (Nat.le_of_ble_eq_true rfl) (Nat.le_of_ble_eq_true rfl) (by unfold s_ref; rw [if_pos c18_1]; exact ⟨rfl, rfl⟩)
def s_mref (r : Nat → Int32) (le bi bj : Nat) (amt : Int32) : Int32 :=
  if amt ≤ r (10 + 9 * bi + 3) then
    if q_stands r le then s_ref r le bj (r (10 + 9 * bi + 5)) amt (p_share r bi amt / amt) else
    if q_leads r le (nI bi) then s_ref r le bj (r (10 + 9 * bi + 5)) amt (p_share r bi amt / amt) else 2
  else 7
def M_X1_moveRefusal : Md := (yX1_moveRefusal, cX1_moveRefusal, 6, (some .int), 6, 151, 0, 0)
theorem ok_X1_moveRefusal : MOKv M_X1_moveRefusal 4 := ⟨q412, q413, q90, q414, ⟨by decide +kernel, by decide +kernel, by decide +kernel⟩⟩
set_option maxHeartbeats 4000000 in
theorem x_moveRefusal (l : Launch) (g : GT) (A : Nat → Nat) (nb nl nc : Nat) (r : Nat → Int32) (b : Nat → Int64) (suf : va_W) (hnb : nb ≤ 8) (hnl : nl ≤ 3) (hnc : nc ≤ 6) (le : Nat) (hl : le < nl) (bi : Nat) (hb : bi < nb) (bj : Nat) (hj : bj < nb) (amt : Int32) (ha : ¬ amt = 0) (hz : amt ≤ r (10 + 9 * bi + 3) → ¬ amt = r (10 + 9 * bi + 3) → ¬ r (10 + 9 * bi + 3) = 0) : CtE l g M_X1_moveRefusal [.ref (A 0), .int (nI le), .int (nI bi), .int (nI bj), .int amt] (sw g A nb nl nc r b suf) (some (.int (s_mref r le bi bj amt))) (sw g A nb nl nc r b suf) := by
  refine Ct.start2 (M := M_X1_moveRefusal) rfl [(0, .ref (A 0)), (1, .int (nI le)), (2, .int (nI bi)), (3, .int (nI bj)), (4, .int amt)] rfl (by decide +kernel) (Nat.le_of_ble_eq_true rfl) ?_
  intro p e s m args below meth c A9 C
  refine v_aload_n C dX1_moveRefusal_0 0 rfl ?_
  refine v_get C in_X1 rfl 0 rfl 0 (by decide) q154 (fun _ h => h) rfl dX1_moveRefusal_1 ?_
  refine v_iload_n C dX1_moveRefusal_4 2 rfl ?_
  refine v_zMV (ws' := (sw g A nb nl nc r b suf)) C (j_get l g (A 1) (A 2) 8 (nI nb) nb (rfs A 10 nb) bi (A (10 + bi)) hb hnb (by decide) (rfs_at A 10 hb)) [_] rfl ok_J2_get rfl q286 rfl (Nat.le_of_ble_eq_true rfl) 0 rfl rfl rfl dX1_moveRefusal_5 (roomL rfl rfl) ⟨rfl, rfl⟩ rfl ?_
  refine v_castS (r := (RX4, TX4, 9)) C q300 (bi + 8) (sw_bin hb) rfl dX1_moveRefusal_8 ?_
  refine v_astore (lv' := [(5, _), (0, _), (1, _), (2, _), (3, _), (4, _)]) C dX1_moveRefusal_11 (by decide) rfl ?_
  refine v_aload C dX1_moveRefusal_13 0 rfl ?_
  refine v_getN C in_X4 rfl (bi + 8) (sw_bin hb) 3 (by decide) q604 (fun _ h => h) rfl dX1_moveRefusal_15 ?_
  refine v_eqi (show _ = r (10 + 9 * bi + 3) from rfl) ?_
  refine v_iload C dX1_moveRefusal_18 5 rfl ?_
  refine v_icmp_ge C 26 dX1_moveRefusal_20 (by decide) (fun c20_1 => ?_) (fun c20_1 => ?_)
  · skip
    have hz18 := hz c20_1
    refine v_aload_n C dX1_moveRefusal_26 1 rfl ?_
    refine v_iload_n C dX1_moveRefusal_27 2 rfl ?_
    refine v_callVw C (x_stands l g A nb nl nc r b suf hnb hnl hnc le hl) ok_X1_stands rfl q301 rfl (Nat.le_of_ble_eq_true rfl) 0 rfl rfl rfl dX1_moveRefusal_28 (roomL rfl rfl) ⟨rfl, rfl⟩ ?_
    refine v_if_neB C 57 dX1_moveRefusal_31 (by decide) (fun c31_2 => ?_) (fun c31_2 => ?_)
    · skip
      refine v_aload_n C dX1_moveRefusal_57 1 rfl ?_
      refine v_iload_n C dX1_moveRefusal_58 2 rfl ?_
      refine v_iload_n C dX1_moveRefusal_59 4 rfl ?_
      refine v_aload C dX1_moveRefusal_60 0 rfl ?_
      refine v_getN C in_X4 rfl (bi + 8) (sw_bin hb) 5 (by decide) q609 (fun _ h => h) rfl dX1_moveRefusal_62 ?_
      refine v_eqi (show _ = r (10 + 9 * bi + 5) from rfl) ?_
      refine v_iload C dX1_moveRefusal_65 5 rfl ?_
      refine v_aload C dX1_moveRefusal_67 0 rfl ?_
      refine v_iload C dX1_moveRefusal_69 5 rfl ?_
      refine v_zFV (ws' := (sw g A nb nl nc r b suf)) C (x_pointsOf l g _ (bv r bi) _ hz18) ok_X4_pointsOf rfl q415 rfl (Nat.le_of_ble_eq_true rfl) (bi + 8) (sw_bin hb) rfl rfl dX1_moveRefusal_71 (roomL rfl rfl) ⟨rfl, rfl⟩ (set_same (sw_bin hb)) ?_
      refine v_eqi (show _ = p_share r bi amt from rfl) ?_
      refine v_iload C dX1_moveRefusal_74 5 rfl ?_
      refine v_idiv C dX1_moveRefusal_76 ha ?_
      refine v_callVw C (x_refusal l g A nb nl nc r b suf hnb hnl hnc le hl bj hj _ _ _) ok_X1_refusal rfl q419 rfl (Nat.le_of_ble_eq_true rfl) 0 rfl rfl rfl dX1_moveRefusal_77 (roomL rfl rfl) ⟨rfl, rfl⟩ ?_
      exact v_iret C dX1_moveRefusal_80 (Nat.le_of_ble_eq_true rfl) (Nat.le_of_ble_eq_true rfl) (by unfold s_mref; rw [if_pos c20_1, if_pos c31_2]; exact ⟨rfl, rfl⟩)
    · skip
      refine v_aload_n C dX1_moveRefusal_34 1 rfl ?_
      refine v_get C in_X1 rfl 0 rfl 1 (by decide) q156 (fun _ h => h) rfl dX1_moveRefusal_35 ?_
      refine v_iload_n C dX1_moveRefusal_38 2 rfl ?_
      refine v_zMV (ws' := (sw g A nb nl nc r b suf)) C (j_get l g (A 3) (A 4) 3 (nI nl) nl (rfs A 20 nl) le (A (20 + le)) hl hnl (by decide) (rfs_at A 20 hl)) [_, _, _] rfl ok_J2_get rfl q286 rfl (Nat.le_of_ble_eq_true rfl) 0 rfl rfl rfl dX1_moveRefusal_39 (roomL rfl rfl) ⟨rfl, rfl⟩ rfl ?_
      refine v_castS (r := (RX5, TX5, 4)) C q305 (nb + le + 8) (sw_leg hl) rfl dX1_moveRefusal_42 ?_
      refine v_getN C in_X5 rfl (nb + le + 8) (sw_leg hl) 1 (by decide) q676 (fun _ h => h) rfl dX1_moveRefusal_45 ?_
      refine v_eqi (show _ = r (82 + 4 * le + 1) from rfl) ?_
      refine v_iload_n C dX1_moveRefusal_48 3 rfl ?_
      refine v_callSNp C (x_has l g _ _) ok_X0_has rfl q306 rfl (Nat.le_of_ble_eq_true rfl) dX1_moveRefusal_49 (roomL rfl rfl) ⟨rfl, rfl⟩ ?_
      refine v_if_neB C 57 dX1_moveRefusal_52 (by decide) (fun c52_3 => ?_) (fun c52_3 => ?_)
      · skip
        refine v_aload_n C dX1_moveRefusal_57 1 rfl ?_
        refine v_iload_n C dX1_moveRefusal_58 2 rfl ?_
        refine v_iload_n C dX1_moveRefusal_59 4 rfl ?_
        refine v_aload C dX1_moveRefusal_60 0 rfl ?_
        refine v_getN C in_X4 rfl (bi + 8) (sw_bin hb) 5 (by decide) q609 (fun _ h => h) rfl dX1_moveRefusal_62 ?_
        refine v_eqi (show _ = r (10 + 9 * bi + 5) from rfl) ?_
        refine v_iload C dX1_moveRefusal_65 5 rfl ?_
        refine v_aload C dX1_moveRefusal_67 0 rfl ?_
        refine v_iload C dX1_moveRefusal_69 5 rfl ?_
        refine v_zFV (ws' := (sw g A nb nl nc r b suf)) C (x_pointsOf l g _ (bv r bi) _ hz18) ok_X4_pointsOf rfl q415 rfl (Nat.le_of_ble_eq_true rfl) (bi + 8) (sw_bin hb) rfl rfl dX1_moveRefusal_71 (roomL rfl rfl) ⟨rfl, rfl⟩ (set_same (sw_bin hb)) ?_
        refine v_eqi (show _ = p_share r bi amt from rfl) ?_
        refine v_iload C dX1_moveRefusal_74 5 rfl ?_
        refine v_idiv C dX1_moveRefusal_76 ha ?_
        refine v_callVw C (x_refusal l g A nb nl nc r b suf hnb hnl hnc le hl bj hj _ _ _) ok_X1_refusal rfl q419 rfl (Nat.le_of_ble_eq_true rfl) 0 rfl rfl rfl dX1_moveRefusal_77 (roomL rfl rfl) ⟨rfl, rfl⟩ ?_
        exact v_iret C dX1_moveRefusal_80 (Nat.le_of_ble_eq_true rfl) (Nat.le_of_ble_eq_true rfl) (by unfold s_mref; rw [if_pos c20_1, if_neg c31_2, if_pos c52_3]; exact ⟨rfl, rfl⟩)
      · skip
        refine v_iconst (v := 2) C dX1_moveRefusal_55 (by decide) ?_
        exact v_iret C dX1_moveRefusal_56 (Nat.le_of_ble_eq_true rfl) (Nat.le_of_ble_eq_true rfl) (by unfold s_mref; rw [if_pos c20_1, if_neg c31_2, if_neg c52_3]; exact ⟨rfl, rfl⟩)
  · skip
    refine v_bipush (v := 7) C dX1_moveRefusal_23 (by decide) ?_
    exact v_iret C dX1_moveRefusal_25 (Nat.le_of_ble_eq_true rfl) (Nat.le_of_ble_eq_true rfl) (by unfold s_mref; rw [if_neg c20_1]; exact ⟨rfl, rfl⟩)
def M_X1_payFor : Md := (yX1_payFor, cX1_payFor, 4, (some .long), 1, 40, 0, 0)
theorem ok_X1_payFor : MOKv M_X1_payFor 3 := ⟨q372, q373, q90, q374, ⟨by decide +kernel, by decide +kernel, by decide +kernel⟩⟩
set_option maxHeartbeats 4000000 in
theorem x_payFor (l : Launch) (g : GT) (A : Nat → Nat) (nb nl nc : Nat) (r : Nat → Int32) (b : Nat → Int64) (suf : va_W) (hnb : nb ≤ 8) (hnl : nl ≤ 3) (hnc : nc ≤ 6) (kd : Nat) (hk : kd < 4) (u mo : Int32) : CtE l g M_X1_payFor [.ref (A 0), .int (nI kd), .int u, .int mo] (sw g A nb nl nc r b suf) (some (.long (s_pay r kd u mo))) (sw g A nb nl nc r b suf) := by
  refine Ct.start2 (M := M_X1_payFor) rfl [(0, .ref (A 0)), (1, .int (nI kd)), (2, .int u), (3, .int mo)] rfl (by decide +kernel) (Nat.le_of_ble_eq_true rfl) ?_
  intro p e s m args below meth c A9 C
  refine v_iload_n C dX1_payFor_0 2 rfl ?_
  refine v_i2l C dX1_payFor_1 ?_
  refine v_aload_n C dX1_payFor_2 0 rfl ?_
  refine v_get C in_X1 rfl 0 rfl 3 (by decide) q160 (fun _ h => h) rfl dX1_payFor_3 ?_
  refine v_iload_n C dX1_payFor_6 1 rfl ?_
  refine v_iald C dX1_payFor_7 7 rfl (ixn (by omega) (by decide)) ?_
  refine v_eqi (prF_at r hk) ?_
  refine v_i2l C dX1_payFor_8 ?_
  refine v_lmul C dX1_payFor_9 ?_
  refine v_sipush (v := 1000) C dX1_payFor_10 (by decide) ?_
  refine v_iconst (v := 2) C dX1_payFor_13 (by decide) ?_
  refine v_iconst (v := 0) C dX1_payFor_14 (by decide) ?_
  refine v_iload_n C dX1_payFor_15 3 rfl ?_
  refine v_sipush (v := 140) C dX1_payFor_16 (by decide) ?_
  refine v_isub C dX1_payFor_19 ?_
  refine v_mmax C q375 q376 q102 q377 dX1_payFor_20 (Nat.le_of_ble_eq_true rfl) (Nat.le_of_ble_eq_true rfl) (Nat.le_of_ble_eq_true rfl) (Nat.le_of_ble_eq_true rfl) ?_
  refine v_imul C dX1_payFor_23 ?_
  refine v_isub C dX1_payFor_24 ?_
  refine v_i2l C dX1_payFor_25 ?_
  refine v_lmul C dX1_payFor_26 ?_
  refine v_ldc2 C dX1_payFor_27 q378 ?_
  refine v_ldiv C dX1_payFor_30 (by decide) ?_
  exact v_lret C dX1_payFor_31 (Nat.le_of_ble_eq_true rfl) (Nat.le_of_ble_eq_true rfl) ⟨rfl, rfl⟩
def M_X1_units : Md := (yX1_units, cX1_units, 4, (some .long), 4, 104, 0, 0)
theorem ok_X1_units : MOKv M_X1_units 0 := ⟨q767, q768, q90, q769, ⟨by decide +kernel, by decide +kernel, by decide +kernel⟩⟩
set_option maxHeartbeats 4000000 in
theorem x_units (l : Launch) (g : GT) (A : Nat → Nat) (nb nl nc : Nat) (r : Nat → Int32) (b : Nat → Int64) (suf : va_W) (hnb : nb ≤ 8) (hnl : nl ≤ 3) (hnc : nc ≤ 6)  : CtE l g M_X1_units [.ref (A 0)] (sw g A nb nl nc r b suf) (some (.long (s_unit r nb))) (sw g A nb nl nc r b suf) := by
  refine Ct.start2 (M := M_X1_units) rfl [(0, .ref (A 0))] rfl (by decide +kernel) (Nat.le_of_ble_eq_true rfl) ?_
  intro p e s m args below meth c A9 C
  refine v_lconst (v := 0) C dX1_units_0 (by decide) ?_
  refine v_lstore_n (lv' := [(1, _), (0, _)]) C dX1_units_1 rfl (by decide) rfl ?_
  refine v_iconst (v := 0) C dX1_units_2 (by decide) ?_
  refine v_istore_n (lv' := [(3, _), (1, _), (0, _)]) C dX1_units_3 rfl (by decide) rfl ?_
  refine v_loop 0 nb (fun k => [(3, .int (nI k)), (1, .long (s_unit r k)), (0, .ref (A 0))]) (fun k => (sw g A nb nl nc r b suf)) rfl rfl (by omega) ?_ ?_
  · skip
    refine v_iload_n C dX1_units_4 0 rfl ?_
    refine v_aload_n C dX1_units_5 2 rfl ?_
    refine v_get C in_X1 rfl 0 rfl 0 (by decide) q154 (fun _ h => h) rfl dX1_units_6 ?_
    refine v_zMV (ws' := (sw g A nb nl nc r b suf)) C (j_size l g (A 1) (A 2) 8 (nI nb) nb (rfs A 10 nb)) [_] rfl ok_J2_size rfl q341 rfl (Nat.le_of_ble_eq_true rfl) 0 rfl rfl rfl dX1_units_9 (roomL rfl rfl) ⟨rfl, rfl⟩ rfl ?_
    refine v_icmp_ge C 39 dX1_units_12 (by decide) (fun c12_1 => ?_) (fun c12_1 => ?_)
    · skip
      refine v_lload_n C dX1_units_39 1 rfl ?_
      exact v_lret C dX1_units_40 (Nat.le_of_ble_eq_true rfl) (Nat.le_of_ble_eq_true rfl) ⟨rfl, rfl⟩
    · exact absurd (Int32.le_refl _) c12_1
  · intro k hk hk0 hback
    refine v_iload_n C dX1_units_4 0 rfl ?_
    refine v_aload_n C dX1_units_5 2 rfl ?_
    refine v_get C in_X1 rfl 0 rfl 0 (by decide) q154 (fun _ h => h) rfl dX1_units_6 ?_
    refine v_zMV (ws' := (sw g A nb nl nc r b suf)) C (j_size l g (A 1) (A 2) 8 (nI nb) nb (rfs A 10 nb)) [_] rfl ok_J2_size rfl q341 rfl (Nat.le_of_ble_eq_true rfl) 0 rfl rfl rfl dX1_units_9 (roomL rfl rfl) ⟨rfl, rfl⟩ rfl ?_
    refine v_icmp_ge C 39 dX1_units_12 (by decide) (fun c12_2 => ?_) (fun c12_2 => ?_)
    · exact absurd c12_2 (nI_ge hk (by first | decide | omega))
    · skip
      refine v_lload_n C dX1_units_15 1 rfl ?_
      refine v_aload_n C dX1_units_16 2 rfl ?_
      refine v_get C in_X1 rfl 0 rfl 0 (by decide) q154 (fun _ h => h) rfl dX1_units_17 ?_
      refine v_iload_n C dX1_units_20 0 rfl ?_
      refine v_zMV (ws' := (sw g A nb nl nc r b suf)) C (j_get l g (A 1) (A 2) 8 (nI nb) nb (rfs A 10 nb) k (A (10 + k)) hk hnb (by decide) (rfs_at A 10 hk)) [_] rfl ok_J2_get rfl q286 rfl (Nat.le_of_ble_eq_true rfl) 0 rfl rfl rfl dX1_units_21 (roomL rfl rfl) ⟨rfl, rfl⟩ rfl ?_
      refine v_castS (r := (RX4, TX4, 9)) C q300 (k + 8) (sw_bin hk) rfl dX1_units_24 ?_
      refine v_getN C in_X4 rfl (k + 8) (sw_bin hk) 3 (by decide) q604 (fun _ h => h) rfl dX1_units_27 ?_
      refine v_eqi (show _ = r (10 + 9 * k + 3) from rfl) ?_
      refine v_i2l C dX1_units_30 ?_
      refine v_ladd C dX1_units_31 ?_
      refine v_lstore_n (lv' := [(1, _), (3, _), (0, _)]) C dX1_units_32 rfl (by decide) rfl ?_
      refine v_iinc (lv' := [(3, _), (1, _), (0, _)]) C dX1_units_33 1 rfl (nI_1 k) (by decide) rfl ?_
      refine v_goto C 4 dX1_units_36 (by decide) ?_
      exact hback
def M_X1_points : Md := (yX1_points, cX1_points, 3, (some .int), 4, 104, 0, 0)
theorem ok_X1_points : MOKv M_X1_points 0 := ⟨q771, q772, q90, q773, ⟨by decide +kernel, by decide +kernel, by decide +kernel⟩⟩
set_option maxHeartbeats 4000000 in
theorem x_points (l : Launch) (g : GT) (A : Nat → Nat) (nb nl nc : Nat) (r : Nat → Int32) (b : Nat → Int64) (suf : va_W) (hnb : nb ≤ 8) (hnl : nl ≤ 3) (hnc : nc ≤ 6)  : CtE l g M_X1_points [.ref (A 0)] (sw g A nb nl nc r b suf) (some (.int (sumF r 4 nb))) (sw g A nb nl nc r b suf) := by
  refine Ct.start2 (M := M_X1_points) rfl [(0, .ref (A 0))] rfl (by decide +kernel) (Nat.le_of_ble_eq_true rfl) ?_
  intro p e s m args below meth c A9 C
  refine v_iconst (v := 0) C dX1_points_0 (by decide) ?_
  refine v_istore_n (lv' := [(1, _), (0, _)]) C dX1_points_1 rfl (by decide) rfl ?_
  refine v_iconst (v := 0) C dX1_points_2 (by decide) ?_
  refine v_istore_n (lv' := [(2, _), (1, _), (0, _)]) C dX1_points_3 rfl (by decide) rfl ?_
  refine v_loop 0 nb (fun k => [(2, .int (nI k)), (1, .int (sumF r 4 k)), (0, .ref (A 0))]) (fun k => (sw g A nb nl nc r b suf)) rfl rfl (by omega) ?_ ?_
  · skip
    refine v_iload_n C dX1_points_4 0 rfl ?_
    refine v_aload_n C dX1_points_5 2 rfl ?_
    refine v_get C in_X1 rfl 0 rfl 0 (by decide) q154 (fun _ h => h) rfl dX1_points_6 ?_
    refine v_zMV (ws' := (sw g A nb nl nc r b suf)) C (j_size l g (A 1) (A 2) 8 (nI nb) nb (rfs A 10 nb)) [_] rfl ok_J2_size rfl q341 rfl (Nat.le_of_ble_eq_true rfl) 0 rfl rfl rfl dX1_points_9 (roomL rfl rfl) ⟨rfl, rfl⟩ rfl ?_
    refine v_icmp_ge C 38 dX1_points_12 (by decide) (fun c12_1 => ?_) (fun c12_1 => ?_)
    · skip
      refine v_iload_n C dX1_points_38 1 rfl ?_
      exact v_iret C dX1_points_39 (Nat.le_of_ble_eq_true rfl) (Nat.le_of_ble_eq_true rfl) ⟨rfl, rfl⟩
    · exact absurd (Int32.le_refl _) c12_1
  · intro k hk hk0 hback
    refine v_iload_n C dX1_points_4 0 rfl ?_
    refine v_aload_n C dX1_points_5 2 rfl ?_
    refine v_get C in_X1 rfl 0 rfl 0 (by decide) q154 (fun _ h => h) rfl dX1_points_6 ?_
    refine v_zMV (ws' := (sw g A nb nl nc r b suf)) C (j_size l g (A 1) (A 2) 8 (nI nb) nb (rfs A 10 nb)) [_] rfl ok_J2_size rfl q341 rfl (Nat.le_of_ble_eq_true rfl) 0 rfl rfl rfl dX1_points_9 (roomL rfl rfl) ⟨rfl, rfl⟩ rfl ?_
    refine v_icmp_ge C 38 dX1_points_12 (by decide) (fun c12_2 => ?_) (fun c12_2 => ?_)
    · exact absurd c12_2 (nI_ge hk (by first | decide | omega))
    · skip
      refine v_iload_n C dX1_points_15 1 rfl ?_
      refine v_aload_n C dX1_points_16 2 rfl ?_
      refine v_get C in_X1 rfl 0 rfl 0 (by decide) q154 (fun _ h => h) rfl dX1_points_17 ?_
      refine v_iload_n C dX1_points_20 0 rfl ?_
      refine v_zMV (ws' := (sw g A nb nl nc r b suf)) C (j_get l g (A 1) (A 2) 8 (nI nb) nb (rfs A 10 nb) k (A (10 + k)) hk hnb (by decide) (rfs_at A 10 hk)) [_] rfl ok_J2_get rfl q286 rfl (Nat.le_of_ble_eq_true rfl) 0 rfl rfl rfl dX1_points_21 (roomL rfl rfl) ⟨rfl, rfl⟩ rfl ?_
      refine v_castS (r := (RX4, TX4, 9)) C q300 (k + 8) (sw_bin hk) rfl dX1_points_24 ?_
      refine v_getN C in_X4 rfl (k + 8) (sw_bin hk) 4 (by decide) q607 (fun _ h => h) rfl dX1_points_27 ?_
      refine v_eqi (show _ = r (10 + 9 * k + 4) from rfl) ?_
      refine v_iadd C dX1_points_30 ?_
      refine v_istore_n (lv' := [(1, _), (2, _), (0, _)]) C dX1_points_31 rfl (by decide) rfl ?_
      refine v_iinc (lv' := [(2, _), (1, _), (0, _)]) C dX1_points_32 1 rfl (nI_1 k) (by decide) rfl ?_
      refine v_goto C 4 dX1_points_35 (by decide) ?_
      exact hback
def M_X1_minutesOf : Md := (yX1_minutesOf, cX1_minutesOf, 3, (some .int), 4, 104, 0, 0)
theorem ok_X1_minutesOf : MOKv M_X1_minutesOf 2 := ⟨q319, q320, q90, q321, ⟨by decide +kernel, by decide +kernel, by decide +kernel⟩⟩
set_option maxHeartbeats 4000000 in
theorem x_minutesOf (l : Launch) (g : GT) (A : Nat → Nat) (nb nl nc : Nat) (r : Nat → Int32) (b : Nat → Int64) (suf : va_W) (hnb : nb ≤ 8) (hnl : nl ≤ 3) (hnc : nc ≤ 6) (le : Nat) (hl : le < nl) (u : Int32) (hz : ¬ r (82 + 4 * le + 0) = 0) : CtE l g M_X1_minutesOf [.ref (A 0), .int (nI le), .int u] (sw g A nb nl nc r b suf) (some (.int (p_min u (r (82 + 4 * le + 0))))) (sw g A nb nl nc r b suf) := by
  refine Ct.start2 (M := M_X1_minutesOf) rfl [(0, .ref (A 0)), (1, .int (nI le)), (2, .int u)] rfl (by decide +kernel) (Nat.le_of_ble_eq_true rfl) ?_
  intro p e s m args below meth c A9 C
  refine v_iload_n C dX1_minutesOf_0 2 rfl ?_
  refine v_aload_n C dX1_minutesOf_1 0 rfl ?_
  refine v_get C in_X1 rfl 0 rfl 1 (by decide) q156 (fun _ h => h) rfl dX1_minutesOf_2 ?_
  refine v_iload_n C dX1_minutesOf_5 1 rfl ?_
  refine v_zMV (ws' := (sw g A nb nl nc r b suf)) C (j_get l g (A 3) (A 4) 3 (nI nl) nl (rfs A 20 nl) le (A (20 + le)) hl hnl (by decide) (rfs_at A 20 hl)) [_, _, _] rfl ok_J2_get rfl q286 rfl (Nat.le_of_ble_eq_true rfl) 0 rfl rfl rfl dX1_minutesOf_6 (roomL rfl rfl) ⟨rfl, rfl⟩ rfl ?_
  refine v_castS (r := (RX5, TX5, 4)) C q305 (nb + le + 8) (sw_leg hl) rfl dX1_minutesOf_9 ?_
  refine v_getN C in_X5 rfl (nb + le + 8) (sw_leg hl) 0 (by decide) q673 (fun _ h => h) rfl dX1_minutesOf_12 ?_
  refine v_eqi (show _ = r (82 + 4 * le + 0) from rfl) ?_
  refine v_callSNp C (x_minutesFor l g _ _ hz) ok_X0_minutesFor rfl q322 rfl (Nat.le_of_ble_eq_true rfl) dX1_minutesOf_15 (roomL rfl rfl) ⟨rfl, rfl⟩ ?_
  exact v_iret C dX1_minutesOf_18 (Nat.le_of_ble_eq_true rfl) (Nat.le_of_ble_eq_true rfl) ⟨rfl, rfl⟩
def M_X1_pass : Md := (yX1_pass, cX1_pass, 3, none, 4, 104, 0, 0)
theorem ok_X1_pass : MOKv M_X1_pass 1 := ⟨q338, q339, q90, q340, ⟨by decide +kernel, by decide +kernel, by decide +kernel⟩⟩
set_option maxHeartbeats 4000000 in
theorem x_spass (l : Launch) (g : GT) (A : Nat → Nat) (nb nl nc : Nat) (r : Nat → Int32) (b : Nat → Int64) (suf : va_W) (hnb : nb ≤ 8) (hnl : nl ≤ 3) (hnc : nc ≤ 6) (mi : Int32) : CtE l g M_X1_pass [.ref (A 0), .int mi] (sw g A nb nl nc r b suf) none (sw g A nb nl nc (upd (s_pass mi r nb) 0 (s_pass mi r nb 0 + mi)) b suf) := by
  refine Ct.start2 (M := M_X1_pass) rfl [(0, .ref (A 0)), (1, .int mi)] rfl (by decide +kernel) (Nat.le_of_ble_eq_true rfl) ?_
  intro p e s m args below meth c A9 C
  refine v_iconst (v := 0) C dX1_pass_0 (by decide) ?_
  refine v_istore_n (lv' := [(2, _), (0, _), (1, _)]) C dX1_pass_1 rfl (by decide) rfl ?_
  refine v_loop 0 nb (fun k => [(2, .int (nI k)), (0, .ref (A 0)), (1, .int mi)]) (fun k => (sw g A nb nl nc (s_pass mi r k) b suf)) rfl rfl (by omega) ?_ ?_
  · skip
    refine v_iload_n C dX1_pass_2 0 rfl ?_
    refine v_aload_n C dX1_pass_3 1 rfl ?_
    refine v_get C in_X1 rfl 0 rfl 0 (by decide) q154 (fun _ h => h) rfl dX1_pass_4 ?_
    refine v_zMV (ws' := (sw g A nb nl nc (s_pass mi r nb) b suf)) C (j_size l g (A 1) (A 2) 8 (nI nb) nb (rfs A 10 nb)) [_] rfl ok_J2_size rfl q341 rfl (Nat.le_of_ble_eq_true rfl) 0 rfl rfl rfl dX1_pass_7 (roomL rfl rfl) ⟨rfl, rfl⟩ rfl ?_
    refine v_icmp_ge C 34 dX1_pass_10 (by decide) (fun c10_1 => ?_) (fun c10_1 => ?_)
    · skip
      refine v_aload_n C dX1_pass_34 1 rfl ?_
      refine v_dup C dX1_pass_35 rfl ?_
      refine v_get C in_X1 rfl 0 rfl 4 (by decide) q162 (fun _ h => h) rfl dX1_pass_36 ?_
      refine v_iload_n C dX1_pass_39 2 rfl ?_
      refine v_iadd C dX1_pass_40 ?_
      refine v_put (ws' := (sw g A nb nl nc (upd (s_pass mi r nb) 0 _) b suf)) C in_X1 tyX1 tyX1_ok nmX1 rfl 0 rfl 4 (by decide) q162 (fun _ h => h) rfl rfl rfl (Nat.le_of_ble_eq_true rfl) dX1_pass_41 (sw_clock _) ?_
      exact v_vret C dX1_pass_44 (Nat.le_of_ble_eq_true rfl) (Nat.le_of_ble_eq_true rfl) ⟨rfl, rfl⟩
    · exact absurd (Int32.le_refl _) c10_1
  · intro k hk hk0 hback
    refine v_iload_n C dX1_pass_2 0 rfl ?_
    refine v_aload_n C dX1_pass_3 1 rfl ?_
    refine v_get C in_X1 rfl 0 rfl 0 (by decide) q154 (fun _ h => h) rfl dX1_pass_4 ?_
    refine v_zMV (ws' := (sw g A nb nl nc (s_pass mi r k) b suf)) C (j_size l g (A 1) (A 2) 8 (nI nb) nb (rfs A 10 nb)) [_] rfl ok_J2_size rfl q341 rfl (Nat.le_of_ble_eq_true rfl) 0 rfl rfl rfl dX1_pass_7 (roomL rfl rfl) ⟨rfl, rfl⟩ rfl ?_
    refine v_icmp_ge C 34 dX1_pass_10 (by decide) (fun c10_2 => ?_) (fun c10_2 => ?_)
    · exact absurd c10_2 (nI_ge hk (by first | decide | omega))
    · skip
      refine v_aload_n C dX1_pass_13 1 rfl ?_
      refine v_get C in_X1 rfl 0 rfl 0 (by decide) q154 (fun _ h => h) rfl dX1_pass_14 ?_
      refine v_iload_n C dX1_pass_17 0 rfl ?_
      refine v_zMV (ws' := (sw g A nb nl nc (s_pass mi r k) b suf)) C (j_get l g (A 1) (A 2) 8 (nI nb) nb (rfs A 10 nb) k (A (10 + k)) hk hnb (by decide) (rfs_at A 10 hk)) [_] rfl ok_J2_get rfl q286 rfl (Nat.le_of_ble_eq_true rfl) 0 rfl rfl rfl dX1_pass_18 (roomL rfl rfl) ⟨rfl, rfl⟩ rfl ?_
      refine v_castS (r := (RX4, TX4, 9)) C q300 (k + 8) (sw_bin hk) rfl dX1_pass_21 ?_
      refine v_iload_n C dX1_pass_24 2 rfl ?_
      refine v_zFVv (ws' := (sw g A nb nl nc (s_pass mi r (k + 1)) b suf)) C (x_bpass l g _ (bv (s_pass mi r k) k) _) ok_X4_pass rfl q342 rfl (Nat.le_of_ble_eq_true rfl) (k + 8) (sw_bin hk) rfl rfl dX1_pass_25 (roomL rfl rfl) ⟨rfl, rfl⟩ (sw_setB hk hnb pb_in pb_out) ?_
      refine v_iinc (lv' := [(2, _), (0, _), (1, _)]) C dX1_pass_28 0 rfl (nI_1 k) (by decide) rfl ?_
      refine v_goto C 2 dX1_pass_31 (by decide) ?_
      exact hback
