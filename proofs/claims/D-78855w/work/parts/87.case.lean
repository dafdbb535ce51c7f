/-! the law: its cases -/
set_option maxRecDepth 100000
abbrev lvL (b : Nat) (a a2 : Nat → Nat) (i : Nat) : List (Nat × Value) := [(3, .int (nI i)), (0, .ref b), (1, .ref (a 0)), (2, .ref (a2 0))]
theorem XR.tok {g : GT} {a : Nat → Nat} {K : KT} {T : (Nat → Int32) × Int32} {w : va_W} (h : XR g a K T w) : TOk T := by
  obtain ⟨A, od, us, tk, bn, d1, hd, tl, f, im, t1, mb, ko, fo, dd, hist, kp, G, hP, hD, hT⟩ := h
  exact hT
section LC
variable {p : Program} {l : Launch} {e : Env} {s : State} {m : MethodId} {args : Array Value} {below : List Frame} {meth : Method} {c : Code} {g : GT} {A : Nat → Prop} {Q : State → Prop}
theorem sx1 {i L : Nat} (h : i + 6 ≤ L) (hL : L ≤ 384) : ixOk (nI i + 1) L (i + 1) := sx_ix (k := 1) h hL (by decide)
theorem sx2 {i L : Nat} (h : i + 6 ≤ L) (hL : L ≤ 384) : ixOk (nI i + 2) L (i + 2) := sx_ix (k := 2) h hL (by decide)
theorem sx3 {i L : Nat} (h : i + 6 ≤ L) (hL : L ≤ 384) : ixOk (nI i + 3) L (i + 3) := sx_ix (k := 3) h hL (by decide)
theorem sx4 {i L : Nat} (h : i + 6 ≤ L) (hL : L ≤ 384) : ixOk (nI i + 4) L (i + 4) := sx_ix (k := 4) h hL (by decide)
theorem sx5 {i L : Nat} (h : i + 6 ≤ L) (hL : L ≤ 384) : ixOk (nI i + 5) L (i + 5) := sx_ix (k := 5) h hL (by decide)
set_option maxHeartbeats 1000000 in
theorem law_c0 (C : Cx p s m args meth c g A x code 4 ret) {b L : Nat} {xs : Nat → Int32} (hX : SX s A b L xs) {a a2 : Nat → Nat} {i cells slots : Nat} (hi : i + 6 ≤ L) (hc : cells + 160 ≤ 600000) (hs : slots + 1000 ≤ 7302250) {K : KT} {T : (Nat → Int32) × Int32} {B : (Nat → Int32) × Int32 × (Nat → Int32)} {P : Int32 × Int32 × (Nat → Int32) × Int32 × Int32} {h : Int64} {w ws : va_W} (hK : KS K) (hR : XR g a K T w) (hp : ws.Perm (w ++ mw g a2 K.1 K.2.1 K.2.2 B T P h))
    (next : ∀ (K : KT) (T : (Nat → Int32) × Int32) (B : (Nat → Int32) × Int32 × (Nat → Int32)) (P : Int32 × Int32 × (Nat → Int32) × Int32 × Int32) (h : Int64) (w ws : va_W) (cells2 slots2 : Nat), cells2 ≤ cells + 160 → slots2 ≤ slots + 1000 → KS K → XR g a K T w → ws.Perm (w ++ mw g a2 K.1 K.2.1 K.2.2 B T P h) → V p l e room_1 s m args below meth c g A 4 cells2 slots2 Q 1403 (lvL b a a2 i) [] ws) : V p l e room_1 s m args below meth c g A 4 cells slots Q 204 (lvL b a a2 i) [] ws := by
  have hT := hR.tok
  refine v_aload_n C dL_law_204 2 rfl ?_
  refine v_aload_n C dL_law_205 1 rfl ?_
  refine v_iload_n C dL_law_206 0 rfl ?_
  refine v_iconst (v := 1) C dL_law_207 (by decide) ?_
  refine v_iadd C dL_law_208 ?_
  refine v_sld C hX dL_law_209 (sx1 hi hX.2.2.2) ?_
  refine v_callX C (xk_addBin hK (xs (i + 1)) w hR) ok_X0_addBin rfl q513 rfl (Nat.le_of_ble_eq_true rfl) rfl dL_law_210 (roomN rfl (show cells + 26 ≤ 600000 by omega) (show slots + 173 ≤ 7302250 by omega)) hp (fun rv w1 hw => ?_)
  obtain ⟨rfl, hR1⟩ := hw
  refine v_aload_n C dL_law_213 3 rfl ?_
  refine v_aload_n C dL_law_214 1 rfl ?_
  refine v_iload_n C dL_law_215 0 rfl ?_
  refine v_iconst (v := 1) C dL_law_216 (by decide) ?_
  refine v_iadd C dL_law_217 ?_
  refine v_sld C hX dL_law_218 (sx1 hi hX.2.2.2) ?_
  refine v_callV C (m_addBin l g a2 K B T P h hK.1 (xs (i + 1))) ok_X3_addBin rfl q1214 rfl (Nat.le_of_ble_eq_true rfl) 0 rfl (ci := 3) rfl rfl dL_law_219 (roomN rfl (show cells + 26 + 0 ≤ 600000 by omega) (show slots + 173 + 0 ≤ 7302250 by omega)) (wr := w1) List.perm_append_comm ?_
  rintro rv w2 ⟨rfl, rfl⟩
  refine v_icmp_eq C 1403 dL_law_222 (by decide) (fun _ => ?_) (fun hne => absurd (rfl) hne)
  exact next (p_addBin K (xs (i + 1))).2 T _ _ _ w1 _ _ _ (show cells + 26 + 0 ≤ cells + 160 by omega) (show slots + 173 + 0 ≤ slots + 1000 by omega) (kx_addBin hK (xs (i + 1))).2.1 hR1 List.perm_append_comm
set_option maxHeartbeats 1000000 in
theorem law_c1 (C : Cx p s m args meth c g A x code 4 ret) {b L : Nat} {xs : Nat → Int32} (hX : SX s A b L xs) {a a2 : Nat → Nat} {i cells slots : Nat} (hi : i + 6 ≤ L) (hc : cells + 160 ≤ 600000) (hs : slots + 1000 ≤ 7302250) {K : KT} {T : (Nat → Int32) × Int32} {B : (Nat → Int32) × Int32 × (Nat → Int32)} {P : Int32 × Int32 × (Nat → Int32) × Int32 × Int32} {h : Int64} {w ws : va_W} (hK : KS K) (hR : XR g a K T w) (hp : ws.Perm (w ++ mw g a2 K.1 K.2.1 K.2.2 B T P h))
    (next : ∀ (K : KT) (T : (Nat → Int32) × Int32) (B : (Nat → Int32) × Int32 × (Nat → Int32)) (P : Int32 × Int32 × (Nat → Int32) × Int32 × Int32) (h : Int64) (w ws : va_W) (cells2 slots2 : Nat), cells2 ≤ cells + 160 → slots2 ≤ slots + 1000 → KS K → XR g a K T w → ws.Perm (w ++ mw g a2 K.1 K.2.1 K.2.2 B T P h) → V p l e room_1 s m args below meth c g A 4 cells2 slots2 Q 1403 (lvL b a a2 i) [] ws) : V p l e room_1 s m args below meth c g A 4 cells slots Q 227 (lvL b a a2 i) [] ws := by
  have hT := hR.tok
  refine v_aload_n C dL_law_227 2 rfl ?_
  refine v_aload_n C dL_law_228 1 rfl ?_
  refine v_iload_n C dL_law_229 0 rfl ?_
  refine v_iconst (v := 1) C dL_law_230 (by decide) ?_
  refine v_iadd C dL_law_231 ?_
  refine v_sld C hX dL_law_232 (sx1 hi hX.2.2.2) ?_
  refine v_aload_n C dL_law_233 1 rfl ?_
  refine v_iload_n C dL_law_234 0 rfl ?_
  refine v_iconst (v := 2) C dL_law_235 (by decide) ?_
  refine v_iadd C dL_law_236 ?_
  refine v_sld C hX dL_law_237 (sx2 hi hX.2.2.2) ?_
  refine v_aload_n C dL_law_238 1 rfl ?_
  refine v_iload_n C dL_law_239 0 rfl ?_
  refine v_iconst (v := 3) C dL_law_240 (by decide) ?_
  refine v_iadd C dL_law_241 ?_
  refine v_sld C hX dL_law_242 (sx3 hi hX.2.2.2) ?_
  refine v_callX C (xk_setBand hK (xs (i + 1)) (xs (i + 2)) (xs (i + 3)) w hR) ok_X0_setBand rfl q725 rfl (Nat.le_of_ble_eq_true rfl) rfl dL_law_243 (roomN rfl (show cells + 25 ≤ 600000 by omega) (show slots + 164 ≤ 7302250 by omega)) hp (fun rv w1 hw => ?_)
  obtain ⟨rfl, hR1⟩ := hw
  refine v_aload_n C dL_law_246 3 rfl ?_
  refine v_aload_n C dL_law_247 1 rfl ?_
  refine v_iload_n C dL_law_248 0 rfl ?_
  refine v_iconst (v := 1) C dL_law_249 (by decide) ?_
  refine v_iadd C dL_law_250 ?_
  refine v_sld C hX dL_law_251 (sx1 hi hX.2.2.2) ?_
  refine v_aload_n C dL_law_252 1 rfl ?_
  refine v_iload_n C dL_law_253 0 rfl ?_
  refine v_iconst (v := 2) C dL_law_254 (by decide) ?_
  refine v_iadd C dL_law_255 ?_
  refine v_sld C hX dL_law_256 (sx2 hi hX.2.2.2) ?_
  refine v_aload_n C dL_law_257 1 rfl ?_
  refine v_iload_n C dL_law_258 0 rfl ?_
  refine v_iconst (v := 3) C dL_law_259 (by decide) ?_
  refine v_iadd C dL_law_260 ?_
  refine v_sld C hX dL_law_261 (sx3 hi hX.2.2.2) ?_
  refine v_callV C (m_setBand l g a2 K B T P h hK.1 (xs (i + 1)) (xs (i + 2)) (xs (i + 3))) ok_X3_setBand rfl q1233 rfl (Nat.le_of_ble_eq_true rfl) 0 rfl (ci := 3) rfl rfl dL_law_262 (roomN rfl (show cells + 25 + 0 ≤ 600000 by omega) (show slots + 164 + 0 ≤ 7302250 by omega)) (wr := w1) List.perm_append_comm ?_
  rintro rv w2 ⟨rfl, rfl⟩
  refine v_icmp_eq C 1403 dL_law_265 (by decide) (fun _ => ?_) (fun hne => absurd (rfl) hne)
  exact next (p_setBand K (xs (i + 1)) (xs (i + 2)) (xs (i + 3))).2 T _ _ _ w1 _ _ _ (show cells + 25 + 0 ≤ cells + 160 by omega) (show slots + 164 + 0 ≤ slots + 1000 by omega) (kx_setBand hK (xs (i + 1)) (xs (i + 2)) (xs (i + 3))).2.1 hR1 List.perm_append_comm
set_option maxHeartbeats 1000000 in
theorem law_c2 (C : Cx p s m args meth c g A x code 4 ret) {b L : Nat} {xs : Nat → Int32} (hX : SX s A b L xs) {a a2 : Nat → Nat} {i cells slots : Nat} (hi : i + 6 ≤ L) (hc : cells + 160 ≤ 600000) (hs : slots + 1000 ≤ 7302250) {K : KT} {T : (Nat → Int32) × Int32} {B : (Nat → Int32) × Int32 × (Nat → Int32)} {P : Int32 × Int32 × (Nat → Int32) × Int32 × Int32} {h : Int64} {w ws : va_W} (hK : KS K) (hR : XR g a K T w) (hp : ws.Perm (w ++ mw g a2 K.1 K.2.1 K.2.2 B T P h))
    (next : ∀ (K : KT) (T : (Nat → Int32) × Int32) (B : (Nat → Int32) × Int32 × (Nat → Int32)) (P : Int32 × Int32 × (Nat → Int32) × Int32 × Int32) (h : Int64) (w ws : va_W) (cells2 slots2 : Nat), cells2 ≤ cells + 160 → slots2 ≤ slots + 1000 → KS K → XR g a K T w → ws.Perm (w ++ mw g a2 K.1 K.2.1 K.2.2 B T P h) → V p l e room_1 s m args below meth c g A 4 cells2 slots2 Q 1403 (lvL b a a2 i) [] ws) : V p l e room_1 s m args below meth c g A 4 cells slots Q 270 (lvL b a a2 i) [] ws := by
  have hT := hR.tok
  refine v_aload_n C dL_law_270 2 rfl ?_
  refine v_aload_n C dL_law_271 1 rfl ?_
  refine v_iload_n C dL_law_272 0 rfl ?_
  refine v_iconst (v := 1) C dL_law_273 (by decide) ?_
  refine v_iadd C dL_law_274 ?_
  refine v_sld C hX dL_law_275 (sx1 hi hX.2.2.2) ?_
  refine v_callX C (xk_addLeg hK (xs (i + 1)) w hR) ok_X0_addLeg rfl q729 rfl (Nat.le_of_ble_eq_true rfl) rfl dL_law_276 (roomN rfl (show cells + 26 ≤ 600000 by omega) (show slots + 168 ≤ 7302250 by omega)) hp (fun rv w1 hw => ?_)
  obtain ⟨rfl, hR1⟩ := hw
  refine v_aload_n C dL_law_279 3 rfl ?_
  refine v_aload_n C dL_law_280 1 rfl ?_
  refine v_iload_n C dL_law_281 0 rfl ?_
  refine v_iconst (v := 1) C dL_law_282 (by decide) ?_
  refine v_iadd C dL_law_283 ?_
  refine v_sld C hX dL_law_284 (sx1 hi hX.2.2.2) ?_
  refine v_callV C (m_addLeg l g a2 K B T P h hK.1 (xs (i + 1))) ok_X3_addLeg rfl q1245 rfl (Nat.le_of_ble_eq_true rfl) 0 rfl (ci := 3) rfl rfl dL_law_285 (roomN rfl (show cells + 26 + 0 ≤ 600000 by omega) (show slots + 168 + 0 ≤ 7302250 by omega)) (wr := w1) List.perm_append_comm ?_
  rintro rv w2 ⟨rfl, rfl⟩
  refine v_icmp_eq C 1403 dL_law_288 (by decide) (fun _ => ?_) (fun hne => absurd (rfl) hne)
  exact next (p_addLeg K (xs (i + 1))).2 T _ _ _ w1 _ _ _ (show cells + 26 + 0 ≤ cells + 160 by omega) (show slots + 168 + 0 ≤ slots + 1000 by omega) (kx_addLeg hK (xs (i + 1))).2.1 hR1 List.perm_append_comm
set_option maxHeartbeats 1000000 in
theorem law_c3 (C : Cx p s m args meth c g A x code 4 ret) {b L : Nat} {xs : Nat → Int32} (hX : SX s A b L xs) {a a2 : Nat → Nat} {i cells slots : Nat} (hi : i + 6 ≤ L) (hc : cells + 160 ≤ 600000) (hs : slots + 1000 ≤ 7302250) {K : KT} {T : (Nat → Int32) × Int32} {B : (Nat → Int32) × Int32 × (Nat → Int32)} {P : Int32 × Int32 × (Nat → Int32) × Int32 × Int32} {h : Int64} {w ws : va_W} (hK : KS K) (hR : XR g a K T w) (hp : ws.Perm (w ++ mw g a2 K.1 K.2.1 K.2.2 B T P h))
    (next : ∀ (K : KT) (T : (Nat → Int32) × Int32) (B : (Nat → Int32) × Int32 × (Nat → Int32)) (P : Int32 × Int32 × (Nat → Int32) × Int32 × Int32) (h : Int64) (w ws : va_W) (cells2 slots2 : Nat), cells2 ≤ cells + 160 → slots2 ≤ slots + 1000 → KS K → XR g a K T w → ws.Perm (w ++ mw g a2 K.1 K.2.1 K.2.2 B T P h) → V p l e room_1 s m args below meth c g A 4 cells2 slots2 Q 1403 (lvL b a a2 i) [] ws) : V p l e room_1 s m args below meth c g A 4 cells slots Q 293 (lvL b a a2 i) [] ws := by
  have hT := hR.tok
  refine v_aload_n C dL_law_293 2 rfl ?_
  refine v_aload_n C dL_law_294 1 rfl ?_
  refine v_iload_n C dL_law_295 0 rfl ?_
  refine v_iconst (v := 1) C dL_law_296 (by decide) ?_
  refine v_iadd C dL_law_297 ?_
  refine v_sld C hX dL_law_298 (sx1 hi hX.2.2.2) ?_
  refine v_aload_n C dL_law_299 1 rfl ?_
  refine v_iload_n C dL_law_300 0 rfl ?_
  refine v_iconst (v := 2) C dL_law_301 (by decide) ?_
  refine v_iadd C dL_law_302 ?_
  refine v_sld C hX dL_law_303 (sx2 hi hX.2.2.2) ?_
  refine v_callX C (xk_setSpeed hK (xs (i + 1)) (xs (i + 2)) w hR) ok_X0_setSpeed rfl q734 rfl (Nat.le_of_ble_eq_true rfl) rfl dL_law_304 (roomN rfl (show cells + 25 ≤ 600000 by omega) (show slots + 164 ≤ 7302250 by omega)) hp (fun rv w1 hw => ?_)
  obtain ⟨rfl, hR1⟩ := hw
  refine v_aload_n C dL_law_307 3 rfl ?_
  refine v_aload_n C dL_law_308 1 rfl ?_
  refine v_iload_n C dL_law_309 0 rfl ?_
  refine v_iconst (v := 1) C dL_law_310 (by decide) ?_
  refine v_iadd C dL_law_311 ?_
  refine v_sld C hX dL_law_312 (sx1 hi hX.2.2.2) ?_
  refine v_aload_n C dL_law_313 1 rfl ?_
  refine v_iload_n C dL_law_314 0 rfl ?_
  refine v_iconst (v := 2) C dL_law_315 (by decide) ?_
  refine v_iadd C dL_law_316 ?_
  refine v_sld C hX dL_law_317 (sx2 hi hX.2.2.2) ?_
  refine v_callV C (m_setSpeed l g a2 K B T P h hK.1 (xs (i + 1)) (xs (i + 2))) ok_X3_setSpeed rfl q1249 rfl (Nat.le_of_ble_eq_true rfl) 0 rfl (ci := 3) rfl rfl dL_law_318 (roomN rfl (show cells + 25 + 0 ≤ 600000 by omega) (show slots + 164 + 0 ≤ 7302250 by omega)) (wr := w1) List.perm_append_comm ?_
  rintro rv w2 ⟨rfl, rfl⟩
  refine v_icmp_eq C 1403 dL_law_321 (by decide) (fun _ => ?_) (fun hne => absurd (rfl) hne)
  exact next (p_setSpeed K (xs (i + 1)) (xs (i + 2))).2 T _ _ _ w1 _ _ _ (show cells + 25 + 0 ≤ cells + 160 by omega) (show slots + 164 + 0 ≤ slots + 1000 by omega) (kx_setSpeed hK (xs (i + 1)) (xs (i + 2))).2.1 hR1 List.perm_append_comm
set_option maxHeartbeats 1000000 in
theorem law_c4 (C : Cx p s m args meth c g A x code 4 ret) {b L : Nat} {xs : Nat → Int32} (hX : SX s A b L xs) {a a2 : Nat → Nat} {i cells slots : Nat} (hi : i + 6 ≤ L) (hc : cells + 160 ≤ 600000) (hs : slots + 1000 ≤ 7302250) {K : KT} {T : (Nat → Int32) × Int32} {B : (Nat → Int32) × Int32 × (Nat → Int32)} {P : Int32 × Int32 × (Nat → Int32) × Int32 × Int32} {h : Int64} {w ws : va_W} (hK : KS K) (hR : XR g a K T w) (hp : ws.Perm (w ++ mw g a2 K.1 K.2.1 K.2.2 B T P h))
    (next : ∀ (K : KT) (T : (Nat → Int32) × Int32) (B : (Nat → Int32) × Int32 × (Nat → Int32)) (P : Int32 × Int32 × (Nat → Int32) × Int32 × Int32) (h : Int64) (w ws : va_W) (cells2 slots2 : Nat), cells2 ≤ cells + 160 → slots2 ≤ slots + 1000 → KS K → XR g a K T w → ws.Perm (w ++ mw g a2 K.1 K.2.1 K.2.2 B T P h) → V p l e room_1 s m args below meth c g A 4 cells2 slots2 Q 1403 (lvL b a a2 i) [] ws) : V p l e room_1 s m args below meth c g A 4 cells slots Q 326 (lvL b a a2 i) [] ws := by
  have hT := hR.tok
  refine v_aload_n C dL_law_326 2 rfl ?_
  refine v_aload_n C dL_law_327 1 rfl ?_
  refine v_iload_n C dL_law_328 0 rfl ?_
  refine v_iconst (v := 1) C dL_law_329 (by decide) ?_
  refine v_iadd C dL_law_330 ?_
  refine v_sld C hX dL_law_331 (sx1 hi hX.2.2.2) ?_
  refine v_aload_n C dL_law_332 1 rfl ?_
  refine v_iload_n C dL_law_333 0 rfl ?_
  refine v_iconst (v := 2) C dL_law_334 (by decide) ?_
  refine v_iadd C dL_law_335 ?_
  refine v_sld C hX dL_law_336 (sx2 hi hX.2.2.2) ?_
  refine v_callX C (xk_spout hK (xs (i + 1)) (xs (i + 2)) w hR) ok_X0_spout rfl q738 rfl (Nat.le_of_ble_eq_true rfl) rfl dL_law_337 (roomN rfl (show cells + 26 ≤ 600000 by omega) (show slots + 168 ≤ 7302250 by omega)) hp (fun rv w1 hw => ?_)
  obtain ⟨rfl, hR1⟩ := hw
  refine v_aload_n C dL_law_340 3 rfl ?_
  refine v_aload_n C dL_law_341 1 rfl ?_
  refine v_iload_n C dL_law_342 0 rfl ?_
  refine v_iconst (v := 1) C dL_law_343 (by decide) ?_
  refine v_iadd C dL_law_344 ?_
  refine v_sld C hX dL_law_345 (sx1 hi hX.2.2.2) ?_
  refine v_aload_n C dL_law_346 1 rfl ?_
  refine v_iload_n C dL_law_347 0 rfl ?_
  refine v_iconst (v := 2) C dL_law_348 (by decide) ?_
  refine v_iadd C dL_law_349 ?_
  refine v_sld C hX dL_law_350 (sx2 hi hX.2.2.2) ?_
  refine v_callV C (m_spout l g a2 K B T P h hK.1 (xs (i + 1)) (xs (i + 2))) ok_X3_spout rfl q1261 rfl (Nat.le_of_ble_eq_true rfl) 0 rfl (ci := 3) rfl rfl dL_law_351 (roomN rfl (show cells + 26 + 0 ≤ 600000 by omega) (show slots + 168 + 0 ≤ 7302250 by omega)) (wr := w1) List.perm_append_comm ?_
  rintro rv w2 ⟨rfl, rfl⟩
  refine v_icmp_eq C 1403 dL_law_354 (by decide) (fun _ => ?_) (fun hne => absurd (rfl) hne)
  exact next (p_spout K (xs (i + 1)) (xs (i + 2))).2 T _ _ _ w1 _ _ _ (show cells + 26 + 0 ≤ cells + 160 by omega) (show slots + 168 + 0 ≤ slots + 1000 by omega) (kx_spout hK (xs (i + 1)) (xs (i + 2))).2.1 hR1 List.perm_append_comm
set_option maxHeartbeats 1000000 in
theorem law_c5 (C : Cx p s m args meth c g A x code 4 ret) {b L : Nat} {xs : Nat → Int32} (hX : SX s A b L xs) {a a2 : Nat → Nat} {i cells slots : Nat} (hi : i + 6 ≤ L) (hc : cells + 160 ≤ 600000) (hs : slots + 1000 ≤ 7302250) {K : KT} {T : (Nat → Int32) × Int32} {B : (Nat → Int32) × Int32 × (Nat → Int32)} {P : Int32 × Int32 × (Nat → Int32) × Int32 × Int32} {h : Int64} {w ws : va_W} (hK : KS K) (hR : XR g a K T w) (hp : ws.Perm (w ++ mw g a2 K.1 K.2.1 K.2.2 B T P h))
    (next : ∀ (K : KT) (T : (Nat → Int32) × Int32) (B : (Nat → Int32) × Int32 × (Nat → Int32)) (P : Int32 × Int32 × (Nat → Int32) × Int32 × Int32) (h : Int64) (w ws : va_W) (cells2 slots2 : Nat), cells2 ≤ cells + 160 → slots2 ≤ slots + 1000 → KS K → XR g a K T w → ws.Perm (w ++ mw g a2 K.1 K.2.1 K.2.2 B T P h) → V p l e room_1 s m args below meth c g A 4 cells2 slots2 Q 1403 (lvL b a a2 i) [] ws) : V p l e room_1 s m args below meth c g A 4 cells slots Q 359 (lvL b a a2 i) [] ws := by
  have hT := hR.tok
  refine v_aload_n C dL_law_359 2 rfl ?_
  refine v_aload_n C dL_law_360 1 rfl ?_
  refine v_iload_n C dL_law_361 0 rfl ?_
  refine v_iconst (v := 1) C dL_law_362 (by decide) ?_
  refine v_iadd C dL_law_363 ?_
  refine v_sld C hX dL_law_364 (sx1 hi hX.2.2.2) ?_
  refine v_aload_n C dL_law_365 1 rfl ?_
  refine v_iload_n C dL_law_366 0 rfl ?_
  refine v_iconst (v := 2) C dL_law_367 (by decide) ?_
  refine v_iadd C dL_law_368 ?_
  refine v_sld C hX dL_law_369 (sx2 hi hX.2.2.2) ?_
  refine v_callX C (xk_setPrice hK (xs (i + 1)) (xs (i + 2)) w hR) ok_X0_setPrice rfl q742 rfl (Nat.le_of_ble_eq_true rfl) rfl dL_law_370 (roomN rfl (show cells + 25 ≤ 600000 by omega) (show slots + 164 ≤ 7302250 by omega)) hp (fun rv w1 hw => ?_)
  obtain ⟨rfl, hR1⟩ := hw
  refine v_aload_n C dL_law_373 3 rfl ?_
  refine v_aload_n C dL_law_374 1 rfl ?_
  refine v_iload_n C dL_law_375 0 rfl ?_
  refine v_iconst (v := 1) C dL_law_376 (by decide) ?_
  refine v_iadd C dL_law_377 ?_
  refine v_sld C hX dL_law_378 (sx1 hi hX.2.2.2) ?_
  refine v_aload_n C dL_law_379 1 rfl ?_
  refine v_iload_n C dL_law_380 0 rfl ?_
  refine v_iconst (v := 2) C dL_law_381 (by decide) ?_
  refine v_iadd C dL_law_382 ?_
  refine v_sld C hX dL_law_383 (sx2 hi hX.2.2.2) ?_
  refine v_callV C (m_setPrice l g a2 K B T P h hK.1 (xs (i + 1)) (xs (i + 2))) ok_X3_setPrice rfl q1269 rfl (Nat.le_of_ble_eq_true rfl) 0 rfl (ci := 3) rfl rfl dL_law_384 (roomN rfl (show cells + 25 + 0 ≤ 600000 by omega) (show slots + 164 + 0 ≤ 7302250 by omega)) (wr := w1) List.perm_append_comm ?_
  rintro rv w2 ⟨rfl, rfl⟩
  refine v_icmp_eq C 1403 dL_law_387 (by decide) (fun _ => ?_) (fun hne => absurd (rfl) hne)
  exact next (p_setPrice K (xs (i + 1)) (xs (i + 2))).2 T _ _ _ w1 _ _ _ (show cells + 25 + 0 ≤ cells + 160 by omega) (show slots + 164 + 0 ≤ slots + 1000 by omega) (kx_setPrice hK (xs (i + 1)) (xs (i + 2))).2.1 hR1 List.perm_append_comm
set_option maxHeartbeats 1000000 in
theorem law_c6 (C : Cx p s m args meth c g A x code 4 ret) {b L : Nat} {xs : Nat → Int32} (hX : SX s A b L xs) {a a2 : Nat → Nat} {i cells slots : Nat} (hi : i + 6 ≤ L) (hc : cells + 160 ≤ 600000) (hs : slots + 1000 ≤ 7302250) {K : KT} {T : (Nat → Int32) × Int32} {B : (Nat → Int32) × Int32 × (Nat → Int32)} {P : Int32 × Int32 × (Nat → Int32) × Int32 × Int32} {h : Int64} {w ws : va_W} (hK : KS K) (hR : XR g a K T w) (hp : ws.Perm (w ++ mw g a2 K.1 K.2.1 K.2.2 B T P h))
    (next : ∀ (K : KT) (T : (Nat → Int32) × Int32) (B : (Nat → Int32) × Int32 × (Nat → Int32)) (P : Int32 × Int32 × (Nat → Int32) × Int32 × Int32) (h : Int64) (w ws : va_W) (cells2 slots2 : Nat), cells2 ≤ cells + 160 → slots2 ≤ slots + 1000 → KS K → XR g a K T w → ws.Perm (w ++ mw g a2 K.1 K.2.1 K.2.2 B T P h) → V p l e room_1 s m args below meth c g A 4 cells2 slots2 Q 1403 (lvL b a a2 i) [] ws) : V p l e room_1 s m args below meth c g A 4 cells slots Q 392 (lvL b a a2 i) [] ws := by
  have hT := hR.tok
  refine v_aload_n C dL_law_392 2 rfl ?_
  refine v_aload_n C dL_law_393 1 rfl ?_
  refine v_iload_n C dL_law_394 0 rfl ?_
  refine v_iconst (v := 1) C dL_law_395 (by decide) ?_
  refine v_iadd C dL_law_396 ?_
  refine v_sld C hX dL_law_397 (sx1 hi hX.2.2.2) ?_
  refine v_callX C (xk_setDust hK (xs (i + 1)) w hR) ok_X0_setDustLimit rfl q749 rfl (Nat.le_of_ble_eq_true rfl) rfl dL_law_398 (roomN rfl (show cells + 25 ≤ 600000 by omega) (show slots + 164 ≤ 7302250 by omega)) hp (fun rv w1 hw => ?_)
  obtain ⟨rfl, hR1⟩ := hw
  refine v_aload_n C dL_law_401 3 rfl ?_
  refine v_aload_n C dL_law_402 1 rfl ?_
  refine v_iload_n C dL_law_403 0 rfl ?_
  refine v_iconst (v := 1) C dL_law_404 (by decide) ?_
  refine v_iadd C dL_law_405 ?_
  refine v_sld C hX dL_law_406 (sx1 hi hX.2.2.2) ?_
  refine v_callV C (m_setDustLimit l g a2 K B T P h hK.1 (xs (i + 1))) ok_X3_setDustLimit rfl q1276 rfl (Nat.le_of_ble_eq_true rfl) 0 rfl (ci := 3) rfl rfl dL_law_407 (roomN rfl (show cells + 25 + 0 ≤ 600000 by omega) (show slots + 164 + 0 ≤ 7302250 by omega)) (wr := w1) List.perm_append_comm ?_
  rintro rv w2 ⟨rfl, rfl⟩
  refine v_icmp_eq C 1403 dL_law_410 (by decide) (fun _ => ?_) (fun hne => absurd (rfl) hne)
  exact next (p_setDustLimit K (xs (i + 1))).2 T _ _ _ w1 _ _ _ (show cells + 25 + 0 ≤ cells + 160 by omega) (show slots + 164 + 0 ≤ slots + 1000 by omega) (kx_setDust hK (xs (i + 1))).2.1 hR1 List.perm_append_comm
set_option maxHeartbeats 1000000 in
theorem law_c7 (C : Cx p s m args meth c g A x code 4 ret) {b L : Nat} {xs : Nat → Int32} (hX : SX s A b L xs) {a a2 : Nat → Nat} {i cells slots : Nat} (hi : i + 6 ≤ L) (hc : cells + 160 ≤ 600000) (hs : slots + 1000 ≤ 7302250) {K : KT} {T : (Nat → Int32) × Int32} {B : (Nat → Int32) × Int32 × (Nat → Int32)} {P : Int32 × Int32 × (Nat → Int32) × Int32 × Int32} {h : Int64} {w ws : va_W} (hK : KS K) (hR : XR g a K T w) (hp : ws.Perm (w ++ mw g a2 K.1 K.2.1 K.2.2 B T P h))
    (next : ∀ (K : KT) (T : (Nat → Int32) × Int32) (B : (Nat → Int32) × Int32 × (Nat → Int32)) (P : Int32 × Int32 × (Nat → Int32) × Int32 × Int32) (h : Int64) (w ws : va_W) (cells2 slots2 : Nat), cells2 ≤ cells + 160 → slots2 ≤ slots + 1000 → KS K → XR g a K T w → ws.Perm (w ++ mw g a2 K.1 K.2.1 K.2.2 B T P h) → V p l e room_1 s m args below meth c g A 4 cells2 slots2 Q 1403 (lvL b a a2 i) [] ws) : V p l e room_1 s m args below meth c g A 4 cells slots Q 415 (lvL b a a2 i) [] ws := by
  have hT := hR.tok
  refine v_aload_n C dL_law_415 2 rfl ?_
  refine v_aload_n C dL_law_416 1 rfl ?_
  refine v_iload_n C dL_law_417 0 rfl ?_
  refine v_iconst (v := 1) C dL_law_418 (by decide) ?_
  refine v_iadd C dL_law_419 ?_
  refine v_sld C hX dL_law_420 (sx1 hi hX.2.2.2) ?_
  refine v_callX C (xk_count hK (xs (i + 1)) w hR) ok_X0_count rfl q753 rfl (Nat.le_of_ble_eq_true rfl) rfl dL_law_421 (roomN rfl (show cells + 0 ≤ 600000 by omega) (show slots + 0 ≤ 7302250 by omega)) hp (fun rv w1 hw => ?_)
  obtain ⟨rfl, hR1⟩ := hw
  refine v_aload_n C dL_law_424 3 rfl ?_
  refine v_aload_n C dL_law_425 1 rfl ?_
  refine v_iload_n C dL_law_426 0 rfl ?_
  refine v_iconst (v := 1) C dL_law_427 (by decide) ?_
  refine v_iadd C dL_law_428 ?_
  refine v_sld C hX dL_law_429 (sx1 hi hX.2.2.2) ?_
  refine v_callV C (m_count l g a2 K.1 K.2.1 K.2.2 B T P h _ _ hK.1.1.1 hK.1.1.2 hK.1.2.2.1.1 hK.1.2.2.1.2 (xs (i + 1))) ok_X3_count rfl q1280 rfl (Nat.le_of_ble_eq_true rfl) 0 rfl (ci := 3) rfl rfl dL_law_430 (roomN rfl (show cells + 0 + 0 ≤ 600000 by omega) (show slots + 0 + 0 ≤ 7302250 by omega)) (wr := w1) List.perm_append_comm ?_
  rintro rv w2 ⟨rfl, rfl⟩
  refine v_icmp_eq C 1403 dL_law_433 (by decide) (fun _ => ?_) (fun hne => absurd (rfl) hne)
  exact next K T _ _ _ w1 _ _ _ (show cells + 0 + 0 ≤ cells + 160 by omega) (show slots + 0 + 0 ≤ slots + 1000 by omega) hK hR1 List.perm_append_comm
set_option maxHeartbeats 1000000 in
theorem law_c8 (C : Cx p s m args meth c g A x code 4 ret) {b L : Nat} {xs : Nat → Int32} (hX : SX s A b L xs) {a a2 : Nat → Nat} {i cells slots : Nat} (hi : i + 6 ≤ L) (hc : cells + 160 ≤ 600000) (hs : slots + 1000 ≤ 7302250) {K : KT} {T : (Nat → Int32) × Int32} {B : (Nat → Int32) × Int32 × (Nat → Int32)} {P : Int32 × Int32 × (Nat → Int32) × Int32 × Int32} {h : Int64} {w ws : va_W} (hK : KS K) (hR : XR g a K T w) (hp : ws.Perm (w ++ mw g a2 K.1 K.2.1 K.2.2 B T P h))
    (next : ∀ (K : KT) (T : (Nat → Int32) × Int32) (B : (Nat → Int32) × Int32 × (Nat → Int32)) (P : Int32 × Int32 × (Nat → Int32) × Int32 × Int32) (h : Int64) (w ws : va_W) (cells2 slots2 : Nat), cells2 ≤ cells + 160 → slots2 ≤ slots + 1000 → KS K → XR g a K T w → ws.Perm (w ++ mw g a2 K.1 K.2.1 K.2.2 B T P h) → V p l e room_1 s m args below meth c g A 4 cells2 slots2 Q 1403 (lvL b a a2 i) [] ws) : V p l e room_1 s m args below meth c g A 4 cells slots Q 438 (lvL b a a2 i) [] ws := by
  have hT := hR.tok
  refine v_aload_n C dL_law_438 2 rfl ?_
  refine v_aload_n C dL_law_439 1 rfl ?_
  refine v_iload_n C dL_law_440 0 rfl ?_
  refine v_iconst (v := 1) C dL_law_441 (by decide) ?_
  refine v_iadd C dL_law_442 ?_
  refine v_sld C hX dL_law_443 (sx1 hi hX.2.2.2) ?_
  refine v_aload_n C dL_law_444 1 rfl ?_
  refine v_iload_n C dL_law_445 0 rfl ?_
  refine v_iconst (v := 2) C dL_law_446 (by decide) ?_
  refine v_iadd C dL_law_447 ?_
  refine v_sld C hX dL_law_448 (sx2 hi hX.2.2.2) ?_
  refine v_callX C (xk_bin hK (xs (i + 1)) (xs (i + 2)) w hR) ok_X0_bin rfl q779 rfl (Nat.le_of_ble_eq_true rfl) rfl dL_law_449 (roomN rfl (show cells + 0 ≤ 600000 by omega) (show slots + 0 ≤ 7302250 by omega)) hp (fun rv w1 hw => ?_)
  obtain ⟨rfl, hR1⟩ := hw
  refine v_aload_n C dL_law_452 3 rfl ?_
  refine v_aload_n C dL_law_453 1 rfl ?_
  refine v_iload_n C dL_law_454 0 rfl ?_
  refine v_iconst (v := 1) C dL_law_455 (by decide) ?_
  refine v_iadd C dL_law_456 ?_
  refine v_sld C hX dL_law_457 (sx1 hi hX.2.2.2) ?_
  refine v_aload_n C dL_law_458 1 rfl ?_
  refine v_iload_n C dL_law_459 0 rfl ?_
  refine v_iconst (v := 2) C dL_law_460 (by decide) ?_
  refine v_iadd C dL_law_461 ?_
  refine v_sld C hX dL_law_462 (sx2 hi hX.2.2.2) ?_
  refine v_callV C (m_bin l g a2 K.1 K.2.1 K.2.2 B T P h _ hK.1.1.1 hK.1.1.2 (xs (i + 1)) (xs (i + 2))) ok_X3_bin rfl q1292 rfl (Nat.le_of_ble_eq_true rfl) 0 rfl (ci := 3) rfl rfl dL_law_463 (roomN rfl (show cells + 0 + 0 ≤ 600000 by omega) (show slots + 0 + 0 ≤ 7302250 by omega)) (wr := w1) List.perm_append_comm ?_
  rintro rv w2 ⟨rfl, rfl⟩
  refine v_icmp_eq C 1403 dL_law_466 (by decide) (fun _ => ?_) (fun hne => absurd (rfl) hne)
  exact next K T _ _ _ w1 _ _ _ (show cells + 0 + 0 ≤ cells + 160 by omega) (show slots + 0 + 0 ≤ slots + 1000 by omega) hK hR1 List.perm_append_comm
set_option maxHeartbeats 1000000 in
theorem law_c9 (C : Cx p s m args meth c g A x code 4 ret) {b L : Nat} {xs : Nat → Int32} (hX : SX s A b L xs) {a a2 : Nat → Nat} {i cells slots : Nat} (hi : i + 6 ≤ L) (hc : cells + 160 ≤ 600000) (hs : slots + 1000 ≤ 7302250) {K : KT} {T : (Nat → Int32) × Int32} {B : (Nat → Int32) × Int32 × (Nat → Int32)} {P : Int32 × Int32 × (Nat → Int32) × Int32 × Int32} {h : Int64} {w ws : va_W} (hK : KS K) (hR : XR g a K T w) (hp : ws.Perm (w ++ mw g a2 K.1 K.2.1 K.2.2 B T P h))
    (next : ∀ (K : KT) (T : (Nat → Int32) × Int32) (B : (Nat → Int32) × Int32 × (Nat → Int32)) (P : Int32 × Int32 × (Nat → Int32) × Int32 × Int32) (h : Int64) (w ws : va_W) (cells2 slots2 : Nat), cells2 ≤ cells + 160 → slots2 ≤ slots + 1000 → KS K → XR g a K T w → ws.Perm (w ++ mw g a2 K.1 K.2.1 K.2.2 B T P h) → V p l e room_1 s m args below meth c g A 4 cells2 slots2 Q 1403 (lvL b a a2 i) [] ws) : V p l e room_1 s m args below meth c g A 4 cells slots Q 471 (lvL b a a2 i) [] ws := by
  have hT := hR.tok
  refine v_aload_n C dL_law_471 2 rfl ?_
  refine v_aload_n C dL_law_472 1 rfl ?_
  refine v_iload_n C dL_law_473 0 rfl ?_
  refine v_iconst (v := 1) C dL_law_474 (by decide) ?_
  refine v_iadd C dL_law_475 ?_
  refine v_sld C hX dL_law_476 (sx1 hi hX.2.2.2) ?_
  refine v_aload_n C dL_law_477 1 rfl ?_
  refine v_iload_n C dL_law_478 0 rfl ?_
  refine v_iconst (v := 2) C dL_law_479 (by decide) ?_
  refine v_iadd C dL_law_480 ?_
  refine v_sld C hX dL_law_481 (sx2 hi hX.2.2.2) ?_
  refine v_callX C (xk_leg hK (xs (i + 1)) (xs (i + 2)) w hR) ok_X0_leg rfl q787 rfl (Nat.le_of_ble_eq_true rfl) rfl dL_law_482 (roomN rfl (show cells + 0 ≤ 600000 by omega) (show slots + 0 ≤ 7302250 by omega)) hp (fun rv w1 hw => ?_)
  obtain ⟨rfl, hR1⟩ := hw
  refine v_aload_n C dL_law_485 3 rfl ?_
  refine v_aload_n C dL_law_486 1 rfl ?_
  refine v_iload_n C dL_law_487 0 rfl ?_
  refine v_iconst (v := 1) C dL_law_488 (by decide) ?_
  refine v_iadd C dL_law_489 ?_
  refine v_sld C hX dL_law_490 (sx1 hi hX.2.2.2) ?_
  refine v_aload_n C dL_law_491 1 rfl ?_
  refine v_iload_n C dL_law_492 0 rfl ?_
  refine v_iconst (v := 2) C dL_law_493 (by decide) ?_
  refine v_iadd C dL_law_494 ?_
  refine v_sld C hX dL_law_495 (sx2 hi hX.2.2.2) ?_
  refine v_callV C (m_leg l g a2 K.1 K.2.1 K.2.2 B T P h _ hK.1.2.1.1 hK.1.2.1.2 (xs (i + 1)) (xs (i + 2))) ok_X3_leg rfl q1304 rfl (Nat.le_of_ble_eq_true rfl) 0 rfl (ci := 3) rfl rfl dL_law_496 (roomN rfl (show cells + 0 + 0 ≤ 600000 by omega) (show slots + 0 + 0 ≤ 7302250 by omega)) (wr := w1) List.perm_append_comm ?_
  rintro rv w2 ⟨rfl, rfl⟩
  refine v_icmp_eq C 1403 dL_law_499 (by decide) (fun _ => ?_) (fun hne => absurd (rfl) hne)
  exact next K T _ _ _ w1 _ _ _ (show cells + 0 + 0 ≤ cells + 160 by omega) (show slots + 0 + 0 ≤ slots + 1000 by omega) hK hR1 List.perm_append_comm
set_option maxHeartbeats 1000000 in
theorem law_c10 (C : Cx p s m args meth c g A x code 4 ret) {b L : Nat} {xs : Nat → Int32} (hX : SX s A b L xs) {a a2 : Nat → Nat} {i cells slots : Nat} (hi : i + 6 ≤ L) (hc : cells + 160 ≤ 600000) (hs : slots + 1000 ≤ 7302250) {K : KT} {T : (Nat → Int32) × Int32} {B : (Nat → Int32) × Int32 × (Nat → Int32)} {P : Int32 × Int32 × (Nat → Int32) × Int32 × Int32} {h : Int64} {w ws : va_W} (hK : KS K) (hR : XR g a K T w) (hp : ws.Perm (w ++ mw g a2 K.1 K.2.1 K.2.2 B T P h))
    (next : ∀ (K : KT) (T : (Nat → Int32) × Int32) (B : (Nat → Int32) × Int32 × (Nat → Int32)) (P : Int32 × Int32 × (Nat → Int32) × Int32 × Int32) (h : Int64) (w ws : va_W) (cells2 slots2 : Nat), cells2 ≤ cells + 160 → slots2 ≤ slots + 1000 → KS K → XR g a K T w → ws.Perm (w ++ mw g a2 K.1 K.2.1 K.2.2 B T P h) → V p l e room_1 s m args below meth c g A 4 cells2 slots2 Q 1403 (lvL b a a2 i) [] ws) : V p l e room_1 s m args below meth c g A 4 cells slots Q 504 (lvL b a a2 i) [] ws := by
  have hT := hR.tok
  refine v_aload_n C dL_law_504 2 rfl ?_
  refine v_aload_n C dL_law_505 1 rfl ?_
  refine v_iload_n C dL_law_506 0 rfl ?_
  refine v_iconst (v := 1) C dL_law_507 (by decide) ?_
  refine v_iadd C dL_law_508 ?_
  refine v_sld C hX dL_law_509 (sx1 hi hX.2.2.2) ?_
  refine v_callX C (xk_price hK (xs (i + 1)) w hR) ok_X0_price rfl q796 rfl (Nat.le_of_ble_eq_true rfl) rfl dL_law_510 (roomN rfl (show cells + 0 ≤ 600000 by omega) (show slots + 0 ≤ 7302250 by omega)) hp (fun rv w1 hw => ?_)
  obtain ⟨rfl, hR1⟩ := hw
  refine v_aload_n C dL_law_513 3 rfl ?_
  refine v_aload_n C dL_law_514 1 rfl ?_
  refine v_iload_n C dL_law_515 0 rfl ?_
  refine v_iconst (v := 1) C dL_law_516 (by decide) ?_
  refine v_iadd C dL_law_517 ?_
  refine v_sld C hX dL_law_518 (sx1 hi hX.2.2.2) ?_
  refine v_callV C (m_price l g a2 K.1 K.2.1 K.2.2 B T P h  (xs (i + 1))) ok_X3_price rfl q1316 rfl (Nat.le_of_ble_eq_true rfl) 0 rfl (ci := 3) rfl rfl dL_law_519 (roomN rfl (show cells + 0 + 0 ≤ 600000 by omega) (show slots + 0 + 0 ≤ 7302250 by omega)) (wr := w1) List.perm_append_comm ?_
  rintro rv w2 ⟨rfl, rfl⟩
  refine v_icmp_eq C 1403 dL_law_522 (by decide) (fun _ => ?_) (fun hne => absurd (rfl) hne)
  exact next K T _ _ _ w1 _ _ _ (show cells + 0 + 0 ≤ cells + 160 by omega) (show slots + 0 + 0 ≤ slots + 1000 by omega) hK hR1 List.perm_append_comm
set_option maxHeartbeats 1000000 in
theorem law_c11 (C : Cx p s m args meth c g A x code 4 ret) {b L : Nat} {xs : Nat → Int32} (hX : SX s A b L xs) {a a2 : Nat → Nat} {i cells slots : Nat} (hi : i + 6 ≤ L) (hc : cells + 160 ≤ 600000) (hs : slots + 1000 ≤ 7302250) {K : KT} {T : (Nat → Int32) × Int32} {B : (Nat → Int32) × Int32 × (Nat → Int32)} {P : Int32 × Int32 × (Nat → Int32) × Int32 × Int32} {h : Int64} {w ws : va_W} (hK : KS K) (hR : XR g a K T w) (hp : ws.Perm (w ++ mw g a2 K.1 K.2.1 K.2.2 B T P h))
    (next : ∀ (K : KT) (T : (Nat → Int32) × Int32) (B : (Nat → Int32) × Int32 × (Nat → Int32)) (P : Int32 × Int32 × (Nat → Int32) × Int32 × Int32) (h : Int64) (w ws : va_W) (cells2 slots2 : Nat), cells2 ≤ cells + 160 → slots2 ≤ slots + 1000 → KS K → XR g a K T w → ws.Perm (w ++ mw g a2 K.1 K.2.1 K.2.2 B T P h) → V p l e room_1 s m args below meth c g A 4 cells2 slots2 Q 1403 (lvL b a a2 i) [] ws) : V p l e room_1 s m args below meth c g A 4 cells slots Q 527 (lvL b a a2 i) [] ws := by
  have hT := hR.tok
  refine v_aload_n C dL_law_527 2 rfl ?_
  refine v_aload_n C dL_law_528 1 rfl ?_
  refine v_iload_n C dL_law_529 0 rfl ?_
  refine v_iconst (v := 1) C dL_law_530 (by decide) ?_
  refine v_iadd C dL_law_531 ?_
  refine v_sld C hX dL_law_532 (sx1 hi hX.2.2.2) ?_
  refine v_callX C (xk_book hK (xs (i + 1)) w hR) ok_X0_book rfl q800 rfl (Nat.le_of_ble_eq_true rfl) rfl dL_law_533 (roomN rfl (show cells + 0 ≤ 600000 by omega) (show slots + 0 ≤ 7302250 by omega)) hp (fun rv w1 hw => ?_)
  obtain ⟨rfl, hR1⟩ := hw
  refine v_aload_n C dL_law_536 3 rfl ?_
  refine v_aload_n C dL_law_537 1 rfl ?_
  refine v_iload_n C dL_law_538 0 rfl ?_
  refine v_iconst (v := 1) C dL_law_539 (by decide) ?_
  refine v_iadd C dL_law_540 ?_
  refine v_sld C hX dL_law_541 (sx1 hi hX.2.2.2) ?_
  refine v_callV C (m_book l g a2 K.1 K.2.1 K.2.2 B T P h  (xs (i + 1))) ok_X3_book rfl q1320 rfl (Nat.le_of_ble_eq_true rfl) 0 rfl (ci := 3) rfl rfl dL_law_542 (roomN rfl (show cells + 0 + 0 ≤ 600000 by omega) (show slots + 0 + 0 ≤ 7302250 by omega)) (wr := w1) List.perm_append_comm ?_
  rintro rv w2 ⟨rfl, rfl⟩
  refine v_lcmp C dL_law_545 ?_
  refine v_if_eq C 1403 dL_law_546 (by decide) (fun _ => ?_) (fun hne => absurd (lgc_0.mpr rfl) hne)
  exact next K T _ _ _ w1 _ _ _ (show cells + 0 + 0 ≤ cells + 160 by omega) (show slots + 0 + 0 ≤ slots + 1000 by omega) hK hR1 List.perm_append_comm
set_option maxHeartbeats 1000000 in
theorem law_c12 (C : Cx p s m args meth c g A x code 4 ret) {b L : Nat} {xs : Nat → Int32} (hX : SX s A b L xs) {a a2 : Nat → Nat} {i cells slots : Nat} (hi : i + 6 ≤ L) (hc : cells + 160 ≤ 600000) (hs : slots + 1000 ≤ 7302250) {K : KT} {T : (Nat → Int32) × Int32} {B : (Nat → Int32) × Int32 × (Nat → Int32)} {P : Int32 × Int32 × (Nat → Int32) × Int32 × Int32} {h : Int64} {w ws : va_W} (hK : KS K) (hR : XR g a K T w) (hp : ws.Perm (w ++ mw g a2 K.1 K.2.1 K.2.2 B T P h))
    (next : ∀ (K : KT) (T : (Nat → Int32) × Int32) (B : (Nat → Int32) × Int32 × (Nat → Int32)) (P : Int32 × Int32 × (Nat → Int32) × Int32 × Int32) (h : Int64) (w ws : va_W) (cells2 slots2 : Nat), cells2 ≤ cells + 160 → slots2 ≤ slots + 1000 → KS K → XR g a K T w → ws.Perm (w ++ mw g a2 K.1 K.2.1 K.2.2 B T P h) → V p l e room_1 s m args below meth c g A 4 cells2 slots2 Q 1403 (lvL b a a2 i) [] ws) : V p l e room_1 s m args below meth c g A 4 cells slots Q 551 (lvL b a a2 i) [] ws := by
  have hT := hR.tok
  refine v_aload_n C dL_law_551 2 rfl ?_
  refine v_callX C (xk_audit hK w hR) ok_X0_audit rfl q805 rfl (Nat.le_of_ble_eq_true rfl) rfl dL_law_552 (roomN rfl (show cells + 0 ≤ 600000 by omega) (show slots + 0 ≤ 7302250 by omega)) hp (fun rv w1 hw => ?_)
  obtain ⟨rfl, hR1⟩ := hw
  refine v_aload_n C dL_law_555 3 rfl ?_
  refine v_callV C (m_audit l g a2 K.1 K.2.1 K.2.2 B T P h _ hK.1.1.1 hK.1.1.2) ok_X3_audit rfl q1325 rfl (Nat.le_of_ble_eq_true rfl) 0 rfl (ci := 3) rfl rfl dL_law_556 (roomN rfl (show cells + 0 + 0 ≤ 600000 by omega) (show slots + 0 + 0 ≤ 7302250 by omega)) (wr := w1) List.perm_append_comm ?_
  rintro rv w2 ⟨rfl, rfl⟩
  refine v_icmp_eq C 1403 dL_law_559 (by decide) (fun _ => ?_) (fun hne => absurd (rfl) hne)
  exact next K T _ _ _ w1 _ _ _ (show cells + 0 + 0 ≤ cells + 160 by omega) (show slots + 0 + 0 ≤ slots + 1000 by omega) hK hR1 List.perm_append_comm
set_option maxHeartbeats 1000000 in
theorem law_c13 (C : Cx p s m args meth c g A x code 4 ret) {b L : Nat} {xs : Nat → Int32} (hX : SX s A b L xs) {a a2 : Nat → Nat} {i cells slots : Nat} (hi : i + 6 ≤ L) (hc : cells + 160 ≤ 600000) (hs : slots + 1000 ≤ 7302250) {K : KT} {T : (Nat → Int32) × Int32} {B : (Nat → Int32) × Int32 × (Nat → Int32)} {P : Int32 × Int32 × (Nat → Int32) × Int32 × Int32} {h : Int64} {w ws : va_W} (hK : KS K) (hR : XR g a K T w) (hp : ws.Perm (w ++ mw g a2 K.1 K.2.1 K.2.2 B T P h))
    (next : ∀ (K : KT) (T : (Nat → Int32) × Int32) (B : (Nat → Int32) × Int32 × (Nat → Int32)) (P : Int32 × Int32 × (Nat → Int32) × Int32 × Int32) (h : Int64) (w ws : va_W) (cells2 slots2 : Nat), cells2 ≤ cells + 160 → slots2 ≤ slots + 1000 → KS K → XR g a K T w → ws.Perm (w ++ mw g a2 K.1 K.2.1 K.2.2 B T P h) → V p l e room_1 s m args below meth c g A 4 cells2 slots2 Q 1403 (lvL b a a2 i) [] ws) : V p l e room_1 s m args below meth c g A 4 cells slots Q 564 (lvL b a a2 i) [] ws := by
  have hT := hR.tok
  refine v_aload_n C dL_law_564 2 rfl ?_
  refine v_aload_n C dL_law_565 1 rfl ?_
  refine v_iload_n C dL_law_566 0 rfl ?_
  refine v_iconst (v := 1) C dL_law_567 (by decide) ?_
  refine v_iadd C dL_law_568 ?_
  refine v_sld C hX dL_law_569 (sx1 hi hX.2.2.2) ?_
  refine v_aload_n C dL_law_570 1 rfl ?_
  refine v_iload_n C dL_law_571 0 rfl ?_
  refine v_iconst (v := 2) C dL_law_572 (by decide) ?_
  refine v_iadd C dL_law_573 ?_
  refine v_sld C hX dL_law_574 (sx2 hi hX.2.2.2) ?_
  refine v_aload_n C dL_law_575 1 rfl ?_
  refine v_iload_n C dL_law_576 0 rfl ?_
  refine v_iconst (v := 3) C dL_law_577 (by decide) ?_
  refine v_iadd C dL_law_578 ?_
  refine v_sld C hX dL_law_579 (sx3 hi hX.2.2.2) ?_
  refine v_aload_n C dL_law_580 1 rfl ?_
  refine v_iload_n C dL_law_581 0 rfl ?_
  refine v_iconst (v := 4) C dL_law_582 (by decide) ?_
  refine v_iadd C dL_law_583 ?_
  refine v_sld C hX dL_law_584 (sx4 hi hX.2.2.2) ?_
  refine v_aload_n C dL_law_585 1 rfl ?_
  refine v_iload_n C dL_law_586 0 rfl ?_
  refine v_iconst (v := 5) C dL_law_587 (by decide) ?_
  refine v_iadd C dL_law_588 ?_
  refine v_sld C hX dL_law_589 (sx5 hi hX.2.2.2) ?_
  refine v_callX C (xk_receive hK (xs (i + 1)) (xs (i + 2)) (xs (i + 3)) (xs (i + 4)) (xs (i + 5)) w hR) ok_X0_receive rfl q809 rfl (Nat.le_of_ble_eq_true rfl) rfl dL_law_590 (roomN rfl (show cells + 26 ≤ 600000 by omega) (show slots + 170 ≤ 7302250 by omega)) hp (fun rv w1 hw => ?_)
  obtain ⟨rfl, hR1⟩ := hw
  refine v_aload_n C dL_law_593 3 rfl ?_
  refine v_aload_n C dL_law_594 1 rfl ?_
  refine v_iload_n C dL_law_595 0 rfl ?_
  refine v_iconst (v := 1) C dL_law_596 (by decide) ?_
  refine v_iadd C dL_law_597 ?_
  refine v_sld C hX dL_law_598 (sx1 hi hX.2.2.2) ?_
  refine v_aload_n C dL_law_599 1 rfl ?_
  refine v_iload_n C dL_law_600 0 rfl ?_
  refine v_iconst (v := 2) C dL_law_601 (by decide) ?_
  refine v_iadd C dL_law_602 ?_
  refine v_sld C hX dL_law_603 (sx2 hi hX.2.2.2) ?_
  refine v_aload_n C dL_law_604 1 rfl ?_
  refine v_iload_n C dL_law_605 0 rfl ?_
  refine v_iconst (v := 3) C dL_law_606 (by decide) ?_
  refine v_iadd C dL_law_607 ?_
  refine v_sld C hX dL_law_608 (sx3 hi hX.2.2.2) ?_
  refine v_aload_n C dL_law_609 1 rfl ?_
  refine v_iload_n C dL_law_610 0 rfl ?_
  refine v_iconst (v := 4) C dL_law_611 (by decide) ?_
  refine v_iadd C dL_law_612 ?_
  refine v_sld C hX dL_law_613 (sx4 hi hX.2.2.2) ?_
  refine v_aload_n C dL_law_614 1 rfl ?_
  refine v_iload_n C dL_law_615 0 rfl ?_
  refine v_iconst (v := 5) C dL_law_616 (by decide) ?_
  refine v_iadd C dL_law_617 ?_
  refine v_sld C hX dL_law_618 (sx5 hi hX.2.2.2) ?_
  refine v_callV C (m_receive l g a2 K B T P h hK.1 hK.sp0 (xs (i + 1)) (xs (i + 2)) (xs (i + 3)) (xs (i + 4)) (xs (i + 5))) ok_X3_receive rfl q1329 rfl (Nat.le_of_ble_eq_true rfl) 0 rfl (ci := 3) rfl rfl dL_law_619 (roomN rfl (show cells + 26 + 0 ≤ 600000 by omega) (show slots + 170 + 0 ≤ 7302250 by omega)) (wr := w1) List.perm_append_comm ?_
  rintro rv w2 ⟨rfl, rfl⟩
  refine v_icmp_eq C 1403 dL_law_622 (by decide) (fun _ => ?_) (fun hne => absurd (rfl) hne)
  exact next (p_receive K (xs (i + 1)) (xs (i + 2)) (xs (i + 3)) (xs (i + 4)) (xs (i + 5))).2 T _ _ _ w1 _ _ _ (show cells + 26 + 0 ≤ cells + 160 by omega) (show slots + 170 + 0 ≤ slots + 1000 by omega) (kx_receive hK (xs (i + 1)) (xs (i + 2)) (xs (i + 3)) (xs (i + 4)) (xs (i + 5))).2.1 hR1 List.perm_append_comm
set_option maxHeartbeats 1000000 in
theorem law_c14 (C : Cx p s m args meth c g A x code 4 ret) {b L : Nat} {xs : Nat → Int32} (hX : SX s A b L xs) {a a2 : Nat → Nat} {i cells slots : Nat} (hi : i + 6 ≤ L) (hc : cells + 160 ≤ 600000) (hs : slots + 1000 ≤ 7302250) {K : KT} {T : (Nat → Int32) × Int32} {B : (Nat → Int32) × Int32 × (Nat → Int32)} {P : Int32 × Int32 × (Nat → Int32) × Int32 × Int32} {h : Int64} {w ws : va_W} (hK : KS K) (hR : XR g a K T w) (hp : ws.Perm (w ++ mw g a2 K.1 K.2.1 K.2.2 B T P h))
    (next : ∀ (K : KT) (T : (Nat → Int32) × Int32) (B : (Nat → Int32) × Int32 × (Nat → Int32)) (P : Int32 × Int32 × (Nat → Int32) × Int32 × Int32) (h : Int64) (w ws : va_W) (cells2 slots2 : Nat), cells2 ≤ cells + 160 → slots2 ≤ slots + 1000 → KS K → XR g a K T w → ws.Perm (w ++ mw g a2 K.1 K.2.1 K.2.2 B T P h) → V p l e room_1 s m args below meth c g A 4 cells2 slots2 Q 1403 (lvL b a a2 i) [] ws) : V p l e room_1 s m args below meth c g A 4 cells slots Q 627 (lvL b a a2 i) [] ws := by
  have hT := hR.tok
  refine v_aload_n C dL_law_627 2 rfl ?_
  refine v_aload_n C dL_law_628 1 rfl ?_
  refine v_iload_n C dL_law_629 0 rfl ?_
  refine v_iconst (v := 1) C dL_law_630 (by decide) ?_
  refine v_iadd C dL_law_631 ?_
  refine v_sld C hX dL_law_632 (sx1 hi hX.2.2.2) ?_
  refine v_aload_n C dL_law_633 1 rfl ?_
  refine v_iload_n C dL_law_634 0 rfl ?_
  refine v_iconst (v := 2) C dL_law_635 (by decide) ?_
  refine v_iadd C dL_law_636 ?_
  refine v_sld C hX dL_law_637 (sx2 hi hX.2.2.2) ?_
  refine v_aload_n C dL_law_638 1 rfl ?_
  refine v_iload_n C dL_law_639 0 rfl ?_
  refine v_iconst (v := 3) C dL_law_640 (by decide) ?_
  refine v_iadd C dL_law_641 ?_
  refine v_sld C hX dL_law_642 (sx3 hi hX.2.2.2) ?_
  refine v_aload_n C dL_law_643 1 rfl ?_
  refine v_iload_n C dL_law_644 0 rfl ?_
  refine v_iconst (v := 4) C dL_law_645 (by decide) ?_
  refine v_iadd C dL_law_646 ?_
  refine v_sld C hX dL_law_647 (sx4 hi hX.2.2.2) ?_
  refine v_callX C (xk_move hK (xs (i + 1)) (xs (i + 2)) (xs (i + 3)) (xs (i + 4)) w hR) ok_X0_move rfl q813 rfl (Nat.le_of_ble_eq_true rfl) rfl dL_law_648 (roomN rfl (show cells + 26 ≤ 600000 by omega) (show slots + 170 ≤ 7302250 by omega)) hp (fun rv w1 hw => ?_)
  obtain ⟨rfl, hR1⟩ := hw
  refine v_aload_n C dL_law_651 3 rfl ?_
  refine v_aload_n C dL_law_652 1 rfl ?_
  refine v_iload_n C dL_law_653 0 rfl ?_
  refine v_iconst (v := 1) C dL_law_654 (by decide) ?_
  refine v_iadd C dL_law_655 ?_
  refine v_sld C hX dL_law_656 (sx1 hi hX.2.2.2) ?_
  refine v_aload_n C dL_law_657 1 rfl ?_
  refine v_iload_n C dL_law_658 0 rfl ?_
  refine v_iconst (v := 2) C dL_law_659 (by decide) ?_
  refine v_iadd C dL_law_660 ?_
  refine v_sld C hX dL_law_661 (sx2 hi hX.2.2.2) ?_
  refine v_aload_n C dL_law_662 1 rfl ?_
  refine v_iload_n C dL_law_663 0 rfl ?_
  refine v_iconst (v := 3) C dL_law_664 (by decide) ?_
  refine v_iadd C dL_law_665 ?_
  refine v_sld C hX dL_law_666 (sx3 hi hX.2.2.2) ?_
  refine v_aload_n C dL_law_667 1 rfl ?_
  refine v_iload_n C dL_law_668 0 rfl ?_
  refine v_iconst (v := 4) C dL_law_669 (by decide) ?_
  refine v_iadd C dL_law_670 ?_
  refine v_sld C hX dL_law_671 (sx4 hi hX.2.2.2) ?_
  refine v_callV C (m_move l g a2 K B T P h hK.1 hK.sp0 (xs (i + 1)) (xs (i + 2)) (xs (i + 3)) (xs (i + 4))) ok_X3_move rfl q1370 rfl (Nat.le_of_ble_eq_true rfl) 0 rfl (ci := 3) rfl rfl dL_law_672 (roomN rfl (show cells + 26 + 0 ≤ 600000 by omega) (show slots + 170 + 0 ≤ 7302250 by omega)) (wr := w1) List.perm_append_comm ?_
  rintro rv w2 ⟨rfl, rfl⟩
  refine v_icmp_eq C 1403 dL_law_675 (by decide) (fun _ => ?_) (fun hne => absurd (rfl) hne)
  exact next (p_move K (xs (i + 1)) (xs (i + 2)) (xs (i + 3)) (xs (i + 4))).2 T _ _ _ w1 _ _ _ (show cells + 26 + 0 ≤ cells + 160 by omega) (show slots + 170 + 0 ≤ slots + 1000 by omega) (kx_move hK (xs (i + 1)) (xs (i + 2)) (xs (i + 3)) (xs (i + 4))).2.1 hR1 List.perm_append_comm
set_option maxHeartbeats 1000000 in
theorem law_c15 (C : Cx p s m args meth c g A x code 4 ret) {b L : Nat} {xs : Nat → Int32} (hX : SX s A b L xs) {a a2 : Nat → Nat} {i cells slots : Nat} (hi : i + 6 ≤ L) (hc : cells + 160 ≤ 600000) (hs : slots + 1000 ≤ 7302250) {K : KT} {T : (Nat → Int32) × Int32} {B : (Nat → Int32) × Int32 × (Nat → Int32)} {P : Int32 × Int32 × (Nat → Int32) × Int32 × Int32} {h : Int64} {w ws : va_W} (hK : KS K) (hR : XR g a K T w) (hp : ws.Perm (w ++ mw g a2 K.1 K.2.1 K.2.2 B T P h))
    (next : ∀ (K : KT) (T : (Nat → Int32) × Int32) (B : (Nat → Int32) × Int32 × (Nat → Int32)) (P : Int32 × Int32 × (Nat → Int32) × Int32 × Int32) (h : Int64) (w ws : va_W) (cells2 slots2 : Nat), cells2 ≤ cells + 160 → slots2 ≤ slots + 1000 → KS K → XR g a K T w → ws.Perm (w ++ mw g a2 K.1 K.2.1 K.2.2 B T P h) → V p l e room_1 s m args below meth c g A 4 cells2 slots2 Q 1403 (lvL b a a2 i) [] ws) : V p l e room_1 s m args below meth c g A 4 cells slots Q 680 (lvL b a a2 i) [] ws := by
  have hT := hR.tok
  refine v_aload_n C dL_law_680 2 rfl ?_
  refine v_aload_n C dL_law_681 1 rfl ?_
  refine v_iload_n C dL_law_682 0 rfl ?_
  refine v_iconst (v := 1) C dL_law_683 (by decide) ?_
  refine v_iadd C dL_law_684 ?_
  refine v_sld C hX dL_law_685 (sx1 hi hX.2.2.2) ?_
  refine v_aload_n C dL_law_686 1 rfl ?_
  refine v_iload_n C dL_law_687 0 rfl ?_
  refine v_iconst (v := 2) C dL_law_688 (by decide) ?_
  refine v_iadd C dL_law_689 ?_
  refine v_sld C hX dL_law_690 (sx2 hi hX.2.2.2) ?_
  refine v_aload_n C dL_law_691 1 rfl ?_
  refine v_iload_n C dL_law_692 0 rfl ?_
  refine v_iconst (v := 3) C dL_law_693 (by decide) ?_
  refine v_iadd C dL_law_694 ?_
  refine v_sld C hX dL_law_695 (sx3 hi hX.2.2.2) ?_
  refine v_aload_n C dL_law_696 1 rfl ?_
  refine v_iload_n C dL_law_697 0 rfl ?_
  refine v_iconst (v := 4) C dL_law_698 (by decide) ?_
  refine v_iadd C dL_law_699 ?_
  refine v_sld C hX dL_law_700 (sx4 hi hX.2.2.2) ?_
  refine v_callX C (xk_whyNot hK (xs (i + 1)) (xs (i + 2)) (xs (i + 3)) (xs (i + 4)) w hR) ok_X0_whyNot rfl q817 rfl (Nat.le_of_ble_eq_true rfl) rfl dL_law_701 (roomN rfl (show cells + 1 ≤ 600000 by omega) (show slots + 6 ≤ 7302250 by omega)) hp (fun rv w1 hw => ?_)
  obtain ⟨rfl, hR1⟩ := hw
  refine v_aload_n C dL_law_704 3 rfl ?_
  refine v_aload_n C dL_law_705 1 rfl ?_
  refine v_iload_n C dL_law_706 0 rfl ?_
  refine v_iconst (v := 1) C dL_law_707 (by decide) ?_
  refine v_iadd C dL_law_708 ?_
  refine v_sld C hX dL_law_709 (sx1 hi hX.2.2.2) ?_
  refine v_aload_n C dL_law_710 1 rfl ?_
  refine v_iload_n C dL_law_711 0 rfl ?_
  refine v_iconst (v := 2) C dL_law_712 (by decide) ?_
  refine v_iadd C dL_law_713 ?_
  refine v_sld C hX dL_law_714 (sx2 hi hX.2.2.2) ?_
  refine v_aload_n C dL_law_715 1 rfl ?_
  refine v_iload_n C dL_law_716 0 rfl ?_
  refine v_iconst (v := 3) C dL_law_717 (by decide) ?_
  refine v_iadd C dL_law_718 ?_
  refine v_sld C hX dL_law_719 (sx3 hi hX.2.2.2) ?_
  refine v_aload_n C dL_law_720 1 rfl ?_
  refine v_iload_n C dL_law_721 0 rfl ?_
  refine v_iconst (v := 4) C dL_law_722 (by decide) ?_
  refine v_iadd C dL_law_723 ?_
  refine v_sld C hX dL_law_724 (sx4 hi hX.2.2.2) ?_
  refine v_callV C (m_whyNot l g a2 K.1 K.2.1 K.2.2 B T P h _ _ hK.1.1.1 hK.1.1.2 hK.1.2.1.1 hK.1.2.1.2 (xs (i + 1)) (xs (i + 2)) (xs (i + 3)) (xs (i + 4))) ok_X3_whyNot rfl q1402 rfl (Nat.le_of_ble_eq_true rfl) 0 rfl (ci := 3) rfl rfl dL_law_725 (roomN rfl (show cells + 1 + 0 ≤ 600000 by omega) (show slots + 6 + 0 ≤ 7302250 by omega)) (wr := w1) List.perm_append_comm ?_
  rintro rv w2 ⟨rfl, rfl⟩
  refine v_icmp_eq C 1403 dL_law_728 (by decide) (fun _ => ?_) (fun hne => absurd (rfl) hne)
  exact next K T _ _ _ w1 _ _ _ (show cells + 1 + 0 ≤ cells + 160 by omega) (show slots + 6 + 0 ≤ slots + 1000 by omega) hK hR1 List.perm_append_comm
set_option maxHeartbeats 1000000 in
theorem law_c16 (C : Cx p s m args meth c g A x code 4 ret) {b L : Nat} {xs : Nat → Int32} (hX : SX s A b L xs) {a a2 : Nat → Nat} {i cells slots : Nat} (hi : i + 6 ≤ L) (hc : cells + 160 ≤ 600000) (hs : slots + 1000 ≤ 7302250) {K : KT} {T : (Nat → Int32) × Int32} {B : (Nat → Int32) × Int32 × (Nat → Int32)} {P : Int32 × Int32 × (Nat → Int32) × Int32 × Int32} {h : Int64} {w ws : va_W} (hK : KS K) (hR : XR g a K T w) (hp : ws.Perm (w ++ mw g a2 K.1 K.2.1 K.2.2 B T P h))
    (next : ∀ (K : KT) (T : (Nat → Int32) × Int32) (B : (Nat → Int32) × Int32 × (Nat → Int32)) (P : Int32 × Int32 × (Nat → Int32) × Int32 × Int32) (h : Int64) (w ws : va_W) (cells2 slots2 : Nat), cells2 ≤ cells + 160 → slots2 ≤ slots + 1000 → KS K → XR g a K T w → ws.Perm (w ++ mw g a2 K.1 K.2.1 K.2.2 B T P h) → V p l e room_1 s m args below meth c g A 4 cells2 slots2 Q 1403 (lvL b a a2 i) [] ws) : V p l e room_1 s m args below meth c g A 4 cells slots Q 733 (lvL b a a2 i) [] ws := by
  have hT := hR.tok
  refine v_aload_n C dL_law_733 2 rfl ?_
  refine v_aload_n C dL_law_734 1 rfl ?_
  refine v_iload_n C dL_law_735 0 rfl ?_
  refine v_iconst (v := 1) C dL_law_736 (by decide) ?_
  refine v_iadd C dL_law_737 ?_
  refine v_sld C hX dL_law_738 (sx1 hi hX.2.2.2) ?_
  refine v_aload_n C dL_law_739 1 rfl ?_
  refine v_iload_n C dL_law_740 0 rfl ?_
  refine v_iconst (v := 2) C dL_law_741 (by decide) ?_
  refine v_iadd C dL_law_742 ?_
  refine v_sld C hX dL_law_743 (sx2 hi hX.2.2.2) ?_
  refine v_callX C (xk_clean hK (xs (i + 1)) (xs (i + 2)) w hR) ok_X0_clean rfl q821 rfl (Nat.le_of_ble_eq_true rfl) rfl dL_law_744 (roomN rfl (show cells + 25 ≤ 600000 by omega) (show slots + 164 ≤ 7302250 by omega)) hp (fun rv w1 hw => ?_)
  obtain ⟨rfl, hR1⟩ := hw
  refine v_aload_n C dL_law_747 3 rfl ?_
  refine v_aload_n C dL_law_748 1 rfl ?_
  refine v_iload_n C dL_law_749 0 rfl ?_
  refine v_iconst (v := 1) C dL_law_750 (by decide) ?_
  refine v_iadd C dL_law_751 ?_
  refine v_sld C hX dL_law_752 (sx1 hi hX.2.2.2) ?_
  refine v_aload_n C dL_law_753 1 rfl ?_
  refine v_iload_n C dL_law_754 0 rfl ?_
  refine v_iconst (v := 2) C dL_law_755 (by decide) ?_
  refine v_iadd C dL_law_756 ?_
  refine v_sld C hX dL_law_757 (sx2 hi hX.2.2.2) ?_
  refine v_callV C (m_clean l g a2 K B T P h hK.1 (xs (i + 1)) (xs (i + 2))) ok_X3_clean rfl q1406 rfl (Nat.le_of_ble_eq_true rfl) 0 rfl (ci := 3) rfl rfl dL_law_758 (roomN rfl (show cells + 25 + 0 ≤ 600000 by omega) (show slots + 164 + 0 ≤ 7302250 by omega)) (wr := w1) List.perm_append_comm ?_
  rintro rv w2 ⟨rfl, rfl⟩
  refine v_icmp_eq C 1403 dL_law_761 (by decide) (fun _ => ?_) (fun hne => absurd (rfl) hne)
  exact next (p_clean K (xs (i + 1)) (xs (i + 2))).2 T _ _ _ w1 _ _ _ (show cells + 25 + 0 ≤ cells + 160 by omega) (show slots + 164 + 0 ≤ slots + 1000 by omega) (kx_clean hK (xs (i + 1)) (xs (i + 2))).2.1 hR1 List.perm_append_comm
set_option maxHeartbeats 1000000 in
theorem law_c17 (C : Cx p s m args meth c g A x code 4 ret) {b L : Nat} {xs : Nat → Int32} (hX : SX s A b L xs) {a a2 : Nat → Nat} {i cells slots : Nat} (hi : i + 6 ≤ L) (hc : cells + 160 ≤ 600000) (hs : slots + 1000 ≤ 7302250) {K : KT} {T : (Nat → Int32) × Int32} {B : (Nat → Int32) × Int32 × (Nat → Int32)} {P : Int32 × Int32 × (Nat → Int32) × Int32 × Int32} {h : Int64} {w ws : va_W} (hK : KS K) (hR : XR g a K T w) (hp : ws.Perm (w ++ mw g a2 K.1 K.2.1 K.2.2 B T P h))
    (next : ∀ (K : KT) (T : (Nat → Int32) × Int32) (B : (Nat → Int32) × Int32 × (Nat → Int32)) (P : Int32 × Int32 × (Nat → Int32) × Int32 × Int32) (h : Int64) (w ws : va_W) (cells2 slots2 : Nat), cells2 ≤ cells + 160 → slots2 ≤ slots + 1000 → KS K → XR g a K T w → ws.Perm (w ++ mw g a2 K.1 K.2.1 K.2.2 B T P h) → V p l e room_1 s m args below meth c g A 4 cells2 slots2 Q 1403 (lvL b a a2 i) [] ws) : V p l e room_1 s m args below meth c g A 4 cells slots Q 766 (lvL b a a2 i) [] ws := by
  have hT := hR.tok
  refine v_aload_n C dL_law_766 2 rfl ?_
  refine v_aload_n C dL_law_767 1 rfl ?_
  refine v_iload_n C dL_law_768 0 rfl ?_
  refine v_iconst (v := 1) C dL_law_769 (by decide) ?_
  refine v_iadd C dL_law_770 ?_
  refine v_sld C hX dL_law_771 (sx1 hi hX.2.2.2) ?_
  refine v_callX C (xk_pass hK (xs (i + 1)) w hR) ok_X0_pass rfl q825 rfl (Nat.le_of_ble_eq_true rfl) rfl dL_law_772 (roomN rfl (show cells + 25 ≤ 600000 by omega) (show slots + 164 ≤ 7302250 by omega)) hp (fun rv w1 hw => ?_)
  obtain ⟨rfl, hR1⟩ := hw
  refine v_aload_n C dL_law_775 3 rfl ?_
  refine v_aload_n C dL_law_776 1 rfl ?_
  refine v_iload_n C dL_law_777 0 rfl ?_
  refine v_iconst (v := 1) C dL_law_778 (by decide) ?_
  refine v_iadd C dL_law_779 ?_
  refine v_sld C hX dL_law_780 (sx1 hi hX.2.2.2) ?_
  refine v_callV C (m_pass l g a2 K B T P h hK.1 (xs (i + 1))) ok_X3_pass rfl q1418 rfl (Nat.le_of_ble_eq_true rfl) 0 rfl (ci := 3) rfl rfl dL_law_781 (roomN rfl (show cells + 25 + 0 ≤ 600000 by omega) (show slots + 164 + 0 ≤ 7302250 by omega)) (wr := w1) List.perm_append_comm ?_
  rintro rv w2 ⟨rfl, rfl⟩
  refine v_icmp_eq C 1403 dL_law_784 (by decide) (fun _ => ?_) (fun hne => absurd (rfl) hne)
  exact next (p_pass K (xs (i + 1))).2 T _ _ _ w1 _ _ _ (show cells + 25 + 0 ≤ cells + 160 by omega) (show slots + 164 + 0 ≤ slots + 1000 by omega) (kx_pass hK (xs (i + 1))).2.1 hR1 List.perm_append_comm
set_option maxHeartbeats 1000000 in
theorem law_c18 (C : Cx p s m args meth c g A x code 4 ret) {b L : Nat} {xs : Nat → Int32} (hX : SX s A b L xs) {a a2 : Nat → Nat} {i cells slots : Nat} (hi : i + 6 ≤ L) (hc : cells + 160 ≤ 600000) (hs : slots + 1000 ≤ 7302250) {K : KT} {T : (Nat → Int32) × Int32} {B : (Nat → Int32) × Int32 × (Nat → Int32)} {P : Int32 × Int32 × (Nat → Int32) × Int32 × Int32} {h : Int64} {w ws : va_W} (hK : KS K) (hR : XR g a K T w) (hp : ws.Perm (w ++ mw g a2 K.1 K.2.1 K.2.2 B T P h))
    (next : ∀ (K : KT) (T : (Nat → Int32) × Int32) (B : (Nat → Int32) × Int32 × (Nat → Int32)) (P : Int32 × Int32 × (Nat → Int32) × Int32 × Int32) (h : Int64) (w ws : va_W) (cells2 slots2 : Nat), cells2 ≤ cells + 160 → slots2 ≤ slots + 1000 → KS K → XR g a K T w → ws.Perm (w ++ mw g a2 K.1 K.2.1 K.2.2 B T P h) → V p l e room_1 s m args below meth c g A 4 cells2 slots2 Q 1403 (lvL b a a2 i) [] ws) : V p l e room_1 s m args below meth c g A 4 cells slots Q 789 (lvL b a a2 i) [] ws := by
  have hT := hR.tok
  refine v_aload_n C dL_law_789 2 rfl ?_
  refine v_aload_n C dL_law_790 1 rfl ?_
  refine v_iload_n C dL_law_791 0 rfl ?_
  refine v_iconst (v := 1) C dL_law_792 (by decide) ?_
  refine v_iadd C dL_law_793 ?_
  refine v_sld C hX dL_law_794 (sx1 hi hX.2.2.2) ?_
  refine v_aload_n C dL_law_795 1 rfl ?_
  refine v_iload_n C dL_law_796 0 rfl ?_
  refine v_iconst (v := 2) C dL_law_797 (by decide) ?_
  refine v_iadd C dL_law_798 ?_
  refine v_sld C hX dL_law_799 (sx2 hi hX.2.2.2) ?_
  refine v_callX C (xk_dry hK (xs (i + 1)) (xs (i + 2)) w hR) ok_X0_dry rfl q829 rfl (Nat.le_of_ble_eq_true rfl) rfl dL_law_800 (roomN rfl (show cells + 25 ≤ 600000 by omega) (show slots + 164 ≤ 7302250 by omega)) hp (fun rv w1 hw => ?_)
  obtain ⟨rfl, hR1⟩ := hw
  refine v_aload_n C dL_law_803 3 rfl ?_
  refine v_aload_n C dL_law_804 1 rfl ?_
  refine v_iload_n C dL_law_805 0 rfl ?_
  refine v_iconst (v := 1) C dL_law_806 (by decide) ?_
  refine v_iadd C dL_law_807 ?_
  refine v_sld C hX dL_law_808 (sx1 hi hX.2.2.2) ?_
  refine v_aload_n C dL_law_809 1 rfl ?_
  refine v_iload_n C dL_law_810 0 rfl ?_
  refine v_iconst (v := 2) C dL_law_811 (by decide) ?_
  refine v_iadd C dL_law_812 ?_
  refine v_sld C hX dL_law_813 (sx2 hi hX.2.2.2) ?_
  refine v_callV C (m_dry l g a2 K B T P h hK.1 (xs (i + 1)) (xs (i + 2))) ok_X3_dry rfl q1422 rfl (Nat.le_of_ble_eq_true rfl) 0 rfl (ci := 3) rfl rfl dL_law_814 (roomN rfl (show cells + 25 + 0 ≤ 600000 by omega) (show slots + 164 + 0 ≤ 7302250 by omega)) (wr := w1) List.perm_append_comm ?_
  rintro rv w2 ⟨rfl, rfl⟩
  refine v_icmp_eq C 1403 dL_law_817 (by decide) (fun _ => ?_) (fun hne => absurd (rfl) hne)
  exact next (p_dry K (xs (i + 1)) (xs (i + 2))).2 T _ _ _ w1 _ _ _ (show cells + 25 + 0 ≤ cells + 160 by omega) (show slots + 164 + 0 ≤ slots + 1000 by omega) (kx_dry hK (xs (i + 1)) (xs (i + 2))).2.1 hR1 List.perm_append_comm
set_option maxHeartbeats 1000000 in
theorem law_c19 (C : Cx p s m args meth c g A x code 4 ret) {b L : Nat} {xs : Nat → Int32} (hX : SX s A b L xs) {a a2 : Nat → Nat} {i cells slots : Nat} (hi : i + 6 ≤ L) (hc : cells + 160 ≤ 600000) (hs : slots + 1000 ≤ 7302250) {K : KT} {T : (Nat → Int32) × Int32} {B : (Nat → Int32) × Int32 × (Nat → Int32)} {P : Int32 × Int32 × (Nat → Int32) × Int32 × Int32} {h : Int64} {w ws : va_W} (hK : KS K) (hR : XR g a K T w) (hp : ws.Perm (w ++ mw g a2 K.1 K.2.1 K.2.2 B T P h))
    (next : ∀ (K : KT) (T : (Nat → Int32) × Int32) (B : (Nat → Int32) × Int32 × (Nat → Int32)) (P : Int32 × Int32 × (Nat → Int32) × Int32 × Int32) (h : Int64) (w ws : va_W) (cells2 slots2 : Nat), cells2 ≤ cells + 160 → slots2 ≤ slots + 1000 → KS K → XR g a K T w → ws.Perm (w ++ mw g a2 K.1 K.2.1 K.2.2 B T P h) → V p l e room_1 s m args below meth c g A 4 cells2 slots2 Q 1403 (lvL b a a2 i) [] ws) : V p l e room_1 s m args below meth c g A 4 cells slots Q 822 (lvL b a a2 i) [] ws := by
  have hT := hR.tok
  refine v_aload_n C dL_law_822 2 rfl ?_
  refine v_aload_n C dL_law_823 1 rfl ?_
  refine v_iload_n C dL_law_824 0 rfl ?_
  refine v_iconst (v := 1) C dL_law_825 (by decide) ?_
  refine v_iadd C dL_law_826 ?_
  refine v_sld C hX dL_law_827 (sx1 hi hX.2.2.2) ?_
  refine v_callX C (xk_dump hK (xs (i + 1)) w hR) ok_X0_dump rfl q833 rfl (Nat.le_of_ble_eq_true rfl) rfl dL_law_828 (roomN rfl (show cells + 25 ≤ 600000 by omega) (show slots + 164 ≤ 7302250 by omega)) hp (fun rv w1 hw => ?_)
  obtain ⟨rfl, hR1⟩ := hw
  refine v_aload_n C dL_law_831 3 rfl ?_
  refine v_aload_n C dL_law_832 1 rfl ?_
  refine v_iload_n C dL_law_833 0 rfl ?_
  refine v_iconst (v := 1) C dL_law_834 (by decide) ?_
  refine v_iadd C dL_law_835 ?_
  refine v_sld C hX dL_law_836 (sx1 hi hX.2.2.2) ?_
  refine v_callV C (m_dump l g a2 K B T P h hK.1 (xs (i + 1))) ok_X3_dump rfl q1435 rfl (Nat.le_of_ble_eq_true rfl) 0 rfl (ci := 3) rfl rfl dL_law_837 (roomN rfl (show cells + 25 + 0 ≤ 600000 by omega) (show slots + 164 + 0 ≤ 7302250 by omega)) (wr := w1) List.perm_append_comm ?_
  rintro rv w2 ⟨rfl, rfl⟩
  refine v_icmp_eq C 1403 dL_law_840 (by decide) (fun _ => ?_) (fun hne => absurd (rfl) hne)
  exact next (p_dump K (xs (i + 1))).2 T _ _ _ w1 _ _ _ (show cells + 25 + 0 ≤ cells + 160 by omega) (show slots + 164 + 0 ≤ slots + 1000 by omega) (kx_dump hK (xs (i + 1))).2.1 hR1 List.perm_append_comm
set_option maxHeartbeats 1000000 in
theorem law_c20 (C : Cx p s m args meth c g A x code 4 ret) {b L : Nat} {xs : Nat → Int32} (hX : SX s A b L xs) {a a2 : Nat → Nat} {i cells slots : Nat} (hi : i + 6 ≤ L) (hc : cells + 160 ≤ 600000) (hs : slots + 1000 ≤ 7302250) {K : KT} {T : (Nat → Int32) × Int32} {B : (Nat → Int32) × Int32 × (Nat → Int32)} {P : Int32 × Int32 × (Nat → Int32) × Int32 × Int32} {h : Int64} {w ws : va_W} (hK : KS K) (hR : XR g a K T w) (hp : ws.Perm (w ++ mw g a2 K.1 K.2.1 K.2.2 B T P h))
    (next : ∀ (K : KT) (T : (Nat → Int32) × Int32) (B : (Nat → Int32) × Int32 × (Nat → Int32)) (P : Int32 × Int32 × (Nat → Int32) × Int32 × Int32) (h : Int64) (w ws : va_W) (cells2 slots2 : Nat), cells2 ≤ cells + 160 → slots2 ≤ slots + 1000 → KS K → XR g a K T w → ws.Perm (w ++ mw g a2 K.1 K.2.1 K.2.2 B T P h) → V p l e room_1 s m args below meth c g A 4 cells2 slots2 Q 1403 (lvL b a a2 i) [] ws) : V p l e room_1 s m args below meth c g A 4 cells slots Q 845 (lvL b a a2 i) [] ws := by
  have hT := hR.tok
  refine v_aload_n C dL_law_845 2 rfl ?_
  refine v_aload_n C dL_law_846 1 rfl ?_
  refine v_iload_n C dL_law_847 0 rfl ?_
  refine v_iconst (v := 1) C dL_law_848 (by decide) ?_
  refine v_iadd C dL_law_849 ?_
  refine v_sld C hX dL_law_850 (sx1 hi hX.2.2.2) ?_
  refine v_aload_n C dL_law_851 1 rfl ?_
  refine v_iload_n C dL_law_852 0 rfl ?_
  refine v_iconst (v := 2) C dL_law_853 (by decide) ?_
  refine v_iadd C dL_law_854 ?_
  refine v_sld C hX dL_law_855 (sx2 hi hX.2.2.2) ?_
  refine v_aload_n C dL_law_856 1 rfl ?_
  refine v_iload_n C dL_law_857 0 rfl ?_
  refine v_iconst (v := 3) C dL_law_858 (by decide) ?_
  refine v_iadd C dL_law_859 ?_
  refine v_sld C hX dL_law_860 (sx3 hi hX.2.2.2) ?_
  refine v_aload_n C dL_law_861 1 rfl ?_
  refine v_iload_n C dL_law_862 0 rfl ?_
  refine v_iconst (v := 4) C dL_law_863 (by decide) ?_
  refine v_iadd C dL_law_864 ?_
  refine v_sld C hX dL_law_865 (sx4 hi hX.2.2.2) ?_
  refine v_callX C (xk_addCon hK (xs (i + 1)) (xs (i + 2)) (xs (i + 3)) (xs (i + 4)) w hR) ok_X0_addContract rfl q837 rfl (Nat.le_of_ble_eq_true rfl) rfl dL_law_866 (roomN rfl (show cells + 26 ≤ 600000 by omega) (show slots + 169 ≤ 7302250 by omega)) hp (fun rv w1 hw => ?_)
  obtain ⟨rfl, hR1⟩ := hw
  refine v_aload_n C dL_law_869 3 rfl ?_
  refine v_aload_n C dL_law_870 1 rfl ?_
  refine v_iload_n C dL_law_871 0 rfl ?_
  refine v_iconst (v := 1) C dL_law_872 (by decide) ?_
  refine v_iadd C dL_law_873 ?_
  refine v_sld C hX dL_law_874 (sx1 hi hX.2.2.2) ?_
  refine v_aload_n C dL_law_875 1 rfl ?_
  refine v_iload_n C dL_law_876 0 rfl ?_
  refine v_iconst (v := 2) C dL_law_877 (by decide) ?_
  refine v_iadd C dL_law_878 ?_
  refine v_sld C hX dL_law_879 (sx2 hi hX.2.2.2) ?_
  refine v_aload_n C dL_law_880 1 rfl ?_
  refine v_iload_n C dL_law_881 0 rfl ?_
  refine v_iconst (v := 3) C dL_law_882 (by decide) ?_
  refine v_iadd C dL_law_883 ?_
  refine v_sld C hX dL_law_884 (sx3 hi hX.2.2.2) ?_
  refine v_aload_n C dL_law_885 1 rfl ?_
  refine v_iload_n C dL_law_886 0 rfl ?_
  refine v_iconst (v := 4) C dL_law_887 (by decide) ?_
  refine v_iadd C dL_law_888 ?_
  refine v_sld C hX dL_law_889 (sx4 hi hX.2.2.2) ?_
  refine v_callV C (m_addContract l g a2 K B T P h hK.1 (xs (i + 1)) (xs (i + 2)) (xs (i + 3)) (xs (i + 4))) ok_X3_addContract rfl q1439 rfl (Nat.le_of_ble_eq_true rfl) 0 rfl (ci := 3) rfl rfl dL_law_890 (roomN rfl (show cells + 26 + 0 ≤ 600000 by omega) (show slots + 169 + 0 ≤ 7302250 by omega)) (wr := w1) List.perm_append_comm ?_
  rintro rv w2 ⟨rfl, rfl⟩
  refine v_icmp_eq C 1403 dL_law_893 (by decide) (fun _ => ?_) (fun hne => absurd (rfl) hne)
  exact next (p_addContract K (xs (i + 1)) (xs (i + 2)) (xs (i + 3)) (xs (i + 4))).2 T _ _ _ w1 _ _ _ (show cells + 26 + 0 ≤ cells + 160 by omega) (show slots + 169 + 0 ≤ slots + 1000 by omega) (kx_addCon hK (xs (i + 1)) (xs (i + 2)) (xs (i + 3)) (xs (i + 4))).2.1 hR1 List.perm_append_comm
set_option maxHeartbeats 1000000 in
theorem law_c21 (C : Cx p s m args meth c g A x code 4 ret) {b L : Nat} {xs : Nat → Int32} (hX : SX s A b L xs) {a a2 : Nat → Nat} {i cells slots : Nat} (hi : i + 6 ≤ L) (hc : cells + 160 ≤ 600000) (hs : slots + 1000 ≤ 7302250) {K : KT} {T : (Nat → Int32) × Int32} {B : (Nat → Int32) × Int32 × (Nat → Int32)} {P : Int32 × Int32 × (Nat → Int32) × Int32 × Int32} {h : Int64} {w ws : va_W} (hK : KS K) (hR : XR g a K T w) (hp : ws.Perm (w ++ mw g a2 K.1 K.2.1 K.2.2 B T P h))
    (next : ∀ (K : KT) (T : (Nat → Int32) × Int32) (B : (Nat → Int32) × Int32 × (Nat → Int32)) (P : Int32 × Int32 × (Nat → Int32) × Int32 × Int32) (h : Int64) (w ws : va_W) (cells2 slots2 : Nat), cells2 ≤ cells + 160 → slots2 ≤ slots + 1000 → KS K → XR g a K T w → ws.Perm (w ++ mw g a2 K.1 K.2.1 K.2.2 B T P h) → V p l e room_1 s m args below meth c g A 4 cells2 slots2 Q 1403 (lvL b a a2 i) [] ws) : V p l e room_1 s m args below meth c g A 4 cells slots Q 898 (lvL b a a2 i) [] ws := by
  have hT := hR.tok
  refine v_aload_n C dL_law_898 2 rfl ?_
  refine v_aload_n C dL_law_899 1 rfl ?_
  refine v_iload_n C dL_law_900 0 rfl ?_
  refine v_iconst (v := 1) C dL_law_901 (by decide) ?_
  refine v_iadd C dL_law_902 ?_
  refine v_sld C hX dL_law_903 (sx1 hi hX.2.2.2) ?_
  refine v_aload_n C dL_law_904 1 rfl ?_
  refine v_iload_n C dL_law_905 0 rfl ?_
  refine v_iconst (v := 2) C dL_law_906 (by decide) ?_
  refine v_iadd C dL_law_907 ?_
  refine v_sld C hX dL_law_908 (sx2 hi hX.2.2.2) ?_
  refine v_callX C (xk_contract hK (xs (i + 1)) (xs (i + 2)) w hR) ok_X0_contract rfl q842 rfl (Nat.le_of_ble_eq_true rfl) rfl dL_law_909 (roomN rfl (show cells + 0 ≤ 600000 by omega) (show slots + 0 ≤ 7302250 by omega)) hp (fun rv w1 hw => ?_)
  obtain ⟨rfl, hR1⟩ := hw
  refine v_aload_n C dL_law_912 3 rfl ?_
  refine v_aload_n C dL_law_913 1 rfl ?_
  refine v_iload_n C dL_law_914 0 rfl ?_
  refine v_iconst (v := 1) C dL_law_915 (by decide) ?_
  refine v_iadd C dL_law_916 ?_
  refine v_sld C hX dL_law_917 (sx1 hi hX.2.2.2) ?_
  refine v_aload_n C dL_law_918 1 rfl ?_
  refine v_iload_n C dL_law_919 0 rfl ?_
  refine v_iconst (v := 2) C dL_law_920 (by decide) ?_
  refine v_iadd C dL_law_921 ?_
  refine v_sld C hX dL_law_922 (sx2 hi hX.2.2.2) ?_
  refine v_callV C (m_contract l g a2 K.1 K.2.1 K.2.2 B T P h _ hK.1.2.2.1.1 hK.1.2.2.1.2 (xs (i + 1)) (xs (i + 2))) ok_X3_contract rfl q1443 rfl (Nat.le_of_ble_eq_true rfl) 0 rfl (ci := 3) rfl rfl dL_law_923 (roomN rfl (show cells + 0 + 0 ≤ 600000 by omega) (show slots + 0 + 0 ≤ 7302250 by omega)) (wr := w1) List.perm_append_comm ?_
  rintro rv w2 ⟨rfl, rfl⟩
  refine v_icmp_eq C 1403 dL_law_926 (by decide) (fun _ => ?_) (fun hne => absurd (rfl) hne)
  exact next K T _ _ _ w1 _ _ _ (show cells + 0 + 0 ≤ cells + 160 by omega) (show slots + 0 + 0 ≤ slots + 1000 by omega) hK hR1 List.perm_append_comm
set_option maxHeartbeats 1000000 in
theorem law_c22 (C : Cx p s m args meth c g A x code 4 ret) {b L : Nat} {xs : Nat → Int32} (hX : SX s A b L xs) {a a2 : Nat → Nat} {i cells slots : Nat} (hi : i + 6 ≤ L) (hc : cells + 160 ≤ 600000) (hs : slots + 1000 ≤ 7302250) {K : KT} {T : (Nat → Int32) × Int32} {B : (Nat → Int32) × Int32 × (Nat → Int32)} {P : Int32 × Int32 × (Nat → Int32) × Int32 × Int32} {h : Int64} {w ws : va_W} (hK : KS K) (hR : XR g a K T w) (hp : ws.Perm (w ++ mw g a2 K.1 K.2.1 K.2.2 B T P h))
    (next : ∀ (K : KT) (T : (Nat → Int32) × Int32) (B : (Nat → Int32) × Int32 × (Nat → Int32)) (P : Int32 × Int32 × (Nat → Int32) × Int32 × Int32) (h : Int64) (w ws : va_W) (cells2 slots2 : Nat), cells2 ≤ cells + 160 → slots2 ≤ slots + 1000 → KS K → XR g a K T w → ws.Perm (w ++ mw g a2 K.1 K.2.1 K.2.2 B T P h) → V p l e room_1 s m args below meth c g A 4 cells2 slots2 Q 1403 (lvL b a a2 i) [] ws) : V p l e room_1 s m args below meth c g A 4 cells slots Q 931 (lvL b a a2 i) [] ws := by
  have hT := hR.tok
  refine v_aload_n C dL_law_931 2 rfl ?_
  refine v_aload_n C dL_law_932 1 rfl ?_
  refine v_iload_n C dL_law_933 0 rfl ?_
  refine v_iconst (v := 1) C dL_law_934 (by decide) ?_
  refine v_iadd C dL_law_935 ?_
  refine v_sld C hX dL_law_936 (sx1 hi hX.2.2.2) ?_
  refine v_aload_n C dL_law_937 1 rfl ?_
  refine v_iload_n C dL_law_938 0 rfl ?_
  refine v_iconst (v := 2) C dL_law_939 (by decide) ?_
  refine v_iadd C dL_law_940 ?_
  refine v_sld C hX dL_law_941 (sx2 hi hX.2.2.2) ?_
  refine v_callX C (xk_blend hK (xs (i + 1)) (xs (i + 2)) w hR) ok_X0_blend rfl q855 rfl (Nat.le_of_ble_eq_true rfl) rfl dL_law_942 (roomN rfl (show cells + 0 ≤ 600000 by omega) (show slots + 0 ≤ 7302250 by omega)) hp (fun rv w1 hw => ?_)
  obtain ⟨rfl, hR1⟩ := hw
  refine v_aload_n C dL_law_945 3 rfl ?_
  refine v_aload_n C dL_law_946 1 rfl ?_
  refine v_iload_n C dL_law_947 0 rfl ?_
  refine v_iconst (v := 1) C dL_law_948 (by decide) ?_
  refine v_iadd C dL_law_949 ?_
  refine v_sld C hX dL_law_950 (sx1 hi hX.2.2.2) ?_
  refine v_aload_n C dL_law_951 1 rfl ?_
  refine v_iload_n C dL_law_952 0 rfl ?_
  refine v_iconst (v := 2) C dL_law_953 (by decide) ?_
  refine v_iadd C dL_law_954 ?_
  refine v_sld C hX dL_law_955 (sx2 hi hX.2.2.2) ?_
  refine v_callV C (m_blend l g a2 K.1 K.2.1 K.2.2 B T P h _ _ _ hK.1.1.1 hK.1.1.2 hK.1.2.1.1 hK.1.2.1.2 hK.1.2.2.1.1 hK.1.2.2.1.2 hK.cw0 (xs (i + 1)) (xs (i + 2))) ok_X3_blend rfl q1451 rfl (Nat.le_of_ble_eq_true rfl) 0 rfl (ci := 3) rfl rfl dL_law_956 (roomN rfl (show cells + 0 + 0 ≤ 600000 by omega) (show slots + 0 + 0 ≤ 7302250 by omega)) (wr := w1) List.perm_append_comm ?_
  rintro rv w2 ⟨rfl, B2, rfl⟩
  refine v_icmp_eq C 1403 dL_law_959 (by decide) (fun _ => ?_) (fun hne => absurd (rfl) hne)
  exact next K T _ _ _ w1 _ _ _ (show cells + 0 + 0 ≤ cells + 160 by omega) (show slots + 0 + 0 ≤ slots + 1000 by omega) hK hR1 List.perm_append_comm
set_option maxHeartbeats 1000000 in
theorem law_c23 (C : Cx p s m args meth c g A x code 4 ret) {b L : Nat} {xs : Nat → Int32} (hX : SX s A b L xs) {a a2 : Nat → Nat} {i cells slots : Nat} (hi : i + 6 ≤ L) (hc : cells + 160 ≤ 600000) (hs : slots + 1000 ≤ 7302250) {K : KT} {T : (Nat → Int32) × Int32} {B : (Nat → Int32) × Int32 × (Nat → Int32)} {P : Int32 × Int32 × (Nat → Int32) × Int32 × Int32} {h : Int64} {w ws : va_W} (hK : KS K) (hR : XR g a K T w) (hp : ws.Perm (w ++ mw g a2 K.1 K.2.1 K.2.2 B T P h))
    (next : ∀ (K : KT) (T : (Nat → Int32) × Int32) (B : (Nat → Int32) × Int32 × (Nat → Int32)) (P : Int32 × Int32 × (Nat → Int32) × Int32 × Int32) (h : Int64) (w ws : va_W) (cells2 slots2 : Nat), cells2 ≤ cells + 160 → slots2 ≤ slots + 1000 → KS K → XR g a K T w → ws.Perm (w ++ mw g a2 K.1 K.2.1 K.2.2 B T P h) → V p l e room_1 s m args below meth c g A 4 cells2 slots2 Q 1403 (lvL b a a2 i) [] ws) : V p l e room_1 s m args below meth c g A 4 cells slots Q 964 (lvL b a a2 i) [] ws := by
  have hT := hR.tok
  refine v_aload_n C dL_law_964 2 rfl ?_
  refine v_aload_n C dL_law_965 1 rfl ?_
  refine v_iload_n C dL_law_966 0 rfl ?_
  refine v_iconst (v := 1) C dL_law_967 (by decide) ?_
  refine v_iadd C dL_law_968 ?_
  refine v_sld C hX dL_law_969 (sx1 hi hX.2.2.2) ?_
  refine v_aload_n C dL_law_970 1 rfl ?_
  refine v_iload_n C dL_law_971 0 rfl ?_
  refine v_iconst (v := 2) C dL_law_972 (by decide) ?_
  refine v_iadd C dL_law_973 ?_
  refine v_sld C hX dL_law_974 (sx2 hi hX.2.2.2) ?_
  refine v_callX C (xk_whyNoBlend hK (xs (i + 1)) (xs (i + 2)) w hR) ok_X0_whyNoBlend rfl q889 rfl (Nat.le_of_ble_eq_true rfl) rfl dL_law_975 (roomN rfl (show cells + 0 ≤ 600000 by omega) (show slots + 0 ≤ 7302250 by omega)) hp (fun rv w1 hw => ?_)
  obtain ⟨rfl, hR1⟩ := hw
  refine v_aload_n C dL_law_978 3 rfl ?_
  refine v_aload_n C dL_law_979 1 rfl ?_
  refine v_iload_n C dL_law_980 0 rfl ?_
  refine v_iconst (v := 1) C dL_law_981 (by decide) ?_
  refine v_iadd C dL_law_982 ?_
  refine v_sld C hX dL_law_983 (sx1 hi hX.2.2.2) ?_
  refine v_aload_n C dL_law_984 1 rfl ?_
  refine v_iload_n C dL_law_985 0 rfl ?_
  refine v_iconst (v := 2) C dL_law_986 (by decide) ?_
  refine v_iadd C dL_law_987 ?_
  refine v_sld C hX dL_law_988 (sx2 hi hX.2.2.2) ?_
  refine v_callV C (m_whyNoBlend l g a2 K.1 K.2.1 K.2.2 B T P h _ _ _ hK.1.1.1 hK.1.1.2 hK.1.2.1.1 hK.1.2.1.2 hK.1.2.2.1.1 hK.1.2.2.1.2 hK.cw0 (xs (i + 1)) (xs (i + 2))) ok_X3_whyNoBlend rfl q1475 rfl (Nat.le_of_ble_eq_true rfl) 0 rfl (ci := 3) rfl rfl dL_law_989 (roomN rfl (show cells + 0 + 0 ≤ 600000 by omega) (show slots + 0 + 0 ≤ 7302250 by omega)) (wr := w1) List.perm_append_comm ?_
  rintro rv w2 ⟨rfl, B2, rfl⟩
  refine v_icmp_eq C 1403 dL_law_992 (by decide) (fun _ => ?_) (fun hne => absurd (rfl) hne)
  exact next K T _ _ _ w1 _ _ _ (show cells + 0 + 0 ≤ cells + 160 by omega) (show slots + 0 + 0 ≤ slots + 1000 by omega) hK hR1 List.perm_append_comm
set_option maxHeartbeats 1000000 in
theorem law_c24 (C : Cx p s m args meth c g A x code 4 ret) {b L : Nat} {xs : Nat → Int32} (hX : SX s A b L xs) {a a2 : Nat → Nat} {i cells slots : Nat} (hi : i + 6 ≤ L) (hc : cells + 160 ≤ 600000) (hs : slots + 1000 ≤ 7302250) {K : KT} {T : (Nat → Int32) × Int32} {B : (Nat → Int32) × Int32 × (Nat → Int32)} {P : Int32 × Int32 × (Nat → Int32) × Int32 × Int32} {h : Int64} {w ws : va_W} (hK : KS K) (hR : XR g a K T w) (hp : ws.Perm (w ++ mw g a2 K.1 K.2.1 K.2.2 B T P h))
    (next : ∀ (K : KT) (T : (Nat → Int32) × Int32) (B : (Nat → Int32) × Int32 × (Nat → Int32)) (P : Int32 × Int32 × (Nat → Int32) × Int32 × Int32) (h : Int64) (w ws : va_W) (cells2 slots2 : Nat), cells2 ≤ cells + 160 → slots2 ≤ slots + 1000 → KS K → XR g a K T w → ws.Perm (w ++ mw g a2 K.1 K.2.1 K.2.2 B T P h) → V p l e room_1 s m args below meth c g A 4 cells2 slots2 Q 1403 (lvL b a a2 i) [] ws) : V p l e room_1 s m args below meth c g A 4 cells slots Q 997 (lvL b a a2 i) [] ws := by
  have hT := hR.tok
  refine v_aload_n C dL_law_997 2 rfl ?_
  refine v_aload_n C dL_law_998 1 rfl ?_
  refine v_iload_n C dL_law_999 0 rfl ?_
  refine v_iconst (v := 1) C dL_law_1000 (by decide) ?_
  refine v_iadd C dL_law_1001 ?_
  refine v_sld C hX dL_law_1002 (sx1 hi hX.2.2.2) ?_
  refine v_aload_n C dL_law_1003 1 rfl ?_
  refine v_iload_n C dL_law_1004 0 rfl ?_
  refine v_iconst (v := 2) C dL_law_1005 (by decide) ?_
  refine v_iadd C dL_law_1006 ?_
  refine v_sld C hX dL_law_1007 (sx2 hi hX.2.2.2) ?_
  refine v_aload_n C dL_law_1008 1 rfl ?_
  refine v_iload_n C dL_law_1009 0 rfl ?_
  refine v_iconst (v := 3) C dL_law_1010 (by decide) ?_
  refine v_iadd C dL_law_1011 ?_
  refine v_sld C hX dL_law_1012 (sx3 hi hX.2.2.2) ?_
  refine v_callX C (xk_fromBin hK (xs (i + 1)) (xs (i + 2)) (xs (i + 3)) w hR) ok_X0_fromBin rfl q893 rfl (Nat.le_of_ble_eq_true rfl) rfl dL_law_1013 (roomN rfl (show cells + 0 ≤ 600000 by omega) (show slots + 0 ≤ 7302250 by omega)) hp (fun rv w1 hw => ?_)
  obtain ⟨rfl, hR1⟩ := hw
  refine v_aload_n C dL_law_1016 3 rfl ?_
  refine v_aload_n C dL_law_1017 1 rfl ?_
  refine v_iload_n C dL_law_1018 0 rfl ?_
  refine v_iconst (v := 1) C dL_law_1019 (by decide) ?_
  refine v_iadd C dL_law_1020 ?_
  refine v_sld C hX dL_law_1021 (sx1 hi hX.2.2.2) ?_
  refine v_aload_n C dL_law_1022 1 rfl ?_
  refine v_iload_n C dL_law_1023 0 rfl ?_
  refine v_iconst (v := 2) C dL_law_1024 (by decide) ?_
  refine v_iadd C dL_law_1025 ?_
  refine v_sld C hX dL_law_1026 (sx2 hi hX.2.2.2) ?_
  refine v_aload_n C dL_law_1027 1 rfl ?_
  refine v_iload_n C dL_law_1028 0 rfl ?_
  refine v_iconst (v := 3) C dL_law_1029 (by decide) ?_
  refine v_iadd C dL_law_1030 ?_
  refine v_sld C hX dL_law_1031 (sx3 hi hX.2.2.2) ?_
  refine v_callV C (m_fromBin l g a2 K.1 K.2.1 K.2.2 B T P h _ _ _ hK.1.1.1 hK.1.1.2 hK.1.2.1.1 hK.1.2.1.2 hK.1.2.2.1.1 hK.1.2.2.1.2 hK.cw0 (xs (i + 1)) (xs (i + 2)) (xs (i + 3))) ok_X3_fromBin rfl q1479 rfl (Nat.le_of_ble_eq_true rfl) 0 rfl (ci := 3) rfl rfl dL_law_1032 (roomN rfl (show cells + 0 + 0 ≤ 600000 by omega) (show slots + 0 + 0 ≤ 7302250 by omega)) (wr := w1) List.perm_append_comm ?_
  rintro rv w2 ⟨rfl, B2, rfl⟩
  refine v_icmp_eq C 1403 dL_law_1035 (by decide) (fun _ => ?_) (fun hne => absurd (rfl) hne)
  exact next K T _ _ _ w1 _ _ _ (show cells + 0 + 0 ≤ cells + 160 by omega) (show slots + 0 + 0 ≤ slots + 1000 by omega) hK hR1 List.perm_append_comm
set_option maxHeartbeats 1000000 in
theorem law_c25 (C : Cx p s m args meth c g A x code 4 ret) {b L : Nat} {xs : Nat → Int32} (hX : SX s A b L xs) {a a2 : Nat → Nat} {i cells slots : Nat} (hi : i + 6 ≤ L) (hc : cells + 160 ≤ 600000) (hs : slots + 1000 ≤ 7302250) {K : KT} {T : (Nat → Int32) × Int32} {B : (Nat → Int32) × Int32 × (Nat → Int32)} {P : Int32 × Int32 × (Nat → Int32) × Int32 × Int32} {h : Int64} {w ws : va_W} (hK : KS K) (hR : XR g a K T w) (hp : ws.Perm (w ++ mw g a2 K.1 K.2.1 K.2.2 B T P h))
    (next : ∀ (K : KT) (T : (Nat → Int32) × Int32) (B : (Nat → Int32) × Int32 × (Nat → Int32)) (P : Int32 × Int32 × (Nat → Int32) × Int32 × Int32) (h : Int64) (w ws : va_W) (cells2 slots2 : Nat), cells2 ≤ cells + 160 → slots2 ≤ slots + 1000 → KS K → XR g a K T w → ws.Perm (w ++ mw g a2 K.1 K.2.1 K.2.2 B T P h) → V p l e room_1 s m args below meth c g A 4 cells2 slots2 Q 1403 (lvL b a a2 i) [] ws) : V p l e room_1 s m args below meth c g A 4 cells slots Q 1040 (lvL b a a2 i) [] ws := by
  have hT := hR.tok
  refine v_aload_n C dL_law_1040 2 rfl ?_
  refine v_aload_n C dL_law_1041 1 rfl ?_
  refine v_iload_n C dL_law_1042 0 rfl ?_
  refine v_iconst (v := 1) C dL_law_1043 (by decide) ?_
  refine v_iadd C dL_law_1044 ?_
  refine v_sld C hX dL_law_1045 (sx1 hi hX.2.2.2) ?_
  refine v_aload_n C dL_law_1046 1 rfl ?_
  refine v_iload_n C dL_law_1047 0 rfl ?_
  refine v_iconst (v := 2) C dL_law_1048 (by decide) ?_
  refine v_iadd C dL_law_1049 ?_
  refine v_sld C hX dL_law_1050 (sx2 hi hX.2.2.2) ?_
  refine v_callX C (xk_blendMoisture hK (xs (i + 1)) (xs (i + 2)) w hR) ok_X0_blendMoisture rfl q897 rfl (Nat.le_of_ble_eq_true rfl) rfl dL_law_1051 (roomN rfl (show cells + 0 ≤ 600000 by omega) (show slots + 0 ≤ 7302250 by omega)) hp (fun rv w1 hw => ?_)
  obtain ⟨rfl, hR1⟩ := hw
  refine v_aload_n C dL_law_1054 3 rfl ?_
  refine v_aload_n C dL_law_1055 1 rfl ?_
  refine v_iload_n C dL_law_1056 0 rfl ?_
  refine v_iconst (v := 1) C dL_law_1057 (by decide) ?_
  refine v_iadd C dL_law_1058 ?_
  refine v_sld C hX dL_law_1059 (sx1 hi hX.2.2.2) ?_
  refine v_aload_n C dL_law_1060 1 rfl ?_
  refine v_iload_n C dL_law_1061 0 rfl ?_
  refine v_iconst (v := 2) C dL_law_1062 (by decide) ?_
  refine v_iadd C dL_law_1063 ?_
  refine v_sld C hX dL_law_1064 (sx2 hi hX.2.2.2) ?_
  refine v_callV C (m_blendMoisture l g a2 K.1 K.2.1 K.2.2 B T P h _ _ _ hK.1.1.1 hK.1.1.2 hK.1.2.1.1 hK.1.2.1.2 hK.1.2.2.1.1 hK.1.2.2.1.2 hK.cw0 (xs (i + 1)) (xs (i + 2))) ok_X3_blendMoisture rfl q1483 rfl (Nat.le_of_ble_eq_true rfl) 0 rfl (ci := 3) rfl rfl dL_law_1065 (roomN rfl (show cells + 0 + 0 ≤ 600000 by omega) (show slots + 0 + 0 ≤ 7302250 by omega)) (wr := w1) List.perm_append_comm ?_
  rintro rv w2 ⟨rfl, B2, rfl⟩
  refine v_icmp_eq C 1403 dL_law_1068 (by decide) (fun _ => ?_) (fun hne => absurd (rfl) hne)
  exact next K T _ _ _ w1 _ _ _ (show cells + 0 + 0 ≤ cells + 160 by omega) (show slots + 0 + 0 ≤ slots + 1000 by omega) hK hR1 List.perm_append_comm
set_option maxHeartbeats 1000000 in
theorem law_c26 (C : Cx p s m args meth c g A x code 4 ret) {b L : Nat} {xs : Nat → Int32} (hX : SX s A b L xs) {a a2 : Nat → Nat} {i cells slots : Nat} (hi : i + 6 ≤ L) (hc : cells + 160 ≤ 600000) (hs : slots + 1000 ≤ 7302250) {K : KT} {T : (Nat → Int32) × Int32} {B : (Nat → Int32) × Int32 × (Nat → Int32)} {P : Int32 × Int32 × (Nat → Int32) × Int32 × Int32} {h : Int64} {w ws : va_W} (hK : KS K) (hR : XR g a K T w) (hp : ws.Perm (w ++ mw g a2 K.1 K.2.1 K.2.2 B T P h))
    (next : ∀ (K : KT) (T : (Nat → Int32) × Int32) (B : (Nat → Int32) × Int32 × (Nat → Int32)) (P : Int32 × Int32 × (Nat → Int32) × Int32 × Int32) (h : Int64) (w ws : va_W) (cells2 slots2 : Nat), cells2 ≤ cells + 160 → slots2 ≤ slots + 1000 → KS K → XR g a K T w → ws.Perm (w ++ mw g a2 K.1 K.2.1 K.2.2 B T P h) → V p l e room_1 s m args below meth c g A 4 cells2 slots2 Q 1403 (lvL b a a2 i) [] ws) : V p l e room_1 s m args below meth c g A 4 cells slots Q 1073 (lvL b a a2 i) [] ws := by
  have hT := hR.tok
  refine v_aload_n C dL_law_1073 2 rfl ?_
  refine v_aload_n C dL_law_1074 1 rfl ?_
  refine v_iload_n C dL_law_1075 0 rfl ?_
  refine v_iconst (v := 1) C dL_law_1076 (by decide) ?_
  refine v_iadd C dL_law_1077 ?_
  refine v_sld C hX dL_law_1078 (sx1 hi hX.2.2.2) ?_
  refine v_aload_n C dL_law_1079 1 rfl ?_
  refine v_iload_n C dL_law_1080 0 rfl ?_
  refine v_iconst (v := 2) C dL_law_1081 (by decide) ?_
  refine v_iadd C dL_law_1082 ?_
  refine v_sld C hX dL_law_1083 (sx2 hi hX.2.2.2) ?_
  refine v_callX C (xk_load hK (xs (i + 1)) (xs (i + 2)) w hR) ok_X0_load rfl q905 rfl (Nat.le_of_ble_eq_true rfl) rfl dL_law_1084 (roomN rfl (show cells + 25 ≤ 600000 by omega) (show slots + 164 ≤ 7302250 by omega)) hp (fun rv w1 hw => ?_)
  obtain ⟨rfl, hR1⟩ := hw
  refine v_aload_n C dL_law_1087 3 rfl ?_
  refine v_aload_n C dL_law_1088 1 rfl ?_
  refine v_iload_n C dL_law_1089 0 rfl ?_
  refine v_iconst (v := 1) C dL_law_1090 (by decide) ?_
  refine v_iadd C dL_law_1091 ?_
  refine v_sld C hX dL_law_1092 (sx1 hi hX.2.2.2) ?_
  refine v_aload_n C dL_law_1093 1 rfl ?_
  refine v_iload_n C dL_law_1094 0 rfl ?_
  refine v_iconst (v := 2) C dL_law_1095 (by decide) ?_
  refine v_iadd C dL_law_1096 ?_
  refine v_sld C hX dL_law_1097 (sx2 hi hX.2.2.2) ?_
  refine v_callV C (m_load l g a2 K B T P h hK.1 hK.sp0 hK.cw0 (xs (i + 1)) (xs (i + 2))) ok_X3_load rfl q1487 rfl (Nat.le_of_ble_eq_true rfl) 0 rfl (ci := 3) rfl rfl dL_law_1098 (roomN rfl (show cells + 25 + 0 ≤ 600000 by omega) (show slots + 164 + 0 ≤ 7302250 by omega)) (wr := w1) List.perm_append_comm ?_
  rintro rv w2 ⟨rfl, B2, rfl⟩
  refine v_icmp_eq C 1403 dL_law_1101 (by decide) (fun _ => ?_) (fun hne => absurd (rfl) hne)
  exact next (p_load K (xs (i + 1)) (xs (i + 2))).2 T _ _ _ w1 _ _ _ (show cells + 25 + 0 ≤ cells + 160 by omega) (show slots + 164 + 0 ≤ slots + 1000 by omega) (kx_load hK (xs (i + 1)) (xs (i + 2))).2.1 hR1 List.perm_append_comm
set_option maxHeartbeats 1000000 in
theorem law_c27 (C : Cx p s m args meth c g A x code 4 ret) {b L : Nat} {xs : Nat → Int32} (hX : SX s A b L xs) {a a2 : Nat → Nat} {i cells slots : Nat} (hi : i + 6 ≤ L) (hc : cells + 160 ≤ 600000) (hs : slots + 1000 ≤ 7302250) {K : KT} {T : (Nat → Int32) × Int32} {B : (Nat → Int32) × Int32 × (Nat → Int32)} {P : Int32 × Int32 × (Nat → Int32) × Int32 × Int32} {h : Int64} {w ws : va_W} (hK : KS K) (hR : XR g a K T w) (hp : ws.Perm (w ++ mw g a2 K.1 K.2.1 K.2.2 B T P h))
    (next : ∀ (K : KT) (T : (Nat → Int32) × Int32) (B : (Nat → Int32) × Int32 × (Nat → Int32)) (P : Int32 × Int32 × (Nat → Int32) × Int32 × Int32) (h : Int64) (w ws : va_W) (cells2 slots2 : Nat), cells2 ≤ cells + 160 → slots2 ≤ slots + 1000 → KS K → XR g a K T w → ws.Perm (w ++ mw g a2 K.1 K.2.1 K.2.2 B T P h) → V p l e room_1 s m args below meth c g A 4 cells2 slots2 Q 1403 (lvL b a a2 i) [] ws) : V p l e room_1 s m args below meth c g A 4 cells slots Q 1106 (lvL b a a2 i) [] ws := by
  have hT := hR.tok
  refine v_aload_n C dL_law_1106 2 rfl ?_
  refine v_aload_n C dL_law_1107 1 rfl ?_
  refine v_iload_n C dL_law_1108 0 rfl ?_
  refine v_iconst (v := 1) C dL_law_1109 (by decide) ?_
  refine v_iadd C dL_law_1110 ?_
  refine v_sld C hX dL_law_1111 (sx1 hi hX.2.2.2) ?_
  refine v_callX C (xk_spoilsIn hK (xs (i + 1)) w hR) ok_X0_spoilsIn rfl q909 rfl (Nat.le_of_ble_eq_true rfl) rfl dL_law_1112 (roomN rfl (show cells + 0 ≤ 600000 by omega) (show slots + 0 ≤ 7302250 by omega)) hp (fun rv w1 hw => ?_)
  obtain ⟨rfl, hR1⟩ := hw
  refine v_aload_n C dL_law_1115 3 rfl ?_
  refine v_aload_n C dL_law_1116 1 rfl ?_
  refine v_iload_n C dL_law_1117 0 rfl ?_
  refine v_iconst (v := 1) C dL_law_1118 (by decide) ?_
  refine v_iadd C dL_law_1119 ?_
  refine v_sld C hX dL_law_1120 (sx1 hi hX.2.2.2) ?_
  refine v_callV C (m_spoilsIn l g a2 K.1 K.2.1 K.2.2 B T P h _ hK.1.1.1 hK.1.1.2 (xs (i + 1))) ok_X3_spoilsIn rfl q1491 rfl (Nat.le_of_ble_eq_true rfl) 0 rfl (ci := 3) rfl rfl dL_law_1121 (roomN rfl (show cells + 0 + 0 ≤ 600000 by omega) (show slots + 0 + 0 ≤ 7302250 by omega)) (wr := w1) List.perm_append_comm ?_
  rintro rv w2 ⟨rfl, rfl⟩
  refine v_icmp_eq C 1403 dL_law_1124 (by decide) (fun _ => ?_) (fun hne => absurd (rfl) hne)
  exact next K T _ _ _ w1 _ _ _ (show cells + 0 + 0 ≤ cells + 160 by omega) (show slots + 0 + 0 ≤ slots + 1000 by omega) hK hR1 List.perm_append_comm
set_option maxHeartbeats 1000000 in
theorem law_c28 (C : Cx p s m args meth c g A x code 4 ret) {b L : Nat} {xs : Nat → Int32} (hX : SX s A b L xs) {a a2 : Nat → Nat} {i cells slots : Nat} (hi : i + 6 ≤ L) (hc : cells + 160 ≤ 600000) (hs : slots + 1000 ≤ 7302250) {K : KT} {T : (Nat → Int32) × Int32} {B : (Nat → Int32) × Int32 × (Nat → Int32)} {P : Int32 × Int32 × (Nat → Int32) × Int32 × Int32} {h : Int64} {w ws : va_W} (hK : KS K) (hR : XR g a K T w) (hp : ws.Perm (w ++ mw g a2 K.1 K.2.1 K.2.2 B T P h))
    (next : ∀ (K : KT) (T : (Nat → Int32) × Int32) (B : (Nat → Int32) × Int32 × (Nat → Int32)) (P : Int32 × Int32 × (Nat → Int32) × Int32 × Int32) (h : Int64) (w ws : va_W) (cells2 slots2 : Nat), cells2 ≤ cells + 160 → slots2 ≤ slots + 1000 → KS K → XR g a K T w → ws.Perm (w ++ mw g a2 K.1 K.2.1 K.2.2 B T P h) → V p l e room_1 s m args below meth c g A 4 cells2 slots2 Q 1403 (lvL b a a2 i) [] ws) : V p l e room_1 s m args below meth c g A 4 cells slots Q 1129 (lvL b a a2 i) [] ws := by
  have hT := hR.tok
  refine v_aload_n C dL_law_1129 2 rfl ?_
  refine v_aload_n C dL_law_1130 1 rfl ?_
  refine v_iload_n C dL_law_1131 0 rfl ?_
  refine v_iconst (v := 1) C dL_law_1132 (by decide) ?_
  refine v_iadd C dL_law_1133 ?_
  refine v_sld C hX dL_law_1134 (sx1 hi hX.2.2.2) ?_
  refine v_aload_n C dL_law_1135 1 rfl ?_
  refine v_iload_n C dL_law_1136 0 rfl ?_
  refine v_iconst (v := 2) C dL_law_1137 (by decide) ?_
  refine v_iadd C dL_law_1138 ?_
  refine v_sld C hX dL_law_1139 (sx2 hi hX.2.2.2) ?_
  refine v_callX C (xk_stepsTo hK (xs (i + 1)) (xs (i + 2)) w hR) ok_X0_stepsTo rfl q913 rfl (Nat.le_of_ble_eq_true rfl) rfl dL_law_1140 (roomN rfl (show cells + 1 ≤ 600000 by omega) (show slots + 9 ≤ 7302250 by omega)) hp (fun rv w1 hw => ?_)
  obtain ⟨rfl, hR1⟩ := hw
  refine v_aload_n C dL_law_1143 3 rfl ?_
  refine v_aload_n C dL_law_1144 1 rfl ?_
  refine v_iload_n C dL_law_1145 0 rfl ?_
  refine v_iconst (v := 1) C dL_law_1146 (by decide) ?_
  refine v_iadd C dL_law_1147 ?_
  refine v_sld C hX dL_law_1148 (sx1 hi hX.2.2.2) ?_
  refine v_aload_n C dL_law_1149 1 rfl ?_
  refine v_iload_n C dL_law_1150 0 rfl ?_
  refine v_iconst (v := 2) C dL_law_1151 (by decide) ?_
  refine v_iadd C dL_law_1152 ?_
  refine v_sld C hX dL_law_1153 (sx2 hi hX.2.2.2) ?_
  refine v_callV C (m_stepsTo l g a2 K.1 K.2.1 K.2.2 B T P h _ hK.1.1.1 hK.1.1.2 (xs (i + 1)) (xs (i + 2))) ok_X3_stepsTo rfl q1495 rfl (Nat.le_of_ble_eq_true rfl) 0 rfl (ci := 3) rfl rfl dL_law_1154 (roomN rfl (show cells + 1 + 0 ≤ 600000 by omega) (show slots + 9 + 0 ≤ 7302250 by omega)) (wr := w1) List.perm_append_comm ?_
  rintro rv w2 ⟨rfl, rfl⟩
  refine v_icmp_eq C 1403 dL_law_1157 (by decide) (fun _ => ?_) (fun hne => absurd (rfl) hne)
  exact next K T _ _ _ w1 _ _ _ (show cells + 1 + 0 ≤ cells + 160 by omega) (show slots + 9 + 0 ≤ slots + 1000 by omega) hK hR1 List.perm_append_comm
set_option maxHeartbeats 1000000 in
theorem law_c29 (C : Cx p s m args meth c g A x code 4 ret) {b L : Nat} {xs : Nat → Int32} (hX : SX s A b L xs) {a a2 : Nat → Nat} {i cells slots : Nat} (hi : i + 6 ≤ L) (hc : cells + 160 ≤ 600000) (hs : slots + 1000 ≤ 7302250) {K : KT} {T : (Nat → Int32) × Int32} {B : (Nat → Int32) × Int32 × (Nat → Int32)} {P : Int32 × Int32 × (Nat → Int32) × Int32 × Int32} {h : Int64} {w ws : va_W} (hK : KS K) (hR : XR g a K T w) (hp : ws.Perm (w ++ mw g a2 K.1 K.2.1 K.2.2 B T P h))
    (next : ∀ (K : KT) (T : (Nat → Int32) × Int32) (B : (Nat → Int32) × Int32 × (Nat → Int32)) (P : Int32 × Int32 × (Nat → Int32) × Int32 × Int32) (h : Int64) (w ws : va_W) (cells2 slots2 : Nat), cells2 ≤ cells + 160 → slots2 ≤ slots + 1000 → KS K → XR g a K T w → ws.Perm (w ++ mw g a2 K.1 K.2.1 K.2.2 B T P h) → V p l e room_1 s m args below meth c g A 4 cells2 slots2 Q 1403 (lvL b a a2 i) [] ws) : V p l e room_1 s m args below meth c g A 4 cells slots Q 1162 (lvL b a a2 i) [] ws := by
  have hT := hR.tok
  refine v_aload_n C dL_law_1162 2 rfl ?_
  refine v_aload_n C dL_law_1163 1 rfl ?_
  refine v_iload_n C dL_law_1164 0 rfl ?_
  refine v_iconst (v := 1) C dL_law_1165 (by decide) ?_
  refine v_iadd C dL_law_1166 ?_
  refine v_sld C hX dL_law_1167 (sx1 hi hX.2.2.2) ?_
  refine v_aload_n C dL_law_1168 1 rfl ?_
  refine v_iload_n C dL_law_1169 0 rfl ?_
  refine v_iconst (v := 2) C dL_law_1170 (by decide) ?_
  refine v_iadd C dL_law_1171 ?_
  refine v_sld C hX dL_law_1172 (sx2 hi hX.2.2.2) ?_
  refine v_aload_n C dL_law_1173 1 rfl ?_
  refine v_iload_n C dL_law_1174 0 rfl ?_
  refine v_iconst (v := 3) C dL_law_1175 (by decide) ?_
  refine v_iadd C dL_law_1176 ?_
  refine v_sld C hX dL_law_1177 (sx3 hi hX.2.2.2) ?_
  refine v_aload_n C dL_law_1178 1 rfl ?_
  refine v_iload_n C dL_law_1179 0 rfl ?_
  refine v_iconst (v := 4) C dL_law_1180 (by decide) ?_
  refine v_iadd C dL_law_1181 ?_
  refine v_sld C hX dL_law_1182 (sx4 hi hX.2.2.2) ?_
  refine v_callX C (xk_bestLeg hK (xs (i + 1)) (xs (i + 2)) (xs (i + 3)) (xs (i + 4)) w hR) ok_X0_bestLeg rfl q918 rfl (Nat.le_of_ble_eq_true rfl) rfl dL_law_1183 (roomN rfl (show cells + 0 ≤ 600000 by omega) (show slots + 0 ≤ 7302250 by omega)) hp (fun rv w1 hw => ?_)
  obtain ⟨rfl, hR1⟩ := hw
  refine v_aload_n C dL_law_1186 3 rfl ?_
  refine v_aload_n C dL_law_1187 1 rfl ?_
  refine v_iload_n C dL_law_1188 0 rfl ?_
  refine v_iconst (v := 1) C dL_law_1189 (by decide) ?_
  refine v_iadd C dL_law_1190 ?_
  refine v_sld C hX dL_law_1191 (sx1 hi hX.2.2.2) ?_
  refine v_aload_n C dL_law_1192 1 rfl ?_
  refine v_iload_n C dL_law_1193 0 rfl ?_
  refine v_iconst (v := 2) C dL_law_1194 (by decide) ?_
  refine v_iadd C dL_law_1195 ?_
  refine v_sld C hX dL_law_1196 (sx2 hi hX.2.2.2) ?_
  refine v_aload_n C dL_law_1197 1 rfl ?_
  refine v_iload_n C dL_law_1198 0 rfl ?_
  refine v_iconst (v := 3) C dL_law_1199 (by decide) ?_
  refine v_iadd C dL_law_1200 ?_
  refine v_sld C hX dL_law_1201 (sx3 hi hX.2.2.2) ?_
  refine v_aload_n C dL_law_1202 1 rfl ?_
  refine v_iload_n C dL_law_1203 0 rfl ?_
  refine v_iconst (v := 4) C dL_law_1204 (by decide) ?_
  refine v_iadd C dL_law_1205 ?_
  refine v_sld C hX dL_law_1206 (sx4 hi hX.2.2.2) ?_
  refine v_callV C (m_bestLeg l g a2 K.1 K.2.1 K.2.2 B T P h _ _ hK.1.1.1 hK.1.1.2 hK.1.2.1.1 hK.1.2.1.2 hK.sp0 (xs (i + 1)) (xs (i + 2)) (xs (i + 3)) (xs (i + 4))) ok_X3_bestLeg rfl q1499 rfl (Nat.le_of_ble_eq_true rfl) 0 rfl (ci := 3) rfl rfl dL_law_1207 (roomN rfl (show cells + 0 + 0 ≤ 600000 by omega) (show slots + 0 + 0 ≤ 7302250 by omega)) (wr := w1) List.perm_append_comm ?_
  rintro rv w2 ⟨rfl, rfl⟩
  refine v_icmp_eq C 1403 dL_law_1210 (by decide) (fun _ => ?_) (fun hne => absurd (rfl) hne)
  exact next K T _ _ _ w1 _ _ _ (show cells + 0 + 0 ≤ cells + 160 by omega) (show slots + 0 + 0 ≤ slots + 1000 by omega) hK hR1 List.perm_append_comm
set_option maxHeartbeats 1000000 in
theorem law_c30 (C : Cx p s m args meth c g A x code 4 ret) {b L : Nat} {xs : Nat → Int32} (hX : SX s A b L xs) {a a2 : Nat → Nat} {i cells slots : Nat} (hi : i + 6 ≤ L) (hc : cells + 160 ≤ 600000) (hs : slots + 1000 ≤ 7302250) {K : KT} {T : (Nat → Int32) × Int32} {B : (Nat → Int32) × Int32 × (Nat → Int32)} {P : Int32 × Int32 × (Nat → Int32) × Int32 × Int32} {h : Int64} {w ws : va_W} (hK : KS K) (hR : XR g a K T w) (hp : ws.Perm (w ++ mw g a2 K.1 K.2.1 K.2.2 B T P h))
    (next : ∀ (K : KT) (T : (Nat → Int32) × Int32) (B : (Nat → Int32) × Int32 × (Nat → Int32)) (P : Int32 × Int32 × (Nat → Int32) × Int32 × Int32) (h : Int64) (w ws : va_W) (cells2 slots2 : Nat), cells2 ≤ cells + 160 → slots2 ≤ slots + 1000 → KS K → XR g a K T w → ws.Perm (w ++ mw g a2 K.1 K.2.1 K.2.2 B T P h) → V p l e room_1 s m args below meth c g A 4 cells2 slots2 Q 1403 (lvL b a a2 i) [] ws) : V p l e room_1 s m args below meth c g A 4 cells slots Q 1215 (lvL b a a2 i) [] ws := by
  have hT := hR.tok
  refine v_aload_n C dL_law_1215 2 rfl ?_
  refine v_aload_n C dL_law_1216 1 rfl ?_
  refine v_iload_n C dL_law_1217 0 rfl ?_
  refine v_iconst (v := 1) C dL_law_1218 (by decide) ?_
  refine v_iadd C dL_law_1219 ?_
  refine v_sld C hX dL_law_1220 (sx1 hi hX.2.2.2) ?_
  refine v_aload_n C dL_law_1221 1 rfl ?_
  refine v_iload_n C dL_law_1222 0 rfl ?_
  refine v_iconst (v := 2) C dL_law_1223 (by decide) ?_
  refine v_iadd C dL_law_1224 ?_
  refine v_sld C hX dL_law_1225 (sx2 hi hX.2.2.2) ?_
  refine v_aload_n C dL_law_1226 1 rfl ?_
  refine v_iload_n C dL_law_1227 0 rfl ?_
  refine v_iconst (v := 3) C dL_law_1228 (by decide) ?_
  refine v_iadd C dL_law_1229 ?_
  refine v_sld C hX dL_law_1230 (sx3 hi hX.2.2.2) ?_
  refine v_aload_n C dL_law_1231 1 rfl ?_
  refine v_iload_n C dL_law_1232 0 rfl ?_
  refine v_iconst (v := 4) C dL_law_1233 (by decide) ?_
  refine v_iadd C dL_law_1234 ?_
  refine v_sld C hX dL_law_1235 (sx4 hi hX.2.2.2) ?_
  refine v_callX C (xk_bestBin hK (xs (i + 1)) (xs (i + 2)) (xs (i + 3)) (xs (i + 4)) w hR) ok_X0_bestBin rfl q925 rfl (Nat.le_of_ble_eq_true rfl) rfl dL_law_1236 (roomN rfl (show cells + 0 ≤ 600000 by omega) (show slots + 0 ≤ 7302250 by omega)) hp (fun rv w1 hw => ?_)
  obtain ⟨rfl, hR1⟩ := hw
  refine v_aload_n C dL_law_1239 3 rfl ?_
  refine v_aload_n C dL_law_1240 1 rfl ?_
  refine v_iload_n C dL_law_1241 0 rfl ?_
  refine v_iconst (v := 1) C dL_law_1242 (by decide) ?_
  refine v_iadd C dL_law_1243 ?_
  refine v_sld C hX dL_law_1244 (sx1 hi hX.2.2.2) ?_
  refine v_aload_n C dL_law_1245 1 rfl ?_
  refine v_iload_n C dL_law_1246 0 rfl ?_
  refine v_iconst (v := 2) C dL_law_1247 (by decide) ?_
  refine v_iadd C dL_law_1248 ?_
  refine v_sld C hX dL_law_1249 (sx2 hi hX.2.2.2) ?_
  refine v_aload_n C dL_law_1250 1 rfl ?_
  refine v_iload_n C dL_law_1251 0 rfl ?_
  refine v_iconst (v := 3) C dL_law_1252 (by decide) ?_
  refine v_iadd C dL_law_1253 ?_
  refine v_sld C hX dL_law_1254 (sx3 hi hX.2.2.2) ?_
  refine v_aload_n C dL_law_1255 1 rfl ?_
  refine v_iload_n C dL_law_1256 0 rfl ?_
  refine v_iconst (v := 4) C dL_law_1257 (by decide) ?_
  refine v_iadd C dL_law_1258 ?_
  refine v_sld C hX dL_law_1259 (sx4 hi hX.2.2.2) ?_
  refine v_callV C (m_bestBin l g a2 K.1 K.2.1 K.2.2 B T P h _ _ hK.1.1.1 hK.1.1.2 hK.1.2.1.1 hK.1.2.1.2 (xs (i + 1)) (xs (i + 2)) (xs (i + 3)) (xs (i + 4))) ok_X3_bestBin rfl q1503 rfl (Nat.le_of_ble_eq_true rfl) 0 rfl (ci := 3) rfl rfl dL_law_1260 (roomN rfl (show cells + 0 + 0 ≤ 600000 by omega) (show slots + 0 + 0 ≤ 7302250 by omega)) (wr := w1) List.perm_append_comm ?_
  rintro rv w2 ⟨rfl, rfl⟩
  refine v_icmp_eq C 1403 dL_law_1263 (by decide) (fun _ => ?_) (fun hne => absurd (rfl) hne)
  exact next K T _ _ _ w1 _ _ _ (show cells + 0 + 0 ≤ cells + 160 by omega) (show slots + 0 + 0 ≤ slots + 1000 by omega) hK hR1 List.perm_append_comm
set_option maxHeartbeats 1000000 in
theorem law_c31 (C : Cx p s m args meth c g A x code 4 ret) {b L : Nat} {xs : Nat → Int32} (hX : SX s A b L xs) {a a2 : Nat → Nat} {i cells slots : Nat} (hi : i + 6 ≤ L) (hc : cells + 160 ≤ 600000) (hs : slots + 1000 ≤ 7302250) {K : KT} {T : (Nat → Int32) × Int32} {B : (Nat → Int32) × Int32 × (Nat → Int32)} {P : Int32 × Int32 × (Nat → Int32) × Int32 × Int32} {h : Int64} {w ws : va_W} (hK : KS K) (hR : XR g a K T w) (hp : ws.Perm (w ++ mw g a2 K.1 K.2.1 K.2.2 B T P h))
    (next : ∀ (K : KT) (T : (Nat → Int32) × Int32) (B : (Nat → Int32) × Int32 × (Nat → Int32)) (P : Int32 × Int32 × (Nat → Int32) × Int32 × Int32) (h : Int64) (w ws : va_W) (cells2 slots2 : Nat), cells2 ≤ cells + 160 → slots2 ≤ slots + 1000 → KS K → XR g a K T w → ws.Perm (w ++ mw g a2 K.1 K.2.1 K.2.2 B T P h) → V p l e room_1 s m args below meth c g A 4 cells2 slots2 Q 1403 (lvL b a a2 i) [] ws) : V p l e room_1 s m args below meth c g A 4 cells slots Q 1268 (lvL b a a2 i) [] ws := by
  have hT := hR.tok
  refine v_aload_n C dL_law_1268 2 rfl ?_
  refine v_aload_n C dL_law_1269 1 rfl ?_
  refine v_iload_n C dL_law_1270 0 rfl ?_
  refine v_iconst (v := 1) C dL_law_1271 (by decide) ?_
  refine v_iadd C dL_law_1272 ?_
  refine v_sld C hX dL_law_1273 (sx1 hi hX.2.2.2) ?_
  refine v_callX C (xk_type hK (xs (i + 1)) w hR) ok_X0_type rfl q933 rfl (Nat.le_of_ble_eq_true rfl) rfl dL_law_1274 (roomN rfl (show cells + 0 ≤ 600000 by omega) (show slots + 0 ≤ 7302250 by omega)) hp (fun rv w1 hw => ?_)
  obtain ⟨rfl, hR1⟩ := hw
  refine v_aload_n C dL_law_1277 3 rfl ?_
  refine v_aload_n C dL_law_1278 1 rfl ?_
  refine v_iload_n C dL_law_1279 0 rfl ?_
  refine v_iconst (v := 1) C dL_law_1280 (by decide) ?_
  refine v_iadd C dL_law_1281 ?_
  refine v_sld C hX dL_law_1282 (sx1 hi hX.2.2.2) ?_
  refine v_callV C (m_type l g a2 K.1 K.2.1 K.2.2 B T P h hT.1 hT.2.1 (xs (i + 1))) ok_X3_type rfl q1507 rfl (Nat.le_of_ble_eq_true rfl) 0 rfl (ci := 3) rfl rfl dL_law_1283 (roomN rfl (show cells + 0 + 0 ≤ 600000 by omega) (show slots + 0 + 0 ≤ 7302250 by omega)) (wr := w1) List.perm_append_comm ?_
  rintro rv w2 ⟨rfl, rfl⟩
  refine v_icmp_eq C 1403 dL_law_1286 (by decide) (fun _ => ?_) (fun hne => absurd (rfl) hne)
  exact next K (p_type T (xs (i + 1))).2 _ _ _ w1 _ _ _ (show cells + 0 + 0 ≤ cells + 160 by omega) (show slots + 0 + 0 ≤ slots + 1000 by omega) hK hR1 List.perm_append_comm
set_option maxHeartbeats 1000000 in
theorem law_c32 (C : Cx p s m args meth c g A x code 4 ret) {b L : Nat} {xs : Nat → Int32} (hX : SX s A b L xs) {a a2 : Nat → Nat} {i cells slots : Nat} (hi : i + 6 ≤ L) (hc : cells + 160 ≤ 600000) (hs : slots + 1000 ≤ 7302250) {K : KT} {T : (Nat → Int32) × Int32} {B : (Nat → Int32) × Int32 × (Nat → Int32)} {P : Int32 × Int32 × (Nat → Int32) × Int32 × Int32} {h : Int64} {w ws : va_W} (hK : KS K) (hR : XR g a K T w) (hp : ws.Perm (w ++ mw g a2 K.1 K.2.1 K.2.2 B T P h))
    (next : ∀ (K : KT) (T : (Nat → Int32) × Int32) (B : (Nat → Int32) × Int32 × (Nat → Int32)) (P : Int32 × Int32 × (Nat → Int32) × Int32 × Int32) (h : Int64) (w ws : va_W) (cells2 slots2 : Nat), cells2 ≤ cells + 160 → slots2 ≤ slots + 1000 → KS K → XR g a K T w → ws.Perm (w ++ mw g a2 K.1 K.2.1 K.2.2 B T P h) → V p l e room_1 s m args below meth c g A 4 cells2 slots2 Q 1403 (lvL b a a2 i) [] ws) : V p l e room_1 s m args below meth c g A 4 cells slots Q 1291 (lvL b a a2 i) [] ws := by
  have hT := hR.tok
  refine v_aload_n C dL_law_1291 2 rfl ?_
  refine v_callX C (xk_clear hK w hR) ok_X0_clearText rfl q1022 rfl (Nat.le_of_ble_eq_true rfl) rfl dL_law_1292 (roomN rfl (show cells + 0 ≤ 600000 by omega) (show slots + 0 ≤ 7302250 by omega)) hp (fun rv w1 hw => ?_)
  obtain ⟨rfl, hR1⟩ := hw
  refine v_aload_n C dL_law_1295 3 rfl ?_
  refine v_callV C (m_clearText l g a2 K.1 K.2.1 K.2.2 B T P h) ok_X3_clearText rfl q1511 rfl (Nat.le_of_ble_eq_true rfl) 0 rfl (ci := 3) rfl rfl dL_law_1296 (roomN rfl (show cells + 0 + 0 ≤ 600000 by omega) (show slots + 0 + 0 ≤ 7302250 by omega)) (wr := w1) List.perm_append_comm ?_
  rintro rv w2 ⟨rfl, rfl⟩
  refine v_icmp_eq C 1403 dL_law_1299 (by decide) (fun _ => ?_) (fun hne => absurd (rfl) hne)
  exact next K (T.1, 0) _ _ _ w1 _ _ _ (show cells + 0 + 0 ≤ cells + 160 by omega) (show slots + 0 + 0 ≤ slots + 1000 by omega) hK hR1 List.perm_append_comm
set_option maxHeartbeats 1000000 in
theorem law_c33 (C : Cx p s m args meth c g A x code 4 ret) {b L : Nat} {xs : Nat → Int32} (hX : SX s A b L xs) {a a2 : Nat → Nat} {i cells slots : Nat} (hi : i + 6 ≤ L) (hc : cells + 160 ≤ 600000) (hs : slots + 1000 ≤ 7302250) {K : KT} {T : (Nat → Int32) × Int32} {B : (Nat → Int32) × Int32 × (Nat → Int32)} {P : Int32 × Int32 × (Nat → Int32) × Int32 × Int32} {h : Int64} {w ws : va_W} (hK : KS K) (hR : XR g a K T w) (hp : ws.Perm (w ++ mw g a2 K.1 K.2.1 K.2.2 B T P h))
    (next : ∀ (K : KT) (T : (Nat → Int32) × Int32) (B : (Nat → Int32) × Int32 × (Nat → Int32)) (P : Int32 × Int32 × (Nat → Int32) × Int32 × Int32) (h : Int64) (w ws : va_W) (cells2 slots2 : Nat), cells2 ≤ cells + 160 → slots2 ≤ slots + 1000 → KS K → XR g a K T w → ws.Perm (w ++ mw g a2 K.1 K.2.1 K.2.2 B T P h) → V p l e room_1 s m args below meth c g A 4 cells2 slots2 Q 1403 (lvL b a a2 i) [] ws) : V p l e room_1 s m args below meth c g A 4 cells slots Q 1304 (lvL b a a2 i) [] ws := by
  have hT := hR.tok
  refine v_aload_n C dL_law_1304 2 rfl ?_
  refine v_callX C (xk_fault hK w hR) ok_X0_textFault rfl q1046 rfl (Nat.le_of_ble_eq_true rfl) rfl dL_law_1305 (roomN rfl (show cells + 2 ≤ 600000 by omega) (show slots + 9 ≤ 7302250 by omega)) hp (fun rv w1 hw => ?_)
  obtain ⟨rfl, hR1⟩ := hw
  refine v_aload_n C dL_law_1308 3 rfl ?_
  refine v_callV C (m_textFault l g a2 K.1 K.2.1 K.2.2 B T P h (nbK K) (nlK K) ⟨hK.1.1.1, hK.1.1.2, hK.1.2.1.1, hK.1.2.1.2, hK.sp0⟩ _ hT.1 hT.2.1 (fun j hj => (hT.2.2 j hj).1)) ok_X3_textFault rfl q1515 rfl (Nat.le_of_ble_eq_true rfl) 0 rfl (ci := 3) rfl rfl dL_law_1309 (roomN rfl (show cells + 2 + 0 ≤ 600000 by omega) (show slots + 9 + 0 ≤ 7302250 by omega)) (wr := w1) List.perm_append_comm ?_
  rintro rv w2 ⟨rfl, P2, rfl⟩
  refine v_icmp_eq C 1403 dL_law_1312 (by decide) (fun _ => ?_) (fun hne => absurd (text_eq _ _ _ _ _ _ _) hne)
  exact next K T _ _ _ w1 _ _ _ (show cells + 2 + 0 ≤ cells + 160 by omega) (show slots + 9 + 0 ≤ slots + 1000 by omega) hK hR1 List.perm_append_comm
set_option maxHeartbeats 1000000 in
theorem law_c34 (C : Cx p s m args meth c g A x code 4 ret) {b L : Nat} {xs : Nat → Int32} (hX : SX s A b L xs) {a a2 : Nat → Nat} {i cells slots : Nat} (hi : i + 6 ≤ L) (hc : cells + 160 ≤ 600000) (hs : slots + 1000 ≤ 7302250) {K : KT} {T : (Nat → Int32) × Int32} {B : (Nat → Int32) × Int32 × (Nat → Int32)} {P : Int32 × Int32 × (Nat → Int32) × Int32 × Int32} {h : Int64} {w ws : va_W} (hK : KS K) (hR : XR g a K T w) (hp : ws.Perm (w ++ mw g a2 K.1 K.2.1 K.2.2 B T P h))
    (next : ∀ (K : KT) (T : (Nat → Int32) × Int32) (B : (Nat → Int32) × Int32 × (Nat → Int32)) (P : Int32 × Int32 × (Nat → Int32) × Int32 × Int32) (h : Int64) (w ws : va_W) (cells2 slots2 : Nat), cells2 ≤ cells + 160 → slots2 ≤ slots + 1000 → KS K → XR g a K T w → ws.Perm (w ++ mw g a2 K.1 K.2.1 K.2.2 B T P h) → V p l e room_1 s m args below meth c g A 4 cells2 slots2 Q 1403 (lvL b a a2 i) [] ws) : V p l e room_1 s m args below meth c g A 4 cells slots Q 1317 (lvL b a a2 i) [] ws := by
  have hT := hR.tok
  refine v_aload_n C dL_law_1317 2 rfl ?_
  refine v_callX C (xk_orders hK P w hR) ok_X0_orders rfl q1110 rfl (Nat.le_of_ble_eq_true rfl) rfl dL_law_1318 (roomN rfl (show cells + 152 ≤ 600000 by omega) (show slots + 920 ≤ 7302250 by omega)) hp (fun rv w1 hw => ?_)
  obtain ⟨rfl, hR1⟩ := hw
  refine v_aload_n C dL_law_1321 3 rfl ?_
  refine v_callV C (m_orders l g a2 K B T P h hK.1 hK.sp0 _ hT.1 hT.2.1 (fun j hj => (hT.2.2 j hj).1)) ok_X3_orders rfl q1539 rfl (Nat.le_of_ble_eq_true rfl) 0 rfl (ci := 3) rfl rfl dL_law_1322 (roomN rfl (show cells + 152 + 0 ≤ 600000 by omega) (show slots + 920 + 0 ≤ 7302250 by omega)) (wr := w1) List.perm_append_comm ?_
  rintro rv w2 ⟨rfl, P2, rfl⟩
  refine v_icmp_eq C 1403 dL_law_1325 (by decide) (fun _ => ?_) (fun hne => absurd (rfl) hne)
  exact next (p_orders T T.2.toNatClampNeg K P).2 T _ _ _ w1 _ _ _ (show cells + 152 + 0 ≤ cells + 160 by omega) (show slots + 920 + 0 ≤ slots + 1000 by omega) (kx_orders hK hT.2.1 P).2.1 hR1 List.perm_append_comm
set_option maxHeartbeats 1000000 in
theorem law_c35 (C : Cx p s m args meth c g A x code 4 ret) {b L : Nat} {xs : Nat → Int32} (hX : SX s A b L xs) {a a2 : Nat → Nat} {i cells slots : Nat} (hi : i + 6 ≤ L) (hc : cells + 160 ≤ 600000) (hs : slots + 1000 ≤ 7302250) {K : KT} {T : (Nat → Int32) × Int32} {B : (Nat → Int32) × Int32 × (Nat → Int32)} {P : Int32 × Int32 × (Nat → Int32) × Int32 × Int32} {h : Int64} {w ws : va_W} (hK : KS K) (hR : XR g a K T w) (hp : ws.Perm (w ++ mw g a2 K.1 K.2.1 K.2.2 B T P h))
    (next : ∀ (K : KT) (T : (Nat → Int32) × Int32) (B : (Nat → Int32) × Int32 × (Nat → Int32)) (P : Int32 × Int32 × (Nat → Int32) × Int32 × Int32) (h : Int64) (w ws : va_W) (cells2 slots2 : Nat), cells2 ≤ cells + 160 → slots2 ≤ slots + 1000 → KS K → XR g a K T w → ws.Perm (w ++ mw g a2 K.1 K.2.1 K.2.2 B T P h) → V p l e room_1 s m args below meth c g A 4 cells2 slots2 Q 1403 (lvL b a a2 i) [] ws) : V p l e room_1 s m args below meth c g A 4 cells slots Q 1330 (lvL b a a2 i) [] ws := by
  have hT := hR.tok
  refine v_aload_n C dL_law_1330 2 rfl ?_
  refine v_callX C (xk_undo hK w hR) ok_X0_undo rfl q1119 rfl (Nat.le_of_ble_eq_true rfl) rfl dL_law_1331 (roomN rfl (show cells + 0 ≤ 600000 by omega) (show slots + 0 ≤ 7302250 by omega)) hp (fun rv w1 hw => ?_)
  obtain ⟨rfl, hR1⟩ := hw
  refine v_aload_n C dL_law_1334 3 rfl ?_
  refine v_callV C (m_undo l g a2 K B T P h hK.1) ok_X3_undo rfl q1543 rfl (Nat.le_of_ble_eq_true rfl) 0 rfl (ci := 3) rfl rfl dL_law_1335 (roomN rfl (show cells + 0 + 0 ≤ 600000 by omega) (show slots + 0 + 0 ≤ 7302250 by omega)) (wr := w1) List.perm_append_comm ?_
  rintro rv w2 ⟨rfl, rfl⟩
  refine v_icmp_eq C 1403 dL_law_1338 (by decide) (fun _ => ?_) (fun hne => absurd (rfl) hne)
  exact next (p_undo K).2 T _ _ _ w1 _ _ _ (show cells + 0 + 0 ≤ cells + 160 by omega) (show slots + 0 + 0 ≤ slots + 1000 by omega) (ks_undo hK hR) hR1 List.perm_append_comm
set_option maxHeartbeats 1000000 in
theorem law_c36 (C : Cx p s m args meth c g A x code 4 ret) {b L : Nat} {xs : Nat → Int32} (hX : SX s A b L xs) {a a2 : Nat → Nat} {i cells slots : Nat} (hi : i + 6 ≤ L) (hc : cells + 160 ≤ 600000) (hs : slots + 1000 ≤ 7302250) {K : KT} {T : (Nat → Int32) × Int32} {B : (Nat → Int32) × Int32 × (Nat → Int32)} {P : Int32 × Int32 × (Nat → Int32) × Int32 × Int32} {h : Int64} {w ws : va_W} (hK : KS K) (hR : XR g a K T w) (hp : ws.Perm (w ++ mw g a2 K.1 K.2.1 K.2.2 B T P h))
    (next : ∀ (K : KT) (T : (Nat → Int32) × Int32) (B : (Nat → Int32) × Int32 × (Nat → Int32)) (P : Int32 × Int32 × (Nat → Int32) × Int32 × Int32) (h : Int64) (w ws : va_W) (cells2 slots2 : Nat), cells2 ≤ cells + 160 → slots2 ≤ slots + 1000 → KS K → XR g a K T w → ws.Perm (w ++ mw g a2 K.1 K.2.1 K.2.2 B T P h) → V p l e room_1 s m args below meth c g A 4 cells2 slots2 Q 1403 (lvL b a a2 i) [] ws) : V p l e room_1 s m args below meth c g A 4 cells slots Q 1343 (lvL b a a2 i) [] ws := by
  have hT := hR.tok
  refine v_aload_n C dL_law_1343 2 rfl ?_
  refine v_aload_n C dL_law_1344 1 rfl ?_
  refine v_iload_n C dL_law_1345 0 rfl ?_
  refine v_iconst (v := 1) C dL_law_1346 (by decide) ?_
  refine v_iadd C dL_law_1347 ?_
  refine v_sld C hX dL_law_1348 (sx1 hi hX.2.2.2) ?_
  refine v_callX C (xk_keep hK (xs (i + 1)) w hR) ok_X0_keep rfl q1138 rfl (Nat.le_of_ble_eq_true rfl) rfl dL_law_1349 (roomN rfl (show cells + 25 ≤ 600000 by omega) (show slots + 164 ≤ 7302250 by omega)) hp (fun rv w1 hw => ?_)
  obtain ⟨rfl, hR1⟩ := hw
  refine v_aload_n C dL_law_1352 3 rfl ?_
  refine v_aload_n C dL_law_1353 1 rfl ?_
  refine v_iload_n C dL_law_1354 0 rfl ?_
  refine v_iconst (v := 1) C dL_law_1355 (by decide) ?_
  refine v_iadd C dL_law_1356 ?_
  refine v_sld C hX dL_law_1357 (sx1 hi hX.2.2.2) ?_
  refine v_callV C (m_keep l g a2 K B T P h hK.1 (xs (i + 1))) ok_X3_keep rfl q1547 rfl (Nat.le_of_ble_eq_true rfl) 0 rfl (ci := 3) rfl rfl dL_law_1358 (roomN rfl (show cells + 25 + 0 ≤ 600000 by omega) (show slots + 164 + 0 ≤ 7302250 by omega)) (wr := w1) List.perm_append_comm ?_
  rintro rv w2 ⟨rfl, rfl⟩
  refine v_icmp_eq C 1403 dL_law_1361 (by decide) (fun _ => ?_) (fun hne => absurd (rfl) hne)
  exact next (p_keep K (xs (i + 1))).2 T _ _ _ w1 _ _ _ (show cells + 25 + 0 ≤ cells + 160 by omega) (show slots + 164 + 0 ≤ slots + 1000 by omega) (ks_keep hK (xs (i + 1))) hR1 List.perm_append_comm
set_option maxHeartbeats 1000000 in
theorem law_c37 (C : Cx p s m args meth c g A x code 4 ret) {b L : Nat} {xs : Nat → Int32} (hX : SX s A b L xs) {a a2 : Nat → Nat} {i cells slots : Nat} (hi : i + 6 ≤ L) (hc : cells + 160 ≤ 600000) (hs : slots + 1000 ≤ 7302250) {K : KT} {T : (Nat → Int32) × Int32} {B : (Nat → Int32) × Int32 × (Nat → Int32)} {P : Int32 × Int32 × (Nat → Int32) × Int32 × Int32} {h : Int64} {w ws : va_W} (hK : KS K) (hR : XR g a K T w) (hp : ws.Perm (w ++ mw g a2 K.1 K.2.1 K.2.2 B T P h))
    (next : ∀ (K : KT) (T : (Nat → Int32) × Int32) (B : (Nat → Int32) × Int32 × (Nat → Int32)) (P : Int32 × Int32 × (Nat → Int32) × Int32 × Int32) (h : Int64) (w ws : va_W) (cells2 slots2 : Nat), cells2 ≤ cells + 160 → slots2 ≤ slots + 1000 → KS K → XR g a K T w → ws.Perm (w ++ mw g a2 K.1 K.2.1 K.2.2 B T P h) → V p l e room_1 s m args below meth c g A 4 cells2 slots2 Q 1403 (lvL b a a2 i) [] ws) : V p l e room_1 s m args below meth c g A 4 cells slots Q 1366 (lvL b a a2 i) [] ws := by
  have hT := hR.tok
  refine v_aload_n C dL_law_1366 2 rfl ?_
  refine v_aload_n C dL_law_1367 1 rfl ?_
  refine v_iload_n C dL_law_1368 0 rfl ?_
  refine v_iconst (v := 1) C dL_law_1369 (by decide) ?_
  refine v_iadd C dL_law_1370 ?_
  refine v_sld C hX dL_law_1371 (sx1 hi hX.2.2.2) ?_
  refine v_callX C (xk_back hK (xs (i + 1)) w hR) ok_X0_back rfl q1145 rfl (Nat.le_of_ble_eq_true rfl) rfl dL_law_1372 (roomN rfl (show cells + 50 ≤ 600000 by omega) (show slots + 328 ≤ 7302250 by omega)) hp (fun rv w1 hw => ?_)
  obtain ⟨rfl, hR1⟩ := hw
  refine v_aload_n C dL_law_1375 3 rfl ?_
  refine v_aload_n C dL_law_1376 1 rfl ?_
  refine v_iload_n C dL_law_1377 0 rfl ?_
  refine v_iconst (v := 1) C dL_law_1378 (by decide) ?_
  refine v_iadd C dL_law_1379 ?_
  refine v_sld C hX dL_law_1380 (sx1 hi hX.2.2.2) ?_
  refine v_callV C (m_back l g a2 K B T P h hK.1 (xs (i + 1))) ok_X3_back rfl q1551 rfl (Nat.le_of_ble_eq_true rfl) 0 rfl (ci := 3) rfl rfl dL_law_1381 (roomN rfl (show cells + 50 + 0 ≤ 600000 by omega) (show slots + 328 + 0 ≤ 7302250 by omega)) (wr := w1) List.perm_append_comm ?_
  rintro rv w2 ⟨rfl, rfl⟩
  refine v_icmp_eq C 1403 dL_law_1384 (by decide) (fun _ => ?_) (fun hne => absurd (rfl) hne)
  exact next (p_back K (xs (i + 1))).2 T _ _ _ w1 _ _ _ (show cells + 50 + 0 ≤ cells + 160 by omega) (show slots + 328 + 0 ≤ slots + 1000 by omega) (ks_back hK (xs (i + 1)) hR) hR1 List.perm_append_comm
set_option maxHeartbeats 1000000 in
theorem law_c38 (C : Cx p s m args meth c g A x code 4 ret) {b L : Nat} {xs : Nat → Int32} (hX : SX s A b L xs) {a a2 : Nat → Nat} {i cells slots : Nat} (hi : i + 6 ≤ L) (hc : cells + 160 ≤ 600000) (hs : slots + 1000 ≤ 7302250) {K : KT} {T : (Nat → Int32) × Int32} {B : (Nat → Int32) × Int32 × (Nat → Int32)} {P : Int32 × Int32 × (Nat → Int32) × Int32 × Int32} {h : Int64} {w ws : va_W} (hK : KS K) (hR : XR g a K T w) (hp : ws.Perm (w ++ mw g a2 K.1 K.2.1 K.2.2 B T P h))
    (next : ∀ (K : KT) (T : (Nat → Int32) × Int32) (B : (Nat → Int32) × Int32 × (Nat → Int32)) (P : Int32 × Int32 × (Nat → Int32) × Int32 × Int32) (h : Int64) (w ws : va_W) (cells2 slots2 : Nat), cells2 ≤ cells + 160 → slots2 ≤ slots + 1000 → KS K → XR g a K T w → ws.Perm (w ++ mw g a2 K.1 K.2.1 K.2.2 B T P h) → V p l e room_1 s m args below meth c g A 4 cells2 slots2 Q 1403 (lvL b a a2 i) [] ws) : V p l e room_1 s m args below meth c g A 4 cells slots Q 1389 (lvL b a a2 i) [] ws := by
  have hT := hR.tok
  refine v_aload_n C dL_law_1389 2 rfl ?_
  refine v_callX C (xk_digest hK w hR) ok_X0_digest rfl q1149 rfl (Nat.le_of_ble_eq_true rfl) rfl dL_law_1390 (roomN rfl (show cells + 0 ≤ 600000 by omega) (show slots + 0 ≤ 7302250 by omega)) hp (fun rv w1 hw => ?_)
  obtain ⟨rfl, hR1⟩ := hw
  refine v_aload_n C dL_law_1393 3 rfl ?_
  refine v_callV C (m_digest l g a2 K.1 K.2.1 K.2.2 B T P h _ _ _ hK.1.1.1 hK.1.1.2 hK.1.2.1.1 hK.1.2.1.2 hK.1.2.2.1.1 hK.1.2.2.1.2) ok_X3_digest rfl q1555 rfl (Nat.le_of_ble_eq_true rfl) 0 rfl (ci := 3) rfl rfl dL_law_1394 (roomN rfl (show cells + 0 + 0 ≤ 600000 by omega) (show slots + 0 + 0 ≤ 7302250 by omega)) (wr := w1) List.perm_append_comm ?_
  rintro rv w2 ⟨rfl, rfl⟩
  refine v_lcmp C dL_law_1397 ?_
  refine v_if_eq C 1403 dL_law_1398 (by decide) (fun _ => ?_) (fun hne => absurd (lgc_0.mpr rfl) hne)
  exact next K T _ _ _ w1 _ _ _ (show cells + 0 + 0 ≤ cells + 160 by omega) (show slots + 0 + 0 ≤ slots + 1000 by omega) hK hR1 List.perm_append_comm
end LC
