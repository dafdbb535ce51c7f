/-! the law: its loop -/
set_option maxRecDepth 100000
section LP
variable {p : Program} {l : Launch} {e : Env} {s : State} {m : MethodId} {args : Array Value} {below : List Frame} {meth : Method} {c : Code} {g : GT} {A : Nat → Prop} {Q : State → Prop}
set_option maxHeartbeats 2000000 in
theorem law_sw (C : Cx p s m args meth c g A x code 4 ret) {b L : Nat} {xs : Nat → Int32} (hX : SX s A b L xs) {a a2 : Nat → Nat} {i cells slots : Nat} (hi : i + 6 ≤ L) (hc : cells + 160 ≤ 600000) (hs : slots + 1000 ≤ 7302250) {K : KT} {T : (Nat → Int32) × Int32} {B : (Nat → Int32) × Int32 × (Nat → Int32)} {P : Int32 × Int32 × (Nat → Int32) × Int32 × Int32} {h : Int64} {w ws : va_W} (hK : KS K) (hR : XR g a K T w) (hp : ws.Perm (w ++ mw g a2 K.1 K.2.1 K.2.2 B T P h))
    (next : ∀ (K : KT) (T : (Nat → Int32) × Int32) (B : (Nat → Int32) × Int32 × (Nat → Int32)) (P : Int32 × Int32 × (Nat → Int32) × Int32 × Int32) (h : Int64) (w ws : va_W) (cells2 slots2 : Nat), cells2 ≤ cells + 160 → slots2 ≤ slots + 1000 → KS K → XR g a K T w → ws.Perm (w ++ mw g a2 K.1 K.2.1 K.2.2 B T P h) → V p l e room_1 s m args below meth c g A 4 cells2 slots2 Q 1403 (lvL b a a2 i) [] ws) (v : Int32) : V p l e room_1 s m args below meth c g A 4 cells slots Q 33 (lvL b a a2 i) [.int v] ws := by
  by_cases c0 : v = 0
  · subst c0
    exact v_tableIn C 204 dL_law_33 (by decide) (by decide) rfl (by decide) (law_c0 C hX hi hc hs hK hR hp next)
  by_cases c1 : v = 1
  · subst c1
    exact v_tableIn C 227 dL_law_33 (by decide) (by decide) rfl (by decide) (law_c1 C hX hi hc hs hK hR hp next)
  by_cases c2 : v = 2
  · subst c2
    exact v_tableIn C 270 dL_law_33 (by decide) (by decide) rfl (by decide) (law_c2 C hX hi hc hs hK hR hp next)
  by_cases c3 : v = 3
  · subst c3
    exact v_tableIn C 293 dL_law_33 (by decide) (by decide) rfl (by decide) (law_c3 C hX hi hc hs hK hR hp next)
  by_cases c4 : v = 4
  · subst c4
    exact v_tableIn C 326 dL_law_33 (by decide) (by decide) rfl (by decide) (law_c4 C hX hi hc hs hK hR hp next)
  by_cases c5 : v = 5
  · subst c5
    exact v_tableIn C 359 dL_law_33 (by decide) (by decide) rfl (by decide) (law_c5 C hX hi hc hs hK hR hp next)
  by_cases c6 : v = 6
  · subst c6
    exact v_tableIn C 392 dL_law_33 (by decide) (by decide) rfl (by decide) (law_c6 C hX hi hc hs hK hR hp next)
  by_cases c7 : v = 7
  · subst c7
    exact v_tableIn C 415 dL_law_33 (by decide) (by decide) rfl (by decide) (law_c7 C hX hi hc hs hK hR hp next)
  by_cases c8 : v = 8
  · subst c8
    exact v_tableIn C 438 dL_law_33 (by decide) (by decide) rfl (by decide) (law_c8 C hX hi hc hs hK hR hp next)
  by_cases c9 : v = 9
  · subst c9
    exact v_tableIn C 471 dL_law_33 (by decide) (by decide) rfl (by decide) (law_c9 C hX hi hc hs hK hR hp next)
  by_cases c10 : v = 10
  · subst c10
    exact v_tableIn C 504 dL_law_33 (by decide) (by decide) rfl (by decide) (law_c10 C hX hi hc hs hK hR hp next)
  by_cases c11 : v = 11
  · subst c11
    exact v_tableIn C 527 dL_law_33 (by decide) (by decide) rfl (by decide) (law_c11 C hX hi hc hs hK hR hp next)
  by_cases c12 : v = 12
  · subst c12
    exact v_tableIn C 551 dL_law_33 (by decide) (by decide) rfl (by decide) (law_c12 C hX hi hc hs hK hR hp next)
  by_cases c13 : v = 13
  · subst c13
    exact v_tableIn C 564 dL_law_33 (by decide) (by decide) rfl (by decide) (law_c13 C hX hi hc hs hK hR hp next)
  by_cases c14 : v = 14
  · subst c14
    exact v_tableIn C 627 dL_law_33 (by decide) (by decide) rfl (by decide) (law_c14 C hX hi hc hs hK hR hp next)
  by_cases c15 : v = 15
  · subst c15
    exact v_tableIn C 680 dL_law_33 (by decide) (by decide) rfl (by decide) (law_c15 C hX hi hc hs hK hR hp next)
  by_cases c16 : v = 16
  · subst c16
    exact v_tableIn C 733 dL_law_33 (by decide) (by decide) rfl (by decide) (law_c16 C hX hi hc hs hK hR hp next)
  by_cases c17 : v = 17
  · subst c17
    exact v_tableIn C 766 dL_law_33 (by decide) (by decide) rfl (by decide) (law_c17 C hX hi hc hs hK hR hp next)
  by_cases c18 : v = 18
  · subst c18
    exact v_tableIn C 789 dL_law_33 (by decide) (by decide) rfl (by decide) (law_c18 C hX hi hc hs hK hR hp next)
  by_cases c19 : v = 19
  · subst c19
    exact v_tableIn C 822 dL_law_33 (by decide) (by decide) rfl (by decide) (law_c19 C hX hi hc hs hK hR hp next)
  by_cases c20 : v = 20
  · subst c20
    exact v_tableIn C 845 dL_law_33 (by decide) (by decide) rfl (by decide) (law_c20 C hX hi hc hs hK hR hp next)
  by_cases c21 : v = 21
  · subst c21
    exact v_tableIn C 898 dL_law_33 (by decide) (by decide) rfl (by decide) (law_c21 C hX hi hc hs hK hR hp next)
  by_cases c22 : v = 22
  · subst c22
    exact v_tableIn C 931 dL_law_33 (by decide) (by decide) rfl (by decide) (law_c22 C hX hi hc hs hK hR hp next)
  by_cases c23 : v = 23
  · subst c23
    exact v_tableIn C 964 dL_law_33 (by decide) (by decide) rfl (by decide) (law_c23 C hX hi hc hs hK hR hp next)
  by_cases c24 : v = 24
  · subst c24
    exact v_tableIn C 997 dL_law_33 (by decide) (by decide) rfl (by decide) (law_c24 C hX hi hc hs hK hR hp next)
  by_cases c25 : v = 25
  · subst c25
    exact v_tableIn C 1040 dL_law_33 (by decide) (by decide) rfl (by decide) (law_c25 C hX hi hc hs hK hR hp next)
  by_cases c26 : v = 26
  · subst c26
    exact v_tableIn C 1073 dL_law_33 (by decide) (by decide) rfl (by decide) (law_c26 C hX hi hc hs hK hR hp next)
  by_cases c27 : v = 27
  · subst c27
    exact v_tableIn C 1106 dL_law_33 (by decide) (by decide) rfl (by decide) (law_c27 C hX hi hc hs hK hR hp next)
  by_cases c28 : v = 28
  · subst c28
    exact v_tableIn C 1129 dL_law_33 (by decide) (by decide) rfl (by decide) (law_c28 C hX hi hc hs hK hR hp next)
  by_cases c29 : v = 29
  · subst c29
    exact v_tableIn C 1162 dL_law_33 (by decide) (by decide) rfl (by decide) (law_c29 C hX hi hc hs hK hR hp next)
  by_cases c30 : v = 30
  · subst c30
    exact v_tableIn C 1215 dL_law_33 (by decide) (by decide) rfl (by decide) (law_c30 C hX hi hc hs hK hR hp next)
  by_cases c31 : v = 31
  · subst c31
    exact v_tableIn C 1268 dL_law_33 (by decide) (by decide) rfl (by decide) (law_c31 C hX hi hc hs hK hR hp next)
  by_cases c32 : v = 32
  · subst c32
    exact v_tableIn C 1291 dL_law_33 (by decide) (by decide) rfl (by decide) (law_c32 C hX hi hc hs hK hR hp next)
  by_cases c33 : v = 33
  · subst c33
    exact v_tableIn C 1304 dL_law_33 (by decide) (by decide) rfl (by decide) (law_c33 C hX hi hc hs hK hR hp next)
  by_cases c34 : v = 34
  · subst c34
    exact v_tableIn C 1317 dL_law_33 (by decide) (by decide) rfl (by decide) (law_c34 C hX hi hc hs hK hR hp next)
  by_cases c35 : v = 35
  · subst c35
    exact v_tableIn C 1330 dL_law_33 (by decide) (by decide) rfl (by decide) (law_c35 C hX hi hc hs hK hR hp next)
  by_cases c36 : v = 36
  · subst c36
    exact v_tableIn C 1343 dL_law_33 (by decide) (by decide) rfl (by decide) (law_c36 C hX hi hc hs hK hR hp next)
  by_cases c37 : v = 37
  · subst c37
    exact v_tableIn C 1366 dL_law_33 (by decide) (by decide) rfl (by decide) (law_c37 C hX hi hc hs hK hR hp next)
  by_cases c38 : v = 38
  · subst c38
    exact v_tableIn C 1389 dL_law_33 (by decide) (by decide) rfl (by decide) (law_c38 C hX hi hc hs hK hR hp next)
  · refine v_tableOut C 1403 dL_law_33 ?_ (by decide) (next K T B P h w ws _ _ (by omega) (by omega) hK hR hp)
    have t : ∀ k : Nat, k ≤ 38 → v ≠ nI k → v.toInt ≠ k := fun k hk hv q => hv (i32_eq.mpr (by rw [nI_toInt (by omega)]; exact q))
    have t0 := t 0 (by decide) c0
    have t1 := t 1 (by decide) c1
    have t2 := t 2 (by decide) c2
    have t3 := t 3 (by decide) c3
    have t4 := t 4 (by decide) c4
    have t5 := t 5 (by decide) c5
    have t6 := t 6 (by decide) c6
    have t7 := t 7 (by decide) c7
    have t8 := t 8 (by decide) c8
    have t9 := t 9 (by decide) c9
    have t10 := t 10 (by decide) c10
    have t11 := t 11 (by decide) c11
    have t12 := t 12 (by decide) c12
    have t13 := t 13 (by decide) c13
    have t14 := t 14 (by decide) c14
    have t15 := t 15 (by decide) c15
    have t16 := t 16 (by decide) c16
    have t17 := t 17 (by decide) c17
    have t18 := t 18 (by decide) c18
    have t19 := t 19 (by decide) c19
    have t20 := t 20 (by decide) c20
    have t21 := t 21 (by decide) c21
    have t22 := t 22 (by decide) c22
    have t23 := t 23 (by decide) c23
    have t24 := t 24 (by decide) c24
    have t25 := t 25 (by decide) c25
    have t26 := t 26 (by decide) c26
    have t27 := t 27 (by decide) c27
    have t28 := t 28 (by decide) c28
    have t29 := t 29 (by decide) c29
    have t30 := t 30 (by decide) c30
    have t31 := t 31 (by decide) c31
    have t32 := t 32 (by decide) c32
    have t33 := t 33 (by decide) c33
    have t34 := t 34 (by decide) c34
    have t35 := t 35 (by decide) c35
    have t36 := t 36 (by decide) c36
    have t37 := t 37 (by decide) c37
    have t38 := t 38 (by decide) c38
    omega
theorem law_loop (C : Cx p s m args meth c g A x code 4 ret) {b L : Nat} {xs : Nat → Int32} (hX : SX s A b L xs) {a a2 : Nat → Nat} (fin : ∀ (cells slots : Nat) (lv : List (Nat × Value)) (ws : va_W), cells ≤ 600000 → slots ≤ 7302250 → V p l e room_1 s m args below meth c g A 4 cells slots Q 1409 lv [] ws) (n : Nat) : ∀ (i cells slots : Nat) (K : KT) (T : (Nat → Int32) × Int32) (B : (Nat → Int32) × Int32 × (Nat → Int32)) (P : Int32 × Int32 × (Nat → Int32) × Int32 × Int32) (h : Int64) (w ws : va_W), L + 6 ≤ i + n → i ≤ 390 → cells ≤ 100 + 27 * i → slots ≤ 5000 + 170 * i → KS K → XR g a K T w → ws.Perm (w ++ mw g a2 K.1 K.2.1 K.2.2 B T P h) → V p l e room_1 s m args below meth c g A 4 cells slots Q 18 (lvL b a a2 i) [] ws := by
  have hL := hX.2.2.2
  induction n with
  | zero =>
    intro i cells slots K T B P h w ws hn hi6 hc hs hK hR hp
    refine v_iload_n C dL_law_18 0 rfl ?_
    refine v_aload_n C dL_law_19 1 rfl ?_
    refine v_slen C hX dL_law_20 ?_
    refine v_bipush (v := 6) C dL_law_21 (by decide) ?_
    refine v_isub C dL_law_23 ?_
    refine v_icmp_gt C 1409 dL_law_24 (by decide) (fun _ => fin _ _ _ _ (by omega) (by omega)) (fun hle => ?_)
    exfalso
    apply hle
    rw [i32_lt, i32_sub (by rw [nI_toInt (by omega)]; show _ ≤ _ - (6 : Int); omega) (by rw [nI_toInt (by omega)]; show _ - (6 : Int) < _; omega), nI_toInt (by omega), nI_toInt (by omega)]
    show _ - (6 : Int) < _
    omega
  | succ n ih =>
    intro i cells slots K T B P h w ws hn hi6 hc hs hK hR hp
    refine v_iload_n C dL_law_18 0 rfl ?_
    refine v_aload_n C dL_law_19 1 rfl ?_
    refine v_slen C hX dL_law_20 ?_
    refine v_bipush (v := 6) C dL_law_21 (by decide) ?_
    refine v_isub C dL_law_23 ?_
    refine v_icmp_gt C 1409 dL_law_24 (by decide) (fun _ => fin _ _ _ _ (by omega) (by omega)) (fun hle => ?_)
    have hi : i + 6 ≤ L := by
      rw [i32_lt, i32_sub (by rw [nI_toInt (by omega)]; show _ ≤ _ - (6 : Int); omega) (by rw [nI_toInt (by omega)]; show _ - (6 : Int) < _; omega), nI_toInt (by omega), nI_toInt (by omega)] at hle
      have hle' : ¬ (L : Int) - 6 < i := hle
      omega
    refine v_aload_n C dL_law_27 1 rfl ?_
    refine v_iload_n C dL_law_28 0 rfl ?_
    refine v_sld C hX dL_law_29 (sx_ix0 hi hL) ?_
    refine v_bipush (v := 63) C dL_law_30 (by decide) ?_
    refine v_iand C dL_law_32 ?_
    refine law_sw C hX hi (by omega) (by omega) hK hR hp (fun K T B P h w ws cells2 slots2 h1 h2 hK hR hp => ?_) _
    refine v_iinc C dL_law_1403 0 rfl (show nI i + 6 = nI (i + 6) from nI_add i 6) (by decide) rfl ?_
    refine v_goto C 18 dL_law_1406 (by decide) ?_
    exact ih (i + 6) cells2 slots2 K T B P h w ws (by omega) (by omega) (by omega) (by omega) hK hR hp
end LP
