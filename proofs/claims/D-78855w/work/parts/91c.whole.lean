/-! the law's start -/
set_option maxRecDepth 100000
section WS
variable {s : State} {b : Nat}
theorem tw0_of (hts : ∀ w ∈ lw_tbl, w.before #[Value.ref b] s = true) : TW0 s := by
  intro w hw ht
  have h1 := hts w hw
  cases w <;> first | exact h1 | exact absurd ht (by decide) | (simp [tough] at ht)
theorem known_cl (hts : ∀ w ∈ lw_tbl, w.before #[Value.ref b] s = true) : ∃ (dC : Nat → ClassId) (dI : Nat → Nat → Nat), ∀ (k : Nat) (q : vw_C), vwCl[k]? = some q → u_Kn s q.1 q.2.1 q.2.2 (dC k) (dI k) := by
  obtain ⟨c0, i0, h0⟩ := u_known (C := RX0) (T := TX0) (N := 9) (n := 9) hts (fun w h => lw_all_tbl (in_X0 w h)) (hts _ (lw_all_tbl q113))
  obtain ⟨c1, i1, h1⟩ := u_known (C := RX1) (T := TX1) (N := 13) (n := 13) hts (fun w h => lw_all_tbl (in_X1 w h)) (hts _ (lw_all_tbl q121))
  obtain ⟨c2, i2, h2⟩ := u_known (C := RX2) (T := TX2) (N := 4) (n := 4) hts (fun w h => lw_all_tbl (in_X2 w h)) (hts _ (lw_all_tbl q261))
  obtain ⟨c3, i3, h3⟩ := u_known (C := RX3) (T := TX3) (N := 15) (n := 15) hts (fun w h => lw_all_tbl (in_X3 w h)) (hts _ (lw_all_tbl q1161))
  obtain ⟨c4, i4, h4⟩ := u_known (C := RX4) (T := TX4) (N := 9) (n := 9) hts (fun w h => lw_all_tbl (in_X4 w h)) (hts _ (lw_all_tbl q435))
  obtain ⟨c5, i5, h5⟩ := u_known (C := RX5) (T := TX5) (N := 4) (n := 4) hts (fun w h => lw_all_tbl (in_X5 w h)) (hts _ (lw_all_tbl q664))
  obtain ⟨c6, i6, h6⟩ := u_known (C := RX6) (T := TX6) (N := 5) (n := 5) hts (fun w h => lw_all_tbl (in_X6 w h)) (hts _ (lw_all_tbl q693))
  obtain ⟨c7, i7, h7⟩ := u_known (C := RX7) (T := TX7) (N := 4) (n := 4) hts (fun w h => lw_all_tbl (in_X7 w h)) (hts _ (lw_all_tbl q1051))
  obtain ⟨c8, i8, h8⟩ := u_known (C := RJ2) (T := TJ2) (N := 3) (n := 3) hts (fun w h => lw_all_tbl (in_J2 w h)) (hts _ (lw_all_tbl q127))
  obtain ⟨c9, i9, h9⟩ := u_known (C := RJ3) (T := TJ3) (N := 3) (n := 3) hts (fun w h => lw_all_tbl (in_J3 w h)) (hts _ (lw_all_tbl q209))
  obtain ⟨ca, ia, ha⟩ := u_known (C := RJ5) (T := TJ5) (N := 4) (n := 4) hts (fun w h => lw_all_tbl (in_J5 w h)) (hts _ (lw_all_tbl q228))
  refine ⟨fun k => [c0, c1, c2, c3, c4, c5, c6, c7, c8, c9, ca].getD k c0, fun k => [i0, i1, i2, i3, i4, i5, i6, i7, i8, i9, ia].getD k i0, ?_⟩
  intro k q hq
  match k, hq with
  | 0, hq => cases hq; exact h0
  | 1, hq => cases hq; exact h1
  | 2, hq => cases hq; exact h2
  | 3, hq => cases hq; exact h3
  | 4, hq => cases hq; exact h4
  | 5, hq => cases hq; exact h5
  | 6, hq => cases hq; exact h6
  | 7, hq => cases hq; exact h7
  | 8, hq => cases hq; exact h8
  | 9, hq => cases hq; exact h9
  | 10, hq => cases hq; exact ha
  | k + 11, hq => simp [vwCl] at hq
theorem wk_of (hts : ∀ w ∈ lw_tbl, w.before #[Value.ref b] s = true) (hgv : (Jvm.Cond.and given_1 narrow_1).before #[Value.ref b] s = true) : ∃ g : GT, wK g (fun q => s.heap.size ≤ q) s := by
  have hs := flat_of_before _ hgv
  obtain ⟨dC, dI, hKn⟩ := known_cl hts
  obtain ⟨a0, r0⟩ := arr_i (hts _ (lw_all_tbl q207))
  obtain ⟨a1, r1⟩ := arr_l (hts _ (lw_all_tbl q1212))
  obtain ⟨a2, r2⟩ := arr_z (hts _ (lw_all_tbl q1213))
  obtain ⟨a3, r3⟩ := arr_b (hts _ (lw_all_tbl q258))
  obtain ⟨a4, r4⟩ := arr_o (hts _ q139)
  obtain ⟨a5, r5⟩ := arr_o (hts _ q226)
  obtain ⟨a6, r6⟩ := arr_o (hts _ q260)
  obtain ⟨l0, k0⟩ := lam_of (i := 0) (hs siteWord_1_1 (by decide +kernel))
  obtain ⟨l1, k1⟩ := lam_of (i := 1) (hs siteWord_1_2 (by decide +kernel))
  obtain ⟨l2, k2⟩ := lam_of (i := 2) (hs siteWord_1_3 (by decide +kernel))
  obtain ⟨l3, k3⟩ := lam_of (i := 3) (hs siteWord_1_4 (by decide +kernel))
  obtain ⟨l4, k4⟩ := lam_of (i := 4) (hs siteWord_1_5 (by decide +kernel))
  obtain ⟨l5, k5⟩ := lam_of (i := 5) (hs siteWord_1_6 (by decide +kernel))
  obtain ⟨l6, k6⟩ := lam_of (i := 6) (hs siteWord_1_7 (by decide +kernel))
  obtain ⟨l7, k7⟩ := lam_of (i := 7) (hs siteWord_1_8 (by decide +kernel))
  have hA : ∀ a : Nat, a < s.heap.size → ¬ s.heap.size ≤ a := fun a h => Nat.not_le.mpr h
  have hz1 : va_Z "java/lang/String" "COMPACT_STRINGS" "Z" (.int 1) (fun q => s.heap.size ≤ q) s s.heap := va_Zof (hts _ q237) (hts _ (lw_all_tbl q97)) (Cond.eq_int (hs (Jvm.Cond.eq (Jvm.Term.static "java/lang/String" "COMPACT_STRINGS" "Z") (Jvm.Term.int 1)) (by decide +kernel)) rfl) hA
  have hz2 : va_Zq "jdk/internal/util/Preconditions" "SIOOBE_FORMATTER" "Ljava/util/function/BiFunction;" (fun q => s.heap.size ≤ q) s s.heap := va_Zqof (hts _ q999) (hts _ (lw_all_tbl q101)) (hs (Jvm.Cond.isRef (Jvm.Term.static "jdk/internal/util/Preconditions" "SIOOBE_FORMATTER" "Ljava/util/function/BiFunction;")) (by decide +kernel)) hA
  refine ⟨((dC, dI), fun k => [a0, a1, a2, a3, a4, a5, a6, a0, a0, a0, l0, l1, l2, l3, l4, l5, l6, l7].getD k a0), ⟨hKn, ?_⟩, ⟨tw0_of hts, ⟨hts _ q1118, hts _ q1117⟩, ?_⟩, hz1, hz2⟩
  · intro k q hq
    match k, hq with
    | 0, hq => cases hq; exact r0
    | 1, hq => cases hq; exact r1
    | 2, hq => cases hq; exact r2
    | 3, hq => cases hq; exact r3
    | 4, hq => cases hq; exact r4
    | 5, hq => cases hq; exact r5
    | 6, hq => cases hq; exact r6
    | k + 7, hq => simp [tysOf] at hq
  · intro i hi
    match i, hi with
    | 0, _ => exact k0
    | 1, _ => exact k1
    | 2, _ => exact k2
    | 3, _ => exact k3
    | 4, _ => exact k4
    | 5, _ => exact k5
    | 6, _ => exact k6
    | 7, _ => exact k7
end WS
theorem whole_start {p : Program} {e : Env} {s : State} {m : MethodId} {below : List Frame} {meth : Method} {c : Code} (l : Launch) (hflags : l.flags = flags0) {b L : Nat} {xs : Nat → Int32} (hL : L ≤ 384) (C0 : lw_At p s m meth c b L xs) : W p l e room_1 s m #[Value.ref b] below meth c s.heap [] 0 0 (lw_Z below #[Value.ref b] s) (entryFrame m ([Value.ref b] : List Value).toArray 4) := by
  obtain ⟨h1, h2, h3, h4, h5, h6, h7, h8, h9, h10, h11⟩ := C0
  obtain ⟨g, hK⟩ := wk_of h6 h10
  have C : Cx p s m #[Value.ref b] meth c g (fun q => s.heap.size ≤ q) x code 4 ret := ⟨h1, h2, h4, h5, fun w hw => h6 w (lw_all_tbl hw), h3, h9, h11, hK, fun q h => h⟩
  have hl := lv_entry ([.ref b] : List Value) (n := 4) (Nat.le_of_ble_eq_true rfl)
  rw [lg_entry_eq]
  exact law_entry C (xs := xs) ⟨h7, h8, Nat.not_le.mpr h8, hL⟩ (law_fin (fun q h => h) C) s.heap [] _ (fun k q h => absurd h (by simp)) ⟨fun i j p q h => absurd h (by simp), fun k q h => absurd h (by simp)⟩ va_S.rf hl
