/-! the law: from its entry to the loop -/
set_option maxRecDepth 100000
def K00 : KT := (prI 4, fun _ => 0, (0, fun _ => 0))
theorem ks00 : KS K00 := by
  refine ⟨⟨⟨rfl, by decide⟩, ⟨rfl, by decide⟩, ⟨rfl, by decide⟩, ⟨rfl, by decide⟩⟩, ⟨by decide, by decide, by decide⟩, fun i hi => absurd hi (Nat.not_lt_zero i), fun i hi => absurd hi (Nat.not_lt_zero i), fun i hi => absurd hi (Nat.not_lt_zero i), fun k hk => ?_, ⟨by decide, by decide⟩, ⟨by decide, by decide⟩, by decide, by decide, by decide⟩
  match k, hk with
  | 0, _ => exact ⟨by decide, by decide⟩
  | 1, _ => exact ⟨by decide, by decide⟩
  | 2, _ => exact ⟨by decide, by decide⟩
  | 3, _ => exact ⟨by decide, by decide⟩
section LE
variable {p : Program} {l : Launch} {e : Env} {s : State} {m : MethodId} {args : Array Value} {below : List Frame} {meth : Method} {c : Code} {g : GT} {A : Nat → Prop} {Q : State → Prop}
theorem xr00 {a A' : Nat → Nat} {d1 t1 : Nat} {ko fo dd : Nat → Nat} {w : va_W} (hP : w.Perm (cw g a A' 0 0 0 (prI 4) (fun _ => 0) (fun _ => 0) 0 (fun _ => 0) 0 (dqW g (a 3) d1 0 0 (fun _ => none) ++ ((a 4, .inl (g.2 5, 2, .inr (.inr (.inr (.inr (fun _ => none)))))) :: (txW g a t1 0 0 (fun _ => 0) ko fo dd ++ lamW g (a 0) fo dd))))) : XR g a K00 (fun _ => 0, 0) w := by
  refine ⟨A', fun _ => 0, 0, fun _ => 0, 0, d1, 0, 0, fun _ => none, fun _ => none, t1, 0, ko, fo, dd, [], fun _ => none, [], ?_, ⟨⟨rfl, by decide, rfl⟩, fun i x hx => absurd hx (by simp), fun k hk => ⟨fun _ => ⟨rfl, rfl⟩, fun x hx => absurd hx (by simp)⟩⟩, ⟨rfl, by decide, fun j hj => absurd hj (Nat.not_lt_zero j)⟩⟩
  exact hP
theorem law_entry (C : Cx p s m args meth c g A x code 4 ret) {b L : Nat} {xs : Nat → Int32} (hX : SX s A b L xs) (fin : ∀ (cells slots : Nat) (lv : List (Nat × Value)) (ws : va_W), cells ≤ 600000 → slots ≤ 7302250 → V p l e room_1 s m args below meth c g A 4 cells slots Q 1409 lv [] ws) : V p l e room_1 s m args below meth c g A 4 0 0 Q 0 [(0, .ref b)] [] [] := by
  refine v_new (ci := 0) (fs := [.null, .null, .null, .null, .int 0, .null, .int 0, .null, .null]) C in_X0 tyX0 tyX0_ok q112 q113 q89 rfl (by decide +kernel) (Nat.le_of_ble_eq_true rfl) (Nat.le_of_ble_eq_true rfl) dL_law_0 (fun q1 => ?_)
  refine v_dup C dL_law_3 rfl ?_
  refine v_callI C (x_init l g q1) ok_X0_init rfl q114 rfl (Nat.le_of_ble_eq_true rfl) dL_law_4 (roomN rfl (Nat.le_of_ble_eq_true rfl) (Nat.le_of_ble_eq_true rfl)) (wr := []) (List.Perm.refl _) ?_
  rintro rv w ⟨rfl, a, A', d1, t1, ko, fo, dd, rfl, hP⟩
  refine v_astore_n C dL_law_7 rfl (by decide) rfl ?_
  refine v_new (ci := 3) (fs := m0fs) C in_X3 tyX3 tyX3_ok q1160 q1161 q103 rfl (by decide +kernel) (Nat.le_of_ble_eq_true rfl) (Nat.le_of_ble_eq_true rfl) dL_law_8 (fun q2 => ?_)
  refine v_dup C dL_law_11 rfl ?_
  refine v_callI C (m_init l g q2) ok_X3_init rfl q1162 rfl (Nat.le_of_ble_eq_true rfl) dL_law_12 (roomN rfl (Nat.le_of_ble_eq_true rfl) (Nat.le_of_ble_eq_true rfl)) (wr := w ++ []) List.perm_append_comm ?_
  rintro rv w2 ⟨rfl, a2, rfl, rfl⟩
  refine v_astore_n C dL_law_15 rfl (by decide) rfl ?_
  refine v_iconst (v := 0) C dL_law_16 (by decide) ?_
  refine v_istore_n C dL_law_17 rfl (by decide) rfl ?_
  refine v_lv (lv' := lvL b a a2 0) ?_ ?_
  · intro q hq
    simp only [List.mem_cons, List.not_mem_nil, or_false] at hq
    rcases hq with rfl | rfl | rfl | rfl
    · exact List.mem_cons_self
    · exact List.mem_cons_of_mem _ (List.mem_cons_of_mem _ (List.mem_cons_of_mem _ List.mem_cons_self))
    · exact List.mem_cons_of_mem _ (List.mem_cons_of_mem _ List.mem_cons_self)
    · exact List.mem_cons_of_mem _ List.mem_cons_self
  · refine law_loop C hX fin (L + 6) 0 _ _ K00 (fun _ => 0, 0) (fun _ => 0, 0, fun _ => 0) (0, 0, fun _ => 0, 0, 0) 0 w _ (by omega) (by omega) (Nat.le_of_ble_eq_true rfl) (Nat.le_of_ble_eq_true rfl) ks00 (xr00 hP) ?_
    rw [List.append_nil]
    exact List.perm_append_comm
end LE
