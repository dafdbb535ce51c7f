/-! the law: its end, its start -/
set_option maxRecDepth 100000
theorem W_shed {p : Program} {l : Launch} {e : Env} {R : Room} {s : State} {m : MethodId} {args : Array Value} {below : List Frame} {meth : Method} {c : Code} {H : Heap} {locs : List Loc} {cells slots : Nat} {Q : State → Prop} {F : JFrame} (hl : ∀ x ∈ locs, s.heap.size ≤ x.base) (k : W p l e R s m args below meth c H [] cells slots Q F) : W p l e R s m args below meth c H locs cells slots Q F := by
  intro T hT X
  refine k T hT { X with same := ?_ }
  obtain ⟨h1, h2, h3, h4, h5, h6⟩ := X.same
  refine ⟨h1, h2, h3, h4, h5, fun a c hc => ?_⟩
  obtain ⟨c', e1, e2, e3, e4⟩ := h6 a c hc
  refine ⟨c', e1, e2, e3, fun i _ => e4 i (fun hm => ?_)⟩
  have h7 := hl _ hm
  have h8 : a < s.heap.size := (Array.getElem?_eq_some_iff.mp hc).1
  exact absurd h7 (Nat.not_le.mpr h8)
theorem law_fin {p : Program} {l : Launch} {e : Env} {s : State} {m : MethodId} {below : List Frame} {meth : Method} {c : Code} {g : GT} {A : Nat → Prop} {b : Nat} (hA : ∀ q, A q → s.heap.size ≤ q) (C : Cx p s m #[Value.ref b] meth c g A x code 4 ret) (cells slots : Nat) (lv : List (Nat × Value)) (ws : va_W) (h1 : cells ≤ 600000) (h2 : slots ≤ 7302250) : V p l e room_1 s m #[Value.ref b] below meth c g A 4 cells slots (lw_Z below #[Value.ref b] s) 1409 lv [] ws := by
  refine v_iconst (v := 1) C dL_law_1409 (by decide) ?_
  intro H locs ls hP hD hS hl
  exact W.widen h1 h2 (W_shed (fun x hx => hA _ (hS.2.2 x hx)) (lw_ret C.1 C.2.1 C.2.2.2.2.2.1 C.2.2.2.2.2.2.1 dL_law_1410))
