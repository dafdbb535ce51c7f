/-! the class's state as cells -/
set_option maxRecDepth 100000
abbrev bv (r : Nat → Int32) (i : Nat) : Nat → Int32 := fun j => r (10 + 9 * i + j)
abbrev gv (r : Nat → Int32) (i : Nat) : Nat → Int32 := fun j => r (82 + 4 * i + j)
abbrev tv (r : Nat → Int32) (i : Nat) : Nat → Int32 := fun j => r (94 + 6 * i + j)
def mpL {α : Type} (F : Nat → α) (n : Nat) : List α := (List.range n).map F
theorem mpL_len {α : Type} (F : Nat → α) (n : Nat) : (mpL F n).length = n := by simp [mpL]
theorem mpL_get {α : Type} (F : Nat → α) {n i : Nat} (h : i < n) : (mpL F n)[i]? = some (F i) := by simp [mpL, h]
theorem mpL_set {α : Type} {F G : Nat → α} {n i : Nat} (h : ∀ k, k < n → k ≠ i → G k = F k) : (mpL F n).set i (G i) = mpL G n := by
  apply List.ext_getElem?
  intro k
  rw [List.getElem?_set]
  by_cases hk : k < n
  · rw [mpL_get G hk]
    by_cases hik : i = k
    · subst hik; rw [if_pos rfl, mpL_len, if_pos hk]
    · rw [if_neg hik, mpL_get F hk, h k hk (fun q => hik q.symm)]
  · have hG : (mpL G n)[k]? = none := List.getElem?_eq_none (by rw [mpL_len]; omega)
    rw [hG]
    by_cases hik : i = k
    · subst hik; rw [if_pos rfl, mpL_len, if_neg hk]
    · rw [if_neg hik]; exact List.getElem?_eq_none (by rw [mpL_len]; omega)
theorem mpL_congr {α : Type} {F G : Nat → α} {n : Nat} (h : ∀ k, k < n → F k = G k) : mpL F n = mpL G n := by
  apply List.ext_getElem?
  intro k
  by_cases hk : k < n
  · rw [mpL_get F hk, mpL_get G hk, h k hk]
  · rw [List.getElem?_eq_none (by rw [mpL_len]; omega), List.getElem?_eq_none (by rw [mpL_len]; omega)]
theorem mpL_succ {α : Type} (F : Nat → α) (n : Nat) : mpL F (n + 1) = mpL F n ++ [F n] := by
  simp [mpL, List.range_succ]
def rfs (A : Nat → Nat) (o n : Nat) : Nat → Option Nat := fun i => if i < n then some (A (o + i)) else none
theorem rfs_at (A : Nat → Nat) (o : Nat) {n i : Nat} (h : i < n) : rfs A o n i = some (A (o + i)) := if_pos h
theorem rfs_up {A A' : Nat → Nat} {o n x : Nat} (h : ∀ i, i < n → A' (o + i) = A (o + i)) (hx : A' (o + n) = x) : va_up (rfs A o n) n (some x) = rfs A' o (n + 1) := by
  funext i
  unfold va_up rfs
  by_cases h1 : i = n
  · subst h1; rw [if_pos rfl, if_pos (by omega), hx]
  · rw [if_neg h1]
    by_cases h2 : i < n
    · rw [if_pos h2, if_pos (by omega), h i h2]
    · rw [if_neg h2, if_neg (by omega)]
abbrev binsF (A : Nat → Nat) (r : Nat → Int32) : Nat → Nat × va_E := fun i => bnC (A (10 + i)) (bv r i)
abbrev legsF (A : Nat → Nat) (r : Nat → Int32) : Nat → Nat × va_E := fun i => lgC (A (20 + i)) (gv r i)
abbrev consF (A : Nat → Nat) (r : Nat → Int32) : Nat → Nat × va_E := fun i => cnC (A (30 + i)) (tv r i)
abbrev stF (A : Nat → Nat) (r : Nat → Int32) (b : Nat → Int64) : List Value := [.ref (A 1), .ref (A 3), .ref (A 5), .ref (A 7), .int (r 0), .int (r 1), .int (r 5), .int (b 0).toInt32, .int (b 1).toInt32, .int (b 2).toInt32, .long (b 3), .long (b 4), .long (b 5)]
def tlW (A : Nat → Nat) (nb nl nc : Nat) (r : Nat → Int32) (suf : va_W) : va_W := mpL (binsF A r) nb ++ (mpL (legsF A r) nl ++ (mpL (consF A r) nc ++ suf))
def prF (r : Nat → Int32) : Nat → Int32 := fun i => if i < 4 then r (6 + i) else 0
theorem prF_at (r : Nat → Int32) {i : Nat} (h : i < 4) : prF r i = r (6 + i) := if_pos h
theorem prF_congr {r r' : Nat → Int32} (h : ∀ j, 6 ≤ j → j < 10 → r j = r' j) : prF r = prF r' := by
  funext i; unfold prF
  by_cases q : i < 4
  · rw [if_pos q, if_pos q, h (6 + i) (by omega) (by omega)]
  · rw [if_neg q, if_neg q]
theorem prF_upd (r : Nat → Int32) {k : Nat} (hk : k < 4) (x : Int32) : upd (prF r) k x = prF (upd r (6 + k) x) := by
  funext i; simp only [prF, upd]
  by_cases q2 : i = k
  · subst q2; rw [if_pos rfl, if_pos hk, if_pos rfl]
  · rw [if_neg q2]
    by_cases q : i < 4
    · rw [if_pos q, if_pos q, if_neg (by omega)]
    · rw [if_neg q, if_neg q]
/-- a State's head: itself, three lists with their arrays, prices -/
def hdW (g : GT) (A : Nat → Nat) (nb nl nc : Nat) (r : Nat → Int32) (b : Nat → Int64) (X : va_W) : va_W :=
  (A 0, .inr (1, stF A r b)) :: (A 1, .inr (8, [.int (nI nb), .ref (A 2), .int (nI nb)])) :: (A 2, .inl (g.2 4, 8, .inr (.inr (.inr (.inr (rfs A 10 nb)))))) :: (A 3, .inr (8, [.int (nI nl), .ref (A 4), .int (nI nl)])) :: (A 4, .inl (g.2 4, 3, .inr (.inr (.inr (.inr (rfs A 20 nl)))))) :: (A 5, .inr (8, [.int (nI nc), .ref (A 6), .int (nI nc)])) :: (A 6, .inl (g.2 4, 6, .inr (.inr (.inr (.inr (rfs A 30 nc)))))) :: (A 7, .inl (g.2 0, 4, .inl (prF r))) :: X
/-- a State: its head, then bins, legs, contracts, then what follows -/
def sw (g : GT) (A : Nat → Nat) (nb nl nc : Nat) (r : Nat → Int32) (b : Nat → Int64) (suf : va_W) : va_W := hdW g A nb nl nc r b (tlW A nb nl nc r suf)
theorem hdW_congr {g : GT} {A : Nat → Nat} {nb nl nc : Nat} {r r' : Nat → Int32} {b : Nat → Int64} {X : va_W} (h : ∀ j, j < 10 → r j = r' j) : hdW g A nb nl nc r b X = hdW g A nb nl nc r' b X := by
  unfold hdW stF
  rw [h 0 (by decide), h 1 (by decide), h 5 (by decide), prF_congr (fun j _ hj => h j hj)]
theorem tlW_suf (A : Nat → Nat) (nb nl nc : Nat) (r : Nat → Int32) (suf : va_W) : tlW A nb nl nc r suf = tlW A nb nl nc r [] ++ suf := by
  simp only [tlW, List.append_assoc, List.nil_append]
theorem sw_suf (g : GT) (A : Nat → Nat) (nb nl nc : Nat) (r : Nat → Int32) (b : Nat → Int64) (suf : va_W) : sw g A nb nl nc r b suf = sw g A nb nl nc r b [] ++ suf := by
  unfold sw; rw [tlW_suf]; rfl
theorem tlW_bin (A : Nat → Nat) {nb nl nc : Nat} (r : Nat → Int32) (suf : va_W) {i : Nat} (h : i < nb) : (tlW A nb nl nc r suf)[i]? = some (bnC (A (10 + i)) (bv r i)) := by
  unfold tlW; rw [List.getElem?_append_left (by rw [mpL_len]; exact h), mpL_get _ h]
theorem tlW_leg (A : Nat → Nat) {nb nl nc : Nat} (r : Nat → Int32) (suf : va_W) {i : Nat} (h : i < nl) : (tlW A nb nl nc r suf)[nb + i]? = some (lgC (A (20 + i)) (gv r i)) := by
  unfold tlW; rw [List.getElem?_append_right (by rw [mpL_len]; omega), mpL_len, Nat.add_sub_cancel_left, List.getElem?_append_left (by rw [mpL_len]; exact h), mpL_get _ h]
theorem tlW_con (A : Nat → Nat) {nb nl nc : Nat} (r : Nat → Int32) (suf : va_W) {i : Nat} (h : i < nc) : (tlW A nb nl nc r suf)[nb + nl + i]? = some (cnC (A (30 + i)) (tv r i)) := by
  unfold tlW; rw [List.getElem?_append_right (by rw [mpL_len]; omega), mpL_len, show nb + nl + i - nb = nl + i by omega, List.getElem?_append_right (by rw [mpL_len]; omega), mpL_len, Nat.add_sub_cancel_left, List.getElem?_append_left (by rw [mpL_len]; exact h), mpL_get _ h]
theorem sw_bin {g : GT} {A : Nat → Nat} {nb nl nc : Nat} {r : Nat → Int32} {b : Nat → Int64} {suf : va_W} {i : Nat} (h : i < nb) : (sw g A nb nl nc r b suf)[i + 8]? = some (bnC (A (10 + i)) (bv r i)) := tlW_bin A r suf h
theorem sw_leg {g : GT} {A : Nat → Nat} {nb nl nc : Nat} {r : Nat → Int32} {b : Nat → Int64} {suf : va_W} {i : Nat} (h : i < nl) : (sw g A nb nl nc r b suf)[nb + i + 8]? = some (lgC (A (20 + i)) (gv r i)) := tlW_leg A r suf h
theorem sw_con {g : GT} {A : Nat → Nat} {nb nl nc : Nat} {r : Nat → Int32} {b : Nat → Int64} {suf : va_W} {i : Nat} (h : i < nc) : (sw g A nb nl nc r b suf)[nb + nl + i + 8]? = some (cnC (A (30 + i)) (tv r i)) := tlW_con A r suf h
theorem bnF_congr {v v' : Nat → Int32} (h : ∀ j, j < 9 → v j = v' j) : bnF v = bnF v' := by
  unfold bnF; rw [h 0 (by decide), h 1 (by decide), h 2 (by decide), h 3 (by decide), h 4 (by decide), h 5 (by decide), h 6 (by decide), h 7 (by decide), h 8 (by decide)]
theorem lgF_congr {v v' : Nat → Int32} (h : ∀ j, j < 4 → v j = v' j) : lgF v = lgF v' := by
  unfold lgF; rw [h 0 (by decide), h 1 (by decide), h 2 (by decide), h 3 (by decide)]
theorem cnF_congr {v v' : Nat → Int32} (h : ∀ j, j < 6 → v j = v' j) : cnF v = cnF v' := by
  unfold cnF; rw [h 0 (by decide), h 1 (by decide), h 2 (by decide), h 3 (by decide), h 5 (by decide)]
/-- the tail sees the used places of bins, legs, contracts only -/
theorem tlW_congr {A : Nat → Nat} {nb nl nc : Nat} {r r' : Nat → Int32} {suf : va_W} (h1 : ∀ i, i < nb → ∀ j, j < 9 → r (10 + 9 * i + j) = r' (10 + 9 * i + j)) (h2 : ∀ i, i < nl → ∀ j, j < 4 → r (82 + 4 * i + j) = r' (82 + 4 * i + j)) (h3 : ∀ i, i < nc → ∀ j, j < 6 → r (94 + 6 * i + j) = r' (94 + 6 * i + j)) : tlW A nb nl nc r suf = tlW A nb nl nc r' suf := by
  unfold tlW
  rw [mpL_congr (F := binsF A r) (G := binsF A r') (fun i hi => by unfold binsF bnC; rw [bnF_congr (h1 i hi)]), mpL_congr (F := legsF A r) (G := legsF A r') (fun i hi => by unfold legsF lgC; rw [lgF_congr (h2 i hi)]), mpL_congr (F := consF A r) (G := consF A r') (fun i hi => by unfold consF cnC; rw [cnF_congr (h3 i hi)])]
theorem tlW_lo {A : Nat → Nat} {nb nl nc : Nat} {r : Nat → Int32} {suf : va_W} {k : Nat} {x : Int32} (hk : k < 10) : tlW A nb nl nc (upd r k x) suf = tlW A nb nl nc r suf :=
  tlW_congr (fun i _ j _ => pk_un (by omega)) (fun i _ j _ => pk_un (by omega)) (fun i _ j _ => pk_un (by omega))
theorem tlW_setB {A : Nat → Nat} {nb nl nc : Nat} {r r' : Nat → Int32} {suf : va_W} {i : Nat} {v : Nat → Int32} (hi : i < nb) (hnb : nb ≤ 8) (hv : ∀ j, j < 9 → v j = r' (10 + 9 * i + j)) (hr : ∀ j, j < 10 + 9 * i ∨ 10 + 9 * i + 9 ≤ j → r' j = r j) : (tlW A nb nl nc r suf).set i (bnC (A (10 + i)) v) = tlW A nb nl nc r' suf := by
  unfold tlW
  rw [List.set_append_left _ _ (by rw [mpL_len]; exact hi)]
  have e : bnC (A (10 + i)) v = binsF A r' i := by unfold binsF bnC; rw [bnF_congr hv]
  rw [e, mpL_set (F := binsF A r) (G := binsF A r') (fun k hk hne => by unfold binsF bnC; rw [bnF_congr (fun j hj => hr _ (by omega))]), mpL_congr (F := legsF A r) (G := legsF A r') (fun k hk => by unfold legsF lgC; rw [lgF_congr (fun j hj => (hr _ (by omega)).symm)]), mpL_congr (F := consF A r) (G := consF A r') (fun k hk => by unfold consF cnC; rw [cnF_congr (fun j hj => (hr _ (by omega)).symm)])]
theorem tlW_setG {A : Nat → Nat} {nb nl nc : Nat} {r r' : Nat → Int32} {suf : va_W} {i : Nat} {v : Nat → Int32} (hi : i < nl) (hnb : nb ≤ 8) (hnl : nl ≤ 3) (hv : ∀ j, j < 4 → v j = r' (82 + 4 * i + j)) (hr : ∀ j, j < 82 + 4 * i ∨ 82 + 4 * i + 4 ≤ j → r' j = r j) : (tlW A nb nl nc r suf).set (nb + i) (lgC (A (20 + i)) v) = tlW A nb nl nc r' suf := by
  unfold tlW
  rw [List.set_append_right _ _ (by rw [mpL_len]; omega), mpL_len, Nat.add_sub_cancel_left, List.set_append_left _ _ (by rw [mpL_len]; exact hi)]
  have e : lgC (A (20 + i)) v = legsF A r' i := by unfold legsF lgC; rw [lgF_congr hv]
  rw [e, mpL_set (F := legsF A r) (G := legsF A r') (fun k hk hne => by unfold legsF lgC; rw [lgF_congr (fun j hj => hr _ (by omega))]), mpL_congr (F := binsF A r) (G := binsF A r') (fun k hk => by unfold binsF bnC; rw [bnF_congr (fun j hj => (hr _ (by omega)).symm)]), mpL_congr (F := consF A r) (G := consF A r') (fun k hk => by unfold consF cnC; rw [cnF_congr (fun j hj => (hr _ (by omega)).symm)])]
theorem tlW_setC {A : Nat → Nat} {nb nl nc : Nat} {r r' : Nat → Int32} {suf : va_W} {i : Nat} {v : Nat → Int32} (hi : i < nc) (hnb : nb ≤ 8) (hnl : nl ≤ 3) (hv : ∀ j, j < 6 → j ≠ 4 → v j = r' (94 + 6 * i + j)) (hr : ∀ j, j < 94 + 6 * i ∨ 94 + 6 * i + 6 ≤ j → r' j = r j) : (tlW A nb nl nc r suf).set (nb + nl + i) (cnC (A (30 + i)) v) = tlW A nb nl nc r' suf := by
  unfold tlW
  rw [List.set_append_right _ _ (by rw [mpL_len]; omega), mpL_len, show nb + nl + i - nb = nl + i by omega, List.set_append_right _ _ (by rw [mpL_len]; omega), mpL_len, Nat.add_sub_cancel_left, List.set_append_left _ _ (by rw [mpL_len]; exact hi)]
  have e : cnC (A (30 + i)) v = consF A r' i := by unfold consF cnC cnF; rw [hv 0 (by decide) (by decide), hv 1 (by decide) (by decide), hv 2 (by decide) (by decide), hv 3 (by decide) (by decide), hv 5 (by decide) (by decide)]
  rw [e, mpL_set (F := consF A r) (G := consF A r') (fun k hk hne => by unfold consF cnC; rw [cnF_congr (fun j hj => hr _ (by omega))]), mpL_congr (F := binsF A r) (G := binsF A r') (fun k hk => by unfold binsF bnC; rw [bnF_congr (fun j hj => (hr _ (by omega)).symm)]), mpL_congr (F := legsF A r) (G := legsF A r') (fun k hk => by unfold legsF lgC; rw [lgF_congr (fun j hj => (hr _ (by omega)).symm)])]
/-- the used places -/
def Ag (nb nl nc : Nat) (r r' : Nat → Int32) : Prop := (∀ j, j < 10 → r j = r' j) ∧ (∀ i, i < nb → ∀ j, j < 9 → r (10 + 9 * i + j) = r' (10 + 9 * i + j)) ∧ (∀ i, i < nl → ∀ j, j < 4 → r (82 + 4 * i + j) = r' (82 + 4 * i + j)) ∧ (∀ i, i < nc → ∀ j, j < 6 → r (94 + 6 * i + j) = r' (94 + 6 * i + j))
theorem sw_congr {g : GT} {A : Nat → Nat} {nb nl nc : Nat} {r r' : Nat → Int32} {b b' : Nat → Int64} {suf : va_W} (h : Ag nb nl nc r r') (hb : ∀ j, j < 6 → b j = b' j) : sw g A nb nl nc r b suf = sw g A nb nl nc r' b' suf := by
  unfold sw
  rw [hdW_congr h.1, tlW_congr h.2.1 h.2.2.1 h.2.2.2]
  unfold hdW stF
  rw [hb 0 (by decide), hb 1 (by decide), hb 2 (by decide), hb 3 (by decide), hb 4 (by decide), hb 5 (by decide)]
section SW
variable {g : GT} {A : Nat → Nat} {nb nl nc : Nat} {r r' : Nat → Int32} {b : Nat → Int64} {suf : va_W} {i : Nat} {v : Nat → Int32}
theorem sw_setB (hi : i < nb) (hnb : nb ≤ 8) (hv : ∀ j, j < 9 → v j = r' (10 + 9 * i + j)) (hr : ∀ j, j < 10 + 9 * i ∨ 10 + 9 * i + 9 ≤ j → r' j = r j) : (sw g A nb nl nc r b suf).set (i + 8) (bnC (A (10 + i)) v) = sw g A nb nl nc r' b suf := by
  have h : (sw g A nb nl nc r b suf).set (i + 8) (bnC (A (10 + i)) v) = hdW g A nb nl nc r b ((tlW A nb nl nc r suf).set i (bnC (A (10 + i)) v)) := rfl
  rw [h, tlW_setB hi hnb hv hr, hdW_congr (r' := r') (fun j hj => (hr j (by omega)).symm)]; rfl
theorem sw_setG (hi : i < nl) (hnb : nb ≤ 8) (hnl : nl ≤ 3) (hv : ∀ j, j < 4 → v j = r' (82 + 4 * i + j)) (hr : ∀ j, j < 82 + 4 * i ∨ 82 + 4 * i + 4 ≤ j → r' j = r j) : (sw g A nb nl nc r b suf).set (nb + i + 8) (lgC (A (20 + i)) v) = sw g A nb nl nc r' b suf := by
  have h : (sw g A nb nl nc r b suf).set (nb + i + 8) (lgC (A (20 + i)) v) = hdW g A nb nl nc r b ((tlW A nb nl nc r suf).set (nb + i) (lgC (A (20 + i)) v)) := rfl
  rw [h, tlW_setG hi hnb hnl hv hr, hdW_congr (r' := r') (fun j hj => (hr j (by omega)).symm)]; rfl
theorem sw_setC (hi : i < nc) (hnb : nb ≤ 8) (hnl : nl ≤ 3) (hv : ∀ j, j < 6 → j ≠ 4 → v j = r' (94 + 6 * i + j)) (hr : ∀ j, j < 94 + 6 * i ∨ 94 + 6 * i + 6 ≤ j → r' j = r j) : (sw g A nb nl nc r b suf).set (nb + nl + i + 8) (cnC (A (30 + i)) v) = sw g A nb nl nc r' b suf := by
  have h : (sw g A nb nl nc r b suf).set (nb + nl + i + 8) (cnC (A (30 + i)) v) = hdW g A nb nl nc r b ((tlW A nb nl nc r suf).set (nb + nl + i) (cnC (A (30 + i)) v)) := rfl
  rw [h, tlW_setC hi hnb hnl hv hr, hdW_congr (r' := r') (fun j hj => (hr j (by omega)).symm)]; rfl
theorem sw_clock (x : Int32) : (sw g A nb nl nc r b suf).set 0 (A 0, .inr (1, (stF A r b).set 4 (.int x))) = sw g A nb nl nc (upd r 0 x) b suf := by
  unfold sw; rw [tlW_lo (by decide)]; unfold hdW; rw [prF_congr (r := upd r 0 x) (r' := r) (fun j h1 h2 => pk_un (by omega))]; rfl
theorem sw_limit (x : Int32) : (sw g A nb nl nc r b suf).set 0 (A 0, .inr (1, (stF A r b).set 5 (.int x))) = sw g A nb nl nc (upd r 1 x) b suf := by
  unfold sw; rw [tlW_lo (by decide)]; unfold hdW; rw [prF_congr (r := upd r 1 x) (r' := r) (fun j h1 h2 => pk_un (by omega))]; rfl
theorem sw_reason (x : Int32) : (sw g A nb nl nc r b suf).set 0 (A 0, .inr (1, (stF A r b).set 6 (.int x))) = sw g A nb nl nc (upd r 5 x) b suf := by
  unfold sw; rw [tlW_lo (by decide)]; unfold hdW; rw [prF_congr (r := upd r 5 x) (r' := r) (fun j h1 h2 => pk_un (by omega))]; rfl
theorem sw_b0 {z : Int32} (x : Int64) (h : z = x.toInt32) : (sw g A nb nl nc r b suf).set 0 (A 0, .inr (1, (stF A r b).set 7 (.int z))) = sw g A nb nl nc r (vp_updL b 0 x) suf := by subst h; rfl
theorem sw_b1 {z : Int32} (x : Int64) (h : z = x.toInt32) : (sw g A nb nl nc r b suf).set 0 (A 0, .inr (1, (stF A r b).set 8 (.int z))) = sw g A nb nl nc r (vp_updL b 1 x) suf := by subst h; rfl
theorem sw_b2 {z : Int32} (x : Int64) (h : z = x.toInt32) : (sw g A nb nl nc r b suf).set 0 (A 0, .inr (1, (stF A r b).set 9 (.int z))) = sw g A nb nl nc r (vp_updL b 2 x) suf := by subst h; rfl
theorem sw_b3 (x : Int64) : (sw g A nb nl nc r b suf).set 0 (A 0, .inr (1, (stF A r b).set 10 (.long x))) = sw g A nb nl nc r (vp_updL b 3 x) suf := rfl
theorem sw_b4 (x : Int64) : (sw g A nb nl nc r b suf).set 0 (A 0, .inr (1, (stF A r b).set 11 (.long x))) = sw g A nb nl nc r (vp_updL b 4 x) suf := rfl
theorem sw_b5 (x : Int64) : (sw g A nb nl nc r b suf).set 0 (A 0, .inr (1, (stF A r b).set 12 (.long x))) = sw g A nb nl nc r (vp_updL b 5 x) suf := rfl
theorem sw_price {k : Nat} (hk : k < 4) (x : Int32) : (sw g A nb nl nc r b suf).set 7 (A 7, .inl (g.2 0, 4, .inl (upd (prF r) k x))) = sw g A nb nl nc (upd r (6 + k) x) b suf := by
  rw [prF_upd r hk]; unfold sw; rw [tlW_lo (by omega)]; unfold hdW stF; rw [pk_un (f := r) (show 0 ≠ 6 + k by omega), pk_un (f := r) (show 1 ≠ 6 + k by omega), pk_un (f := r) (show 5 ≠ 6 + k by omega)]; rfl
end SW
/-- one bin's field -/
theorem bv_upd {r : Nat → Int32} {i k : Nat} {x : Int32} (hk : k < 9) : ∀ j, j < 9 → upd (bv r i) k x j = upd r (10 + 9 * i + k) x (10 + 9 * i + j) := by
  intro j _
  unfold upd
  by_cases q : j = k
  · rw [if_pos q, if_pos (by omega)]
  · rw [if_neg q, if_neg (by omega)]
/-- a bin's block put into a row -/
def pb (r : Nat → Int32) (i : Nat) (v : Nat → Int32) : Nat → Int32 := fun j => if 10 + 9 * i ≤ j ∧ j < 10 + 9 * i + 9 then v (j - (10 + 9 * i)) else r j
theorem pb_in {r : Nat → Int32} {i : Nat} {v : Nat → Int32} : ∀ j, j < 9 → v j = pb r i v (10 + 9 * i + j) := by
  intro j hj; unfold pb; rw [if_pos (by omega), Nat.add_sub_cancel_left]
theorem pb_out {r : Nat → Int32} {i : Nat} {v : Nat → Int32} : ∀ j, j < 10 + 9 * i ∨ 10 + 9 * i + 9 ≤ j → pb r i v j = r j := by
  intro j hj; unfold pb; rw [if_neg (by omega)]
def pg4 (r : Nat → Int32) (i : Nat) (v : Nat → Int32) : Nat → Int32 := fun j => if 82 + 4 * i ≤ j ∧ j < 82 + 4 * i + 4 then v (j - (82 + 4 * i)) else r j
theorem pg_in {r : Nat → Int32} {i : Nat} {v : Nat → Int32} : ∀ j, j < 4 → v j = pg4 r i v (82 + 4 * i + j) := by
  intro j hj; unfold pg4; rw [if_pos (by omega), Nat.add_sub_cancel_left]
theorem pg_out {r : Nat → Int32} {i : Nat} {v : Nat → Int32} : ∀ j, j < 82 + 4 * i ∨ 82 + 4 * i + 4 ≤ j → pg4 r i v j = r j := by
  intro j hj; unfold pg4; rw [if_neg (by omega)]
