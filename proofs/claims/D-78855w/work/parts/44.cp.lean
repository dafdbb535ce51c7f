/-! copying a State: its world while it is built -/
set_option maxRecDepth 100000
def hyb (r : Nat → Int32) : Nat → Int32 := fun j => if j < 10 then prI 4 j else r j
theorem hyb_hi {r : Nat → Int32} {j : Nat} (h : 10 ≤ j) : hyb r j = r j := if_neg (by omega)
theorem hyb_lo {r : Nat → Int32} {j : Nat} (h : j < 10) : hyb r j = prI 4 j := if_pos h
def adr (A : Nat → Nat) (o x : Nat) : Nat → Nat := fun t => if t = o then x else A t
theorem adr_at (A : Nat → Nat) (o x : Nat) : adr A o x o = x := if_pos rfl
theorem adr_ne (A : Nat → Nat) {o x t : Nat} (h : t ≠ o) : adr A o x t = A t := if_neg h
/-- the old State's head, the new one's, the old one's tail, the new one's -/
def zW (g : GT) (A : Nat → Nat) (nb nl nc : Nat) (r : Nat → Int32) (b : Nat → Int64) (B : Nat → Nat) (i j k : Nat) (ρ : Nat → Int32) (β : Nat → Int64) (suf : va_W) : va_W :=
  hdW g A nb nl nc r b (hdW g B i j k ρ β (tlW A nb nl nc r (tlW B i j k ρ suf)))
theorem hdW_app (g : GT) (A : Nat → Nat) (nb nl nc : Nat) (r : Nat → Int32) (b : Nat → Int64) (X : va_W) : hdW g A nb nl nc r b X = hdW g A nb nl nc r b [] ++ X := rfl
theorem perm_ins {α : Type} (x : α) (L M U : List α) : (x :: (L ++ (M ++ U))).Perm (L ++ ((M ++ [x]) ++ U)) := by
  have e : L ++ ((M ++ [x]) ++ U) = (L ++ M) ++ x :: U := by simp
  have e2 : L ++ (M ++ U) = (L ++ M) ++ U := by simp
  rw [e, e2]
  exact List.perm_middle.symm
theorem perm_add {α : Type} (x : α) (P al S : List α) : (x :: (P ++ (al ++ S))).Perm ((al ++ [x]) ++ (P ++ S)) := by
  have e : (al ++ [x]) ++ (P ++ S) = al ++ x :: (P ++ S) := by simp
  rw [e]
  exact ((perm_mid P al S).cons x).trans List.perm_middle.symm
theorem hdW_adr {g : GT} {B B' : Nat → Nat} {i j k : Nat} {ρ : Nat → Int32} {β : Nat → Int64} {X : va_W} (h0 : ∀ t, t < 8 → B' t = B t) (h1 : rfs B' 10 i = rfs B 10 i) (h2 : rfs B' 20 j = rfs B 20 j) (h3 : rfs B' 30 k = rfs B 30 k) : hdW g B' i j k ρ β X = hdW g B i j k ρ β X := by
  unfold hdW stF
  rw [h0 0 (by decide), h0 1 (by decide), h0 2 (by decide), h0 3 (by decide), h0 4 (by decide), h0 5 (by decide), h0 6 (by decide), h0 7 (by decide), h1, h2, h3]
theorem rfs_congr {B B' : Nat → Nat} {o n : Nat} (h : ∀ i, i < n → B' (o + i) = B (o + i)) : rfs B' o n = rfs B o n := by
  funext i; unfold rfs
  by_cases q : i < n
  · rw [if_pos q, if_pos q, h i q]
  · rw [if_neg q, if_neg q]
theorem sw_z {g : GT} {A : Nat → Nat} {nb nl nc : Nat} {r : Nat → Int32} {b : Nat → Int64} {B : Nat → Nat} {β : Nat → Int64} {suf : va_W} : (sw g B 0 0 0 (prI 4) β [] ++ sw g A nb nl nc r b suf).Perm (zW g A nb nl nc r b B 0 0 0 (hyb r) β suf) := by
  have e : sw g B 0 0 0 (prI 4) β [] = hdW g B 0 0 0 (hyb r) β [] := by
    unfold sw
    rw [hdW_congr (r := prI 4) (r' := hyb r) (fun j hj => (hyb_lo hj).symm)]
    rfl
  rw [e]
  unfold zW sw
  rw [tlW_suf A nb nl nc r suf]
  have e1 : tlW A nb nl nc r (tlW B 0 0 0 (hyb r) suf) = tlW A nb nl nc r [] ++ suf := by rw [tlW_suf]; rfl
  rw [e1, hdW_app g A, hdW_app g A nb nl nc r b (hdW g B 0 0 0 (hyb r) β (tlW A nb nl nc r [] ++ suf)), hdW_app g B 0 0 0 (hyb r) β (tlW A nb nl nc r [] ++ suf)]
  exact perm_mid _ _ _
theorem z_sw {g : GT} {A : Nat → Nat} {nb nl nc : Nat} {r : Nat → Int32} {b : Nat → Int64} {B : Nat → Nat} {i j k : Nat} {ρ : Nat → Int32} {β : Nat → Int64} {suf : va_W} : (zW g A nb nl nc r b B i j k ρ β suf).Perm (sw g B i j k ρ β (sw g A nb nl nc r b suf)) := by
  have e : sw g B i j k ρ β (sw g A nb nl nc r b suf) = (hdW g B i j k ρ β [] ++ tlW B i j k ρ []) ++ (hdW g A nb nl nc r b [] ++ (tlW A nb nl nc r [] ++ suf)) := by
    rw [sw_suf]; unfold sw
    rw [hdW_app g B, hdW_app g A, tlW_suf A]
  have e2 : zW g A nb nl nc r b B i j k ρ β suf = hdW g A nb nl nc r b [] ++ (hdW g B i j k ρ β [] ++ (tlW A nb nl nc r [] ++ (tlW B i j k ρ [] ++ suf))) := by
    unfold zW
    rw [hdW_app g A, hdW_app g B, tlW_suf A, tlW_suf B]
  rw [e, e2, List.append_assoc]
  refine (perm_mid _ _ _).trans (List.Perm.append_left _ ?_)
  have h1 : (hdW g A nb nl nc r b [] ++ (tlW A nb nl nc r [] ++ (tlW B i j k ρ [] ++ suf))).Perm (tlW B i j k ρ [] ++ (hdW g A nb nl nc r b [] ++ (tlW A nb nl nc r [] ++ suf))) := by
    have e3 : hdW g A nb nl nc r b [] ++ (tlW A nb nl nc r [] ++ (tlW B i j k ρ [] ++ suf)) = (hdW g A nb nl nc r b [] ++ tlW A nb nl nc r []) ++ (tlW B i j k ρ [] ++ suf) := by simp
    have e4 : tlW B i j k ρ [] ++ (hdW g A nb nl nc r b [] ++ (tlW A nb nl nc r [] ++ suf)) = tlW B i j k ρ [] ++ ((hdW g A nb nl nc r b [] ++ tlW A nb nl nc r []) ++ suf) := by simp
    rw [e3, e4]
    exact perm_mid _ _ _
  exact h1
section VWA
variable {p : Program} {l : Launch} {e : Env} {R : Room} {s : State} {m : MethodId} {args : Array Value} {below : List Frame} {meth : Method} {c : Code} {g : GT} {A : Nat → Prop} {nL cells slots : Nat} {Q : State → Prop} {pc : Nat} {lv : List (Nat × Value)} {st : List Value} {ws : va_W}
/-- a loop that makes cells -/
theorem v_whileA {α : Type} (μ : α → Nat) (cf sf : α → Nat) (Iv : α → Prop) (L : α → List (Nat × Value)) (Wd : α → va_W) (x0 : α) (hc : cells = cf x0) (hs0 : slots = sf x0) (h0 : L x0 = lv) (h1 : Wd x0 = ws) (hi : Iv x0)
    (hs : ∀ x, Iv x → (∀ z, Iv z → μ z < μ x → V p l e R s m args below meth c g A nL (cf z) (sf z) Q pc (L z) st (Wd z)) → V p l e R s m args below meth c g A nL (cf x) (sf x) Q pc (L x) st (Wd x)) :
    V p l e R s m args below meth c g A nL cells slots Q pc lv st ws := by
  subst h0; subst h1; subst hc; subst hs0
  exact loop_ms (Hd := fun x => Iv x → V p l e R s m args below meth c g A nL (cf x) (sf x) Q pc (L x) st (Wd x)) μ (fun x ih hx => hs x hx (fun z hz hm => ih z hm hz)) x0 hi
theorem roomN {M : Md} (h1 : (Nat.ble (M.2.2.2.2.1 + 1) R.frames && Nat.ble (8 + (M.2.2.1 + 11) + M.2.2.2.2.2.1) R.locals) = true) (h2 : cells + M.2.2.2.2.2.2.1 ≤ R.cells) (h3 : slots + M.2.2.2.2.2.2.2 ≤ R.slots) : roomOk M R cells slots := by
  simp only [Bool.and_eq_true] at h1
  exact ⟨⟨Nat.le_of_ble_eq_true h1.1, Nat.le_of_ble_eq_true h1.2⟩, h2, h3⟩
end VWA
