/-! State(State) -/
set_option maxRecDepth 100000
section VCP
variable {p : Program} {l : Launch} {e : Env} {R : Room} {s : State} {m : MethodId} {args : Array Value} {below : List Frame} {meth : Method} {c : Code} {g : GT} {A : Nat → Prop} {nL cells slots : Nat} {Q : State → Prop} {y : MethodName} {cc : ByteArray} {ret : Option FieldType} {pc : Nat} {lv : List (Nat × Value)} {st : List Value} {ws : va_W}
variable {M : Md} {Z : va_W} {x x' : Nat × va_E} {cl : Nat × va_E} {As st0 : List Value} {index b n : Nat}
theorem v_callCp (C : Cx p s m args meth c g A y cc nL ret) (hM : CtE l g M (.ref b :: As) [x, cl] none [x', cl]) (ok : MOKi M n) (hn : As.length = n) (hlk : Cond.methodLink y.cls index M.1 ∈ lw_all) (hst : st0 = As.reverse ++ .ref b :: st) (h8 : (st.map fun v => v.category).sum ≤ 8) (d : decode cc pc = .ok (.invokespecial index, 3)) (hR : roomOk M R cells slots) (hz : M.2.2.2.2.2.2.1 = 0 ∧ M.2.2.2.2.2.2.2 = 0) (q0 : Nat) (he : Z[q0]? = some cl)
    (k : V p l e R s m args below meth c g A nL cells slots Q (pc + 3) lv st (x' :: Z)) : V p l e R s m args below meth c g A nL cells slots Q pc lv st0 (x :: Z) :=
  v_callI C hM ok hn hlk hst h8 d hR ((perm_at he).cons x) (fun rv w h => by
    obtain ⟨rfl, rfl⟩ := h
    rw [hz.1, hz.2]
    exact v_perm ((perm_at he).cons x').symm k)
end VCP
theorem z_fin {g : GT} {B : Nat → Nat} {nb nl nc : Nat} {r : Nat → Int32} {b : Nat → Int64} {X : va_W} : sw g B nb nl nc (upd (upd (upd (cpP r (hyb r)) 0 (r 0)) 1 (r 1)) 5 (r 5)) (vp_updL (vp_updL (vp_updL (vp_updL (vp_updL (vp_updL (fun _ => 0) 0 (b 0)) 1 (b 1)) 2 (b 2)) 3 (b 3)) 4 (b 4)) 5 (b 5)) X = sw g B nb nl nc r b X := by
  have hr : ∀ t, 6 ≤ t → upd (upd (upd (cpP r (hyb r)) 0 (r 0)) 1 (r 1)) 5 (r 5) t = r t := by
    intro t ht
    rw [pk_un (by omega), pk_un (by omega), pk_un (by omega)]
    unfold cpP
    by_cases q : t < 10
    · rw [if_pos ⟨ht, q⟩]
    · rw [if_neg (by omega), hyb_hi (by omega)]
  unfold sw
  rw [hdW_congr2 (r := upd (upd (upd (cpP r (hyb r)) 0 (r 0)) 1 (r 1)) 5 (r 5)) (r' := r) (b := vp_updL (vp_updL (vp_updL (vp_updL (vp_updL (vp_updL (fun _ => 0) 0 (b 0)) 1 (b 1)) 2 (b 2)) 3 (b 3)) 4 (b 4)) 5 (b 5)) (b' := b) rfl rfl rfl (fun t h1 _ => hr t h1) (fun t ht => by
    match t, ht with
    | 0, _ => rfl
    | 1, _ => rfl
    | 2, _ => rfl
    | 3, _ => rfl
    | 4, _ => rfl
    | 5, _ => rfl), tlW_congr (r := upd (upd (upd (cpP r (hyb r)) 0 (r 0)) 1 (r 1)) 5 (r 5)) (r' := r) (fun _ _ _ _ => hr _ (by omega)) (fun _ _ _ _ => hr _ (by omega)) (fun _ _ _ _ => hr _ (by omega))]
def M_X1_init_2 : Md := (yX1_init_2, cX1_init_2, 3, none, 5, 121, 24, 151)
theorem ok_X1_init_2 : MOKi M_X1_init_2 1 := ⟨q584, q90, q585, ⟨rfl, rfl⟩, ⟨by decide +kernel, by decide +kernel, by decide +kernel⟩⟩
set_option maxHeartbeats 4000000 in
theorem x_scopy (l : Launch) (g : GT) (q : Nat) (A : Nat → Nat) (nb nl nc : Nat) (r : Nat → Int32) (b : Nat → Int64) (suf : va_W) (hnb : nb ≤ 8) (hnl : nl ≤ 3) (hnc : nc ≤ 6) : Ct l g M_X1_init_2 [.ref q, .ref (A 0)] ((q, .inr (1, [.null, .null, .null, .null, .int 0, .int 0, .int 0, .int 0, .int 0, .int 0, .long 0, .long 0, .long 0])) :: sw g A nb nl nc r b suf) (fun rv w => rv = none ∧ ∃ B : Nat → Nat, B 0 = q ∧ w.Perm (sw g B nb nl nc r b (sw g A nb nl nc r b suf))) := by
  refine Ct.start2 (M := M_X1_init_2) rfl [(0, .ref q), (1, .ref (A 0))] rfl (by decide +kernel) (Nat.le_of_ble_eq_true rfl) ?_
  intro p e s m args below meth c A9 C
  refine v_aload_n C dX1_init_2_0 0 rfl ?_
  refine v_callI (wr := sw g A nb nl nc r b suf) C (x_sinit l g q) ok_X1_init rfl q586 rfl (Nat.le_of_ble_eq_true rfl) dX1_init_2_1 (roomL rfl rfl) (List.Perm.refl _) ?_
  rintro _ _ ⟨rfl, B0, hB, rfl⟩
  refine v_perm (ws' := zW g A nb nl nc r b B0 0 0 0 (hyb r) (fun _ => 0) suf) sw_z ?_
  refine v_st (st' := []) rfl ?_
  refine v_iconst (v := 0) C dX1_init_2_4 (by decide) ?_
  refine v_istore_n (lv' := [(2, _), (0, _), (1, _)]) C dX1_init_2_5 rfl (by decide) rfl ?_
  refine v_whileA (α := Nat × (Nat → Nat)) (fun x => nb - x.1) (fun x => 7 + x.1) (fun x => 37 + 9 * x.1) (fun x => x.1 ≤ nb ∧ x.2 0 = q) (fun x => [(2, .int (nI x.1)), (0, .ref (x.2 0)), (1, .ref (A 0))]) (fun x => zW g A nb nl nc r b x.2 x.1 0 0 (hyb r) (fun _ => 0) suf) (0, B0) rfl rfl (by dsimp only; rw [hB]; rfl) rfl ⟨Nat.zero_le _, hB⟩ ?_
  rintro ⟨k0, B1⟩ ⟨hk1, hB⟩ ih
  dsimp only at hk1 hB ih ⊢
  refine v_iload_n C dX1_init_2_6 0 rfl ?_
  refine v_aload_n C dX1_init_2_7 2 rfl ?_
  refine v_get C in_X1 rfl 0 rfl 0 (by decide) q154 (fun _ h => h) rfl dX1_init_2_8 ?_
  refine v_zMV (ws' := (zW g A nb nl nc r b B1 k0 0 0 (hyb r) (fun _ => 0) suf)) C (j_size l g (A 1) (A 2) 8 (nI nb) nb (rfs A 10 nb)) [_] rfl ok_J2_size rfl q341 rfl (Nat.le_of_ble_eq_true rfl) 0 rfl rfl rfl dX1_init_2_11 (roomN rfl (show 7 + k0 + 0 ≤ 24 by omega) (show 37 + 9 * k0 + 0 ≤ 151 by omega)) ⟨rfl, rfl⟩ rfl ?_
  refine v_icmp_ge C 49 dX1_init_2_14 (by decide) (fun c14_1 => ?_) (fun c14_1 => ?_)
  · skip
    have hkn : nb = k0 := by have := (nI_leI (by omega) (by omega)).mp c14_1; omega
    clear ih
    subst hkn
    refine v_iconst (v := 0) C dX1_init_2_49 (by decide) ?_
    refine v_istore_n (lv' := [(2, _), (0, _), (1, _)]) C dX1_init_2_50 rfl (by decide) rfl ?_
    refine v_whileA (α := Nat × (Nat → Nat)) (fun x => nl - x.1) (fun x => 7 + nb + x.1) (fun x => 37 + 9 * nb + 4 * x.1) (fun x => x.1 ≤ nl ∧ x.2 0 = q) (fun x => [(2, .int (nI x.1)), (0, .ref (x.2 0)), (1, .ref (A 0))]) (fun x => zW g A nb nl nc r b x.2 nb x.1 0 (hyb r) (fun _ => 0) suf) (0, B1) rfl rfl rfl rfl ⟨Nat.zero_le _, hB⟩ ?_
    rintro ⟨k0, B2⟩ ⟨hk1, hB⟩ ih
    dsimp only at hk1 hB ih ⊢
    refine v_iload_n C dX1_init_2_51 0 rfl ?_
    refine v_aload_n C dX1_init_2_52 2 rfl ?_
    refine v_get C in_X1 rfl 0 rfl 1 (by decide) q156 (fun _ h => h) rfl dX1_init_2_53 ?_
    refine v_zMV (ws' := (zW g A nb nl nc r b B2 nb k0 0 (hyb r) (fun _ => 0) suf)) C (j_size l g (A 3) (A 4) 3 (nI nl) nl (rfs A 20 nl)) [_, _, _] rfl ok_J2_size rfl q341 rfl (Nat.le_of_ble_eq_true rfl) 0 rfl rfl rfl dX1_init_2_56 (roomN rfl (show 7 + nb + k0 + 0 ≤ 24 by omega) (show 37 + 9 * nb + 4 * k0 + 0 ≤ 151 by omega)) ⟨rfl, rfl⟩ rfl ?_
    refine v_icmp_ge C 94 dX1_init_2_59 (by decide) (fun c59_2 => ?_) (fun c59_2 => ?_)
    · skip
      have hkn : nl = k0 := by have := (nI_leI (by omega) (by omega)).mp c59_2; omega
      clear ih
      subst hkn
      refine v_iconst (v := 0) C dX1_init_2_94 (by decide) ?_
      refine v_istore_n (lv' := [(2, _), (0, _), (1, _)]) C dX1_init_2_95 rfl (by decide) rfl ?_
      refine v_whileA (α := Nat × (Nat → Nat)) (fun x => nc - x.1) (fun x => 7 + nb + nl + x.1) (fun x => 37 + 9 * nb + 4 * nl + 5 * x.1) (fun x => x.1 ≤ nc ∧ x.2 0 = q) (fun x => [(2, .int (nI x.1)), (0, .ref (x.2 0)), (1, .ref (A 0))]) (fun x => zW g A nb nl nc r b x.2 nb nl x.1 (hyb r) (fun _ => 0) suf) (0, B2) rfl rfl rfl rfl ⟨Nat.zero_le _, hB⟩ ?_
      rintro ⟨k0, B3⟩ ⟨hk1, hB⟩ ih
      dsimp only at hk1 hB ih ⊢
      refine v_iload_n C dX1_init_2_96 0 rfl ?_
      refine v_aload_n C dX1_init_2_97 2 rfl ?_
      refine v_get C in_X1 rfl 0 rfl 2 (by decide) q158 (fun _ h => h) rfl dX1_init_2_98 ?_
      refine v_zMV (ws' := (zW g A nb nl nc r b B3 nb nl k0 (hyb r) (fun _ => 0) suf)) C (j_size l g (A 5) (A 6) 6 (nI nc) nc (rfs A 30 nc)) [_, _, _, _, _] rfl ok_J2_size rfl q341 rfl (Nat.le_of_ble_eq_true rfl) 0 rfl rfl rfl dX1_init_2_101 (roomN rfl (show 7 + nb + nl + k0 + 0 ≤ 24 by omega) (show 37 + 9 * nb + 4 * nl + 5 * k0 + 0 ≤ 151 by omega)) ⟨rfl, rfl⟩ rfl ?_
      refine v_icmp_ge C 139 dX1_init_2_104 (by decide) (fun c104_3 => ?_) (fun c104_3 => ?_)
      · skip
        have hkn : nc = k0 := by have := (nI_leI (by omega) (by omega)).mp c104_3; omega
        clear ih
        subst hkn
        refine v_aload_n C dX1_init_2_139 2 rfl ?_
        refine v_get C in_X1 rfl 0 rfl 3 (by decide) q160 (fun _ h => h) rfl dX1_init_2_140 ?_
        refine v_iconst (v := 0) C dX1_init_2_143 (by decide) ?_
        refine v_aload_n C dX1_init_2_144 1 rfl ?_
        refine v_get C in_X1 rfl 8 rfl 3 (by decide) q160 (fun _ h => h) rfl dX1_init_2_145 ?_
        refine v_iconst (v := 0) C dX1_init_2_148 (by decide) ?_
        refine v_iconst (v := 4) C dX1_init_2_149 (by decide) ?_
        refine v_copyI (ws' := (zW g A nb nl nc r b B3 nb nl nc (cpP r (hyb r)) (fun _ => 0) suf)) C q722 q581 q580 q105 7 15 rfl rfl (by decide) (by decide) (by decide) (by decide) (by decide) (Nat.le_of_ble_eq_true rfl) (Nat.le_of_ble_eq_true rfl) dX1_init_2_150 zW_prices ?_
        refine v_aload_n C dX1_init_2_153 1 rfl ?_
        refine v_aload_n C dX1_init_2_154 2 rfl ?_
        refine v_get C in_X1 rfl 0 rfl 4 (by decide) q162 (fun _ h => h) rfl dX1_init_2_155 ?_
        refine v_put (ws' := (zW g A nb nl nc r b B3 nb nl nc (upd (cpP r (hyb r)) 0 (r 0)) (fun _ => 0) suf)) C in_X1 tyX1 tyX1_ok nmX1 rfl 8 rfl 4 (by decide) q162 (fun _ h => h) rfl rfl rfl (Nat.le_of_ble_eq_true rfl) dX1_init_2_158 (zW_clock _) ?_
        refine v_aload_n C dX1_init_2_161 1 rfl ?_
        refine v_aload_n C dX1_init_2_162 2 rfl ?_
        refine v_get C in_X1 rfl 0 rfl 5 (by decide) q164 (fun _ h => h) rfl dX1_init_2_163 ?_
        refine v_put (ws' := (zW g A nb nl nc r b B3 nb nl nc (upd (upd (cpP r (hyb r)) 0 (r 0)) 1 (r 1)) (fun _ => 0) suf)) C in_X1 tyX1 tyX1_ok nmX1 rfl 8 rfl 5 (by decide) q164 (fun _ h => h) rfl rfl rfl (Nat.le_of_ble_eq_true rfl) dX1_init_2_166 (zW_limit _) ?_
        refine v_aload_n C dX1_init_2_169 1 rfl ?_
        refine v_aload_n C dX1_init_2_170 2 rfl ?_
        refine v_get C in_X1 rfl 0 rfl 6 (by decide) q166 (fun _ h => h) rfl dX1_init_2_171 ?_
        refine v_put (ws' := (zW g A nb nl nc r b B3 nb nl nc (upd (upd (upd (cpP r (hyb r)) 0 (r 0)) 1 (r 1)) 5 (r 5)) (fun _ => 0) suf)) C in_X1 tyX1 tyX1_ok nmX1 rfl 8 rfl 6 (by decide) q166 (fun _ h => h) rfl rfl rfl (Nat.le_of_ble_eq_true rfl) dX1_init_2_174 (zW_reason _) ?_
        refine v_aload_n C dX1_init_2_177 1 rfl ?_
        refine v_aload_n C dX1_init_2_178 2 rfl ?_
        refine v_get C in_X1 rfl 0 rfl 7 (by decide) q168 (fun _ h => h) rfl dX1_init_2_179 ?_
        refine v_put (ws' := (zW g A nb nl nc r b B3 nb nl nc (upd (upd (upd (cpP r (hyb r)) 0 (r 0)) 1 (r 1)) 5 (r 5)) (vp_updL (fun _ => 0) 0 (b 0)) suf)) C in_X1 tyX1 tyX1_ok nmX1 rfl 8 rfl 7 (by decide) q168 (fun _ h => h) rfl rfl rfl (Nat.le_of_ble_eq_true rfl) dX1_init_2_182 (zW_b0 (b 0) rfl) ?_
        refine v_aload_n C dX1_init_2_185 1 rfl ?_
        refine v_aload_n C dX1_init_2_186 2 rfl ?_
        refine v_get C in_X1 rfl 0 rfl 8 (by decide) q170 (fun _ h => h) rfl dX1_init_2_187 ?_
        refine v_put (ws' := (zW g A nb nl nc r b B3 nb nl nc (upd (upd (upd (cpP r (hyb r)) 0 (r 0)) 1 (r 1)) 5 (r 5)) (vp_updL (vp_updL (fun _ => 0) 0 (b 0)) 1 (b 1)) suf)) C in_X1 tyX1 tyX1_ok nmX1 rfl 8 rfl 8 (by decide) q170 (fun _ h => h) rfl rfl rfl (Nat.le_of_ble_eq_true rfl) dX1_init_2_190 (zW_b1 (b 1) rfl) ?_
        refine v_aload_n C dX1_init_2_193 1 rfl ?_
        refine v_aload_n C dX1_init_2_194 2 rfl ?_
        refine v_get C in_X1 rfl 0 rfl 9 (by decide) q172 (fun _ h => h) rfl dX1_init_2_195 ?_
        refine v_put (ws' := (zW g A nb nl nc r b B3 nb nl nc (upd (upd (upd (cpP r (hyb r)) 0 (r 0)) 1 (r 1)) 5 (r 5)) (vp_updL (vp_updL (vp_updL (fun _ => 0) 0 (b 0)) 1 (b 1)) 2 (b 2)) suf)) C in_X1 tyX1 tyX1_ok nmX1 rfl 8 rfl 9 (by decide) q172 (fun _ h => h) rfl rfl rfl (Nat.le_of_ble_eq_true rfl) dX1_init_2_198 (zW_b2 (b 2) rfl) ?_
        refine v_aload_n C dX1_init_2_201 1 rfl ?_
        refine v_aload_n C dX1_init_2_202 2 rfl ?_
        refine v_get C in_X1 rfl 0 rfl 10 (by decide) q174 (fun _ h => h) rfl dX1_init_2_203 ?_
        refine v_put (ws' := (zW g A nb nl nc r b B3 nb nl nc (upd (upd (upd (cpP r (hyb r)) 0 (r 0)) 1 (r 1)) 5 (r 5)) (vp_updL (vp_updL (vp_updL (vp_updL (fun _ => 0) 0 (b 0)) 1 (b 1)) 2 (b 2)) 3 (b 3)) suf)) C in_X1 tyX1 tyX1_ok nmX1 rfl 8 rfl 10 (by decide) q174 (fun _ h => h) rfl rfl rfl (Nat.le_of_ble_eq_true rfl) dX1_init_2_206 (zW_b3 _) ?_
        refine v_aload_n C dX1_init_2_209 1 rfl ?_
        refine v_aload_n C dX1_init_2_210 2 rfl ?_
        refine v_get C in_X1 rfl 0 rfl 11 (by decide) q176 (fun _ h => h) rfl dX1_init_2_211 ?_
        refine v_put (ws' := (zW g A nb nl nc r b B3 nb nl nc (upd (upd (upd (cpP r (hyb r)) 0 (r 0)) 1 (r 1)) 5 (r 5)) (vp_updL (vp_updL (vp_updL (vp_updL (vp_updL (fun _ => 0) 0 (b 0)) 1 (b 1)) 2 (b 2)) 3 (b 3)) 4 (b 4)) suf)) C in_X1 tyX1 tyX1_ok nmX1 rfl 8 rfl 11 (by decide) q176 (fun _ h => h) rfl rfl rfl (Nat.le_of_ble_eq_true rfl) dX1_init_2_214 (zW_b4 _) ?_
        refine v_aload_n C dX1_init_2_217 1 rfl ?_
        refine v_aload_n C dX1_init_2_218 2 rfl ?_
        refine v_get C in_X1 rfl 0 rfl 12 (by decide) q178 (fun _ h => h) rfl dX1_init_2_219 ?_
        refine v_put (ws' := (zW g A nb nl nc r b B3 nb nl nc (upd (upd (upd (cpP r (hyb r)) 0 (r 0)) 1 (r 1)) 5 (r 5)) (vp_updL (vp_updL (vp_updL (vp_updL (vp_updL (vp_updL (fun _ => 0) 0 (b 0)) 1 (b 1)) 2 (b 2)) 3 (b 3)) 4 (b 4)) 5 (b 5)) suf)) C in_X1 tyX1 tyX1_ok nmX1 rfl 8 rfl 12 (by decide) q178 (fun _ h => h) rfl rfl rfl (Nat.le_of_ble_eq_true rfl) dX1_init_2_222 (zW_b5 _) ?_
        exact v_vret C dX1_init_2_225 (show 7 + nb + nl + nc ≤ 24 by omega) (show 37 + 9 * nb + 4 * nl + 5 * nc ≤ 151 by omega) ⟨rfl, B3, hB, z_sw.trans (by rw [z_fin])⟩
      · skip
        have hk : k0 < nc := Nat.lt_of_le_of_ne hk1 (fun q9 => c104_3 (by rw [q9]; exact Int32.le_refl _))
        refine v_aload_n C dX1_init_2_107 1 rfl ?_
        refine v_get C in_X1 rfl 8 rfl 2 (by decide) q158 (fun _ h => h) rfl dX1_init_2_108 ?_
        refine v_new (ci := 6) (fs := [.int 0, .int 0, .int 0, .int 0, .int 0]) C in_X6 tyX6 tyX6_ok q692 q693 q109 rfl (by decide +kernel) (show 7 + nb + nl + k0 + 1 ≤ 24 by omega) (show 37 + 9 * nb + 4 * nl + 5 * k0 + 5 ≤ 151 by omega) dX1_init_2_111 (fun q111 => ?_)
        refine v_perm (ws' := (q111, .inr (6, [.int 0, .int 0, .int 0, .int 0, .int 0])) :: (zW g A nb nl nc r b B3 nb nl k0 (hyb r) (fun _ => 0) suf)) (List.perm_append_comm (l₂ := [_])) ?_
        refine v_dup C dX1_init_2_114 rfl ?_
        refine v_aload_n C dX1_init_2_115 2 rfl ?_
        refine v_get C in_X1 rfl 1 rfl 2 (by decide) q158 (fun _ h => h) rfl dX1_init_2_116 ?_
        refine v_iload_n C dX1_init_2_119 0 rfl ?_
        refine v_zMV (ws' := ((_, .inr (_, _)) :: (zW g A nb nl nc r b B3 nb nl k0 (hyb r) (fun _ => 0) suf))) C (j_get l g (A 5) (A 6) 6 (nI nc) nc (rfs A 30 nc) k0 (A (30 + k0)) hk hnc (by decide) (rfs_at A 30 hk)) [_, _, _, _, _, _] rfl ok_J2_get rfl q286 rfl (Nat.le_of_ble_eq_true rfl) 0 rfl rfl rfl dX1_init_2_120 (roomN rfl (show 7 + nb + nl + k0 + 1 + 0 ≤ 24 by omega) (show 37 + 9 * nb + 4 * nl + 5 * k0 + 5 + 0 ≤ 151 by omega)) ⟨rfl, rfl⟩ rfl ?_
        refine v_castS (r := (RX6, TX6, 5)) C q692 (nb + nl + k0 + 17) (tlW_con A r _ hk) rfl dX1_init_2_123 ?_
        refine v_callCp C (x_ccopy l g q111 (A (30 + k0)) (tv r k0)) ok_X6_init rfl q694 rfl (Nat.le_of_ble_eq_true rfl) dX1_init_2_126 (roomN rfl (show 7 + nb + nl + k0 + 1 + 0 ≤ 24 by omega) (show 37 + 9 * nb + 4 * nl + 5 * k0 + 5 + 0 ≤ 151 by omega)) ⟨rfl, rfl⟩ (nb + nl + k0 + 16) (tlW_con A r _ hk) ?_
        refine v_callV (wr := hdW g A nb nl nc r b ((hdW g B3 nb nl k0 (hyb r) (fun _ => 0) []).take 5) ++ ((hdW g B3 nb nl k0 (hyb r) (fun _ => 0) (tlW A nb nl nc r (tlW B3 nb nl k0 (hyb r) suf))).drop 7)) C (j_add l g (B3 5) (B3 6) 6 (nI k0) k0 (rfs B3 30 k0) q111 6 (RX6, TX6, 5) (cnF (tv r k0)) rfl q1583 (by omega) (by decide)) ok_J2_add rfl q636 rfl (Nat.le_of_ble_eq_true rfl) 0 rfl rfl rfl dX1_init_2_129 (roomN rfl (show 7 + nb + nl + k0 + 1 + 0 ≤ 24 by omega) (show 37 + 9 * nb + 4 * nl + 5 * k0 + 5 + 0 ≤ 151 by omega)) (perm_add _ (hdW g A nb nl nc r b ((hdW g B3 nb nl k0 (hyb r) (fun _ => 0) []).take 5)) (alW g (B3 5) (B3 6) 6 (nI k0) k0 (rfs B3 30 k0)) ((hdW g B3 nb nl k0 (hyb r) (fun _ => 0) (tlW A nb nl nc r (tlW B3 nb nl k0 (hyb r) suf))).drop 7)) ?_
        rintro _ _ ⟨rfl, rfl⟩
        refine v_perm (z_addC (by omega) (by omega) (by omega) (by omega)) ?_
        refine v_st (st' := [.int 1]) rfl ?_
        refine v_pop C dX1_init_2_132 rfl ?_
        refine v_iinc (lv' := [(2, _), (0, _), (1, _)]) C dX1_init_2_133 0 rfl (nI_1 k0) (by decide) rfl ?_
        refine v_goto C 96 dX1_init_2_136 (by decide) ?_
        have e1 := ih (k0 + 1, (adr B3 (30 + k0) q111)) ⟨by dsimp only; omega, by dsimp only; rw [adr_ne _ (by omega)]; exact hB⟩ (by dsimp only; omega)
        dsimp only at e1
        rw [show (adr B3 (30 + k0) q111) 0 = B3 0 from adr_ne _ (by omega)] at e1
        exact e1
    · skip
      have hk : k0 < nl := Nat.lt_of_le_of_ne hk1 (fun q9 => c59_2 (by rw [q9]; exact Int32.le_refl _))
      refine v_aload_n C dX1_init_2_62 1 rfl ?_
      refine v_get C in_X1 rfl 8 rfl 1 (by decide) q156 (fun _ h => h) rfl dX1_init_2_63 ?_
      refine v_new (ci := 5) (fs := [.int 0, .int 0, .int 0, .int 0]) C in_X5 tyX5 tyX5_ok q305 q664 q108 rfl (by decide +kernel) (show 7 + nb + k0 + 1 ≤ 24 by omega) (show 37 + 9 * nb + 4 * k0 + 4 ≤ 151 by omega) dX1_init_2_66 (fun q66 => ?_)
      refine v_perm (ws' := (q66, .inr (5, [.int 0, .int 0, .int 0, .int 0])) :: (zW g A nb nl nc r b B2 nb k0 0 (hyb r) (fun _ => 0) suf)) (List.perm_append_comm (l₂ := [_])) ?_
      refine v_dup C dX1_init_2_69 rfl ?_
      refine v_aload_n C dX1_init_2_70 2 rfl ?_
      refine v_get C in_X1 rfl 1 rfl 1 (by decide) q156 (fun _ h => h) rfl dX1_init_2_71 ?_
      refine v_iload_n C dX1_init_2_74 0 rfl ?_
      refine v_zMV (ws' := ((_, .inr (_, _)) :: (zW g A nb nl nc r b B2 nb k0 0 (hyb r) (fun _ => 0) suf))) C (j_get l g (A 3) (A 4) 3 (nI nl) nl (rfs A 20 nl) k0 (A (20 + k0)) hk hnl (by decide) (rfs_at A 20 hk)) [_, _, _, _] rfl ok_J2_get rfl q286 rfl (Nat.le_of_ble_eq_true rfl) 0 rfl rfl rfl dX1_init_2_75 (roomN rfl (show 7 + nb + k0 + 1 + 0 ≤ 24 by omega) (show 37 + 9 * nb + 4 * k0 + 4 + 0 ≤ 151 by omega)) ⟨rfl, rfl⟩ rfl ?_
      refine v_castS (r := (RX5, TX5, 4)) C q305 (nb + k0 + 17) (tlW_leg A r _ hk) rfl dX1_init_2_78 ?_
      refine v_callCp C (x_lcopy l g q66 (A (20 + k0)) (gv r k0)) ok_X5_init rfl q665 rfl (Nat.le_of_ble_eq_true rfl) dX1_init_2_81 (roomN rfl (show 7 + nb + k0 + 1 + 0 ≤ 24 by omega) (show 37 + 9 * nb + 4 * k0 + 4 + 0 ≤ 151 by omega)) ⟨rfl, rfl⟩ (nb + k0 + 16) (tlW_leg A r _ hk) ?_
      refine v_callV (wr := hdW g A nb nl nc r b ((hdW g B2 nb k0 0 (hyb r) (fun _ => 0) []).take 3) ++ ((hdW g B2 nb k0 0 (hyb r) (fun _ => 0) (tlW A nb nl nc r (tlW B2 nb k0 0 (hyb r) suf))).drop 5)) C (j_add l g (B2 3) (B2 4) 3 (nI k0) k0 (rfs B2 20 k0) q66 5 (RX5, TX5, 4) (lgF (gv r k0)) rfl q1582 (by omega) (by decide)) ok_J2_add rfl q636 rfl (Nat.le_of_ble_eq_true rfl) 0 rfl rfl rfl dX1_init_2_84 (roomN rfl (show 7 + nb + k0 + 1 + 0 ≤ 24 by omega) (show 37 + 9 * nb + 4 * k0 + 4 + 0 ≤ 151 by omega)) (perm_add _ (hdW g A nb nl nc r b ((hdW g B2 nb k0 0 (hyb r) (fun _ => 0) []).take 3)) (alW g (B2 3) (B2 4) 3 (nI k0) k0 (rfs B2 20 k0)) ((hdW g B2 nb k0 0 (hyb r) (fun _ => 0) (tlW A nb nl nc r (tlW B2 nb k0 0 (hyb r) suf))).drop 5)) ?_
      rintro _ _ ⟨rfl, rfl⟩
      refine v_perm (z_addG (by omega) (by omega) (by omega) (by omega)) ?_
      refine v_st (st' := [.int 1]) rfl ?_
      refine v_pop C dX1_init_2_87 rfl ?_
      refine v_iinc (lv' := [(2, _), (0, _), (1, _)]) C dX1_init_2_88 0 rfl (nI_1 k0) (by decide) rfl ?_
      refine v_goto C 51 dX1_init_2_91 (by decide) ?_
      have e1 := ih (k0 + 1, (adr B2 (20 + k0) q66)) ⟨by dsimp only; omega, by dsimp only; rw [adr_ne _ (by omega)]; exact hB⟩ (by dsimp only; omega)
      dsimp only at e1
      rw [show (adr B2 (20 + k0) q66) 0 = B2 0 from adr_ne _ (by omega)] at e1
      exact e1
  · skip
    have hk : k0 < nb := Nat.lt_of_le_of_ne hk1 (fun q9 => c14_1 (by rw [q9]; exact Int32.le_refl _))
    refine v_aload_n C dX1_init_2_17 1 rfl ?_
    refine v_get C in_X1 rfl 8 rfl 0 (by decide) q154 (fun _ h => h) rfl dX1_init_2_18 ?_
    refine v_new (ci := 4) (fs := [.int 0, .int 0, .int 0, .int 0, .int 0, .int 0, .int 0, .int 0, .int 0]) C in_X4 tyX4 tyX4_ok q300 q435 q106 rfl (by decide +kernel) (show 7 + k0 + 1 ≤ 24 by omega) (show 37 + 9 * k0 + 9 ≤ 151 by omega) dX1_init_2_21 (fun q21 => ?_)
    refine v_perm (ws' := (q21, .inr (4, [.int 0, .int 0, .int 0, .int 0, .int 0, .int 0, .int 0, .int 0, .int 0])) :: (zW g A nb nl nc r b B1 k0 0 0 (hyb r) (fun _ => 0) suf)) (List.perm_append_comm (l₂ := [_])) ?_
    refine v_dup C dX1_init_2_24 rfl ?_
    refine v_aload_n C dX1_init_2_25 2 rfl ?_
    refine v_get C in_X1 rfl 1 rfl 0 (by decide) q154 (fun _ h => h) rfl dX1_init_2_26 ?_
    refine v_iload_n C dX1_init_2_29 0 rfl ?_
    refine v_zMV (ws' := ((_, .inr (_, _)) :: (zW g A nb nl nc r b B1 k0 0 0 (hyb r) (fun _ => 0) suf))) C (j_get l g (A 1) (A 2) 8 (nI nb) nb (rfs A 10 nb) k0 (A (10 + k0)) hk hnb (by decide) (rfs_at A 10 hk)) [_, _] rfl ok_J2_get rfl q286 rfl (Nat.le_of_ble_eq_true rfl) 0 rfl rfl rfl dX1_init_2_30 (roomN rfl (show 7 + k0 + 1 + 0 ≤ 24 by omega) (show 37 + 9 * k0 + 9 + 0 ≤ 151 by omega)) ⟨rfl, rfl⟩ rfl ?_
    refine v_castS (r := (RX4, TX4, 9)) C q300 (k0 + 17) (tlW_bin A r _ hk) rfl dX1_init_2_33 ?_
    refine v_callCp C (x_bcopy l g q21 (A (10 + k0)) (bv r k0)) ok_X4_init rfl q587 rfl (Nat.le_of_ble_eq_true rfl) dX1_init_2_36 (roomN rfl (show 7 + k0 + 1 + 0 ≤ 24 by omega) (show 37 + 9 * k0 + 9 + 0 ≤ 151 by omega)) ⟨rfl, rfl⟩ (k0 + 16) (tlW_bin A r _ hk) ?_
    refine v_callV (wr := hdW g A nb nl nc r b [(B1 0, .inr (1, stF B1 (hyb r) (fun _ => 0)))] ++ ((hdW g B1 k0 0 0 (hyb r) (fun _ => 0) (tlW A nb nl nc r (tlW B1 k0 0 0 (hyb r) suf))).drop 3)) C (j_add l g (B1 1) (B1 2) 8 (nI k0) k0 (rfs B1 10 k0) q21 4 (RX4, TX4, 9) (bnF (bv r k0)) rfl q1581 (by omega) (by decide)) ok_J2_add rfl q636 rfl (Nat.le_of_ble_eq_true rfl) 0 rfl rfl rfl dX1_init_2_39 (roomN rfl (show 7 + k0 + 1 + 0 ≤ 24 by omega) (show 37 + 9 * k0 + 9 + 0 ≤ 151 by omega)) (perm_add _ (hdW g A nb nl nc r b [(B1 0, .inr (1, stF B1 (hyb r) (fun _ => 0)))]) (alW g (B1 1) (B1 2) 8 (nI k0) k0 (rfs B1 10 k0)) ((hdW g B1 k0 0 0 (hyb r) (fun _ => 0) (tlW A nb nl nc r (tlW B1 k0 0 0 (hyb r) suf))).drop 3)) ?_
    rintro _ _ ⟨rfl, rfl⟩
    refine v_perm (z_addB (by omega) (by omega) (by omega)) ?_
    refine v_st (st' := [.int 1]) rfl ?_
    refine v_pop C dX1_init_2_42 rfl ?_
    refine v_iinc (lv' := [(2, _), (0, _), (1, _)]) C dX1_init_2_43 0 rfl (nI_1 k0) (by decide) rfl ?_
    refine v_goto C 6 dX1_init_2_46 (by decide) ?_
    have e1 := ih (k0 + 1, (adr B1 (10 + k0) q21)) ⟨by dsimp only; omega, by dsimp only; rw [adr_ne _ (by omega)]; exact hB⟩ (by dsimp only; omega)
    dsimp only at e1
    rw [show (adr B1 (10 + k0) q21) 0 = B1 0 from adr_ne _ (by omega)] at e1
    exact e1
