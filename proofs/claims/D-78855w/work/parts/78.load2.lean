/-! loading: the class's step against the reference's -/
set_option maxRecDepth 100000
section L2
variable {K : KT}
theorem upd2_pc (ρ : Nat → Int32) (c : Nat) (x : Int32) : upd (upd ρ (94 + 6 * c + 4) 0) (94 + 6 * c + 5) x = pc6 ρ c (upd (upd (tv ρ c) 4 0) 5 x) := by
  have h1 := pc_upd ρ c (tv ρ c) (k := 4) (by decide) 0
  rw [pc_self] at h1
  rw [h1, pc_upd _ _ _ (by decide)]
theorem kx_load (h : KS K) (con leg : Int32) : XRel K (y_load (Rw K) (Bw K) (nbK K) (nlK K) (ncK K) con leg) (p_load K con leg) := by
  unfold y_load p_load
  have hn := h.1.1.2
  have hln := h.1.2.1.2
  have hcn := h.1.2.2.1.2
  have el : q_leg K.1 leg = q_n (nlK K) leg := by unfold q_leg; rw [h.1.2.1.1]
  have ec : q_con K.1 con = q_n (ncK K) con := by unfold q_con; rw [h.1.2.2.1.1]
  by_cases c1 : q_n (ncK K) con
  · rw [if_pos (show q_con K.1 con from ec ▸ c1)]
    by_cases c2 : q_n (nlK K) leg
    · rw [if_pos (show q_leg K.1 leg from el ▸ c2), if_pos (⟨c1, c2⟩ : q_n (ncK K) con ∧ q_n (nlK K) leg)]
      have hc := cl_c h.R c1
      have hl : leg.toNatClampNeg < nlK K := (isB_c (n := nlK K) rfl (by omega) c2).2
      generalize con.toNatClampNeg = c at hc
      generalize leg.toNatClampNeg = l at hl
      obtain ⟨q1, q2, q3⟩ := bl_cong (r := K.1) (r' := Rw K) (fun j hj => (svK_lo K hj).symm) hn (c := c) (l := l) (by omega) (by omega)
      have lo : ∀ j, j < 130 → K.1 j = Rw K j := fun j hj => (svK_lo K hj).symm
      dsimp only
      rw [q1, q2, q3, lo (94 + 6 * c + 4) (by omega), lo 0 (by omega), lo (82 + 4 * l + 0) (by omega), fb_noB h.R hc l]
      obtain ⟨u1, u2, u3, u4⟩ := blU_eq h.R hc l
      have hco := h.R.2.2.2.1 c hc
      by_cases c3 : Rw K (94 + 6 * c + 4) = 0
      · rw [if_pos c3, if_neg (show ¬ c_open (tv (Rw K) c) from fun q => by
          rcases hco.2.2.2.2 with ⟨e4, e5⟩ | ⟨e4, e5⟩
          · rw [show Rw K (94 + 6 * c + 4) = 1 from e4] at c3; exact absurd c3 (by decide)
          · rw [show tv (Rw K) c 5 = -1 from q] at e5; exact absurd e5 (by decide))]
        exact XRel.no h _
      · rw [if_neg c3, if_pos (show c_open (tv (Rw K) c) from by
          rcases hco.2.2.2.2 with ⟨e4, e5⟩ | ⟨e4, e5⟩
          · exact e5
          · exact absurd e4 c3)]
        by_cases c4 : p_noBlend (Rw K) (nbK K) c l ≤ 0
        · rw [if_pos c4, if_pos c4]
          obtain ⟨v1, v2⟩ := blU_ok h.R hc c4
          obtain ⟨s1, s2⟩ := h.R.2.2.1 _ hl
          obtain ⟨t1, t2, t3, t4⟩ := ldT_v (u := blU (Rw K) (nbK K) c l) (sp := Rw K (82 + 4 * l + 0)) s1 s2 hn u4
          have hclk := h.R.2.2.2.2.2.1
          have hP : Rw K 0 + ldT (blU (Rw K) (nbK K) c l) (Rw K (82 + 4 * l + 0)) (nbK K) ≤ 1000000 ↔ (Rw K 0).toInt + sB (fun k => (p_min (blU (Rw K) (nbK K) c l k) (Rw K (82 + 4 * l + 0))).toInt) (nbK K) ≤ 1000000 := by
            rw [i32_le, i32_add (by rw [t1]; omega) (by rw [t1]; omega), t1]; exact Iff.rfl
          have hX : (¬ 0 < lg_cmp ((Rw K 0).toInt64 + xldT (blU (Rw K) (nbK K) c l) (Rw K (82 + 4 * l + 0)) (nbK K)) 1000000) ↔ (Rw K 0).toInt + sB (fun k => (p_min (blU (Rw K) (nbK K) c l k) (Rw K (82 + 4 * l + 0))).toInt) (nbK K) ≤ 1000000 := by
            rw [lgc_gt, i64_lt, i64_add (by rw [t2, i3264]; omega) (by rw [t2, i3264]; omega), t2, i3264]
            show ¬ (1000000 : Int) < _ ↔ _
            omega
          rw [u1]
          (try dsimp only)
          by_cases c5 : (Rw K 0).toInt + sB (fun k => (p_min (blU (Rw K) (nbK K) c l k) (Rw K (82 + 4 * l + 0))).toInt) (nbK K) ≤ 1000000
          · rw [if_pos (hX.mpr c5), if_pos (hP.mpr c5)]
            obtain ⟨i1, ⟨b', i2, i3, i4, i5⟩, i6, i7, i8⟩ := ld_loop h.R hl u4 v1 c5 (Nat.le_refl (nbK K))
            rw [show (svK K).1 = Rw K from rfl, i1]
            have exl : xl3 (Rw K) (nbK K) c l = upd (iter (xld1 (blU (Rw K) (nbK K) c l) (nbK K) l) (nbK K) (Rw K)) (94 + 6 * c + 5) (blM (Rw K) (nbK K) c l) := by
              show upd (iter (xld1 (xlU (Rw K) (nbK K) c l) (nbK K) l) (nbK K) (Rw K)) (94 + 6 * c + 5) (x_bM (Rw K) (nbK K) c l) = _
              rw [u1, u2]
            rw [exl]
            generalize iter (xld1 (blU (Rw K) (nbK K) c l) (nbK K) l) (nbK K) (Rw K) = ρ at *
            have e1 : ρ (94 + 6 * c + 1) = Rw K (94 + 6 * c + 1) := i8 _ (by omega)
            have e3 : ρ (94 + 6 * c + 3) = Rw K (94 + 6 * c + 3) := i8 _ (by omega)
            rw [upd_ne (show 94 + 6 * c + 1 ≠ 94 + 6 * c + 5 by omega), upd_ne (show 94 + 6 * c + 3 ≠ 94 + 6 * c + 5 by omega), e1, e3]
            obtain ⟨-, ⟨a0, a1⟩, -, ⟨p0, p1⟩, -⟩ := hco
            have a0' : 1 ≤ (Rw K (94 + 6 * c + 1)).toInt := a0
            have a1' : (Rw K (94 + 6 * c + 1)).toInt ≤ 20000 := a1
            have p0' : 1 ≤ (Rw K (94 + 6 * c + 3)).toInt := p0
            have p1' : (Rw K (94 + 6 * c + 3)).toInt ≤ 2000 := p1
            have m1 : (Rw K (94 + 6 * c + 1)).toInt * (Rw K (94 + 6 * c + 3)).toInt ≤ 20000 * 2000 := Int.mul_le_mul a1' p1' (by omega) (by omega)
            have m0 : 0 ≤ (Rw K (94 + 6 * c + 1)).toInt * (Rw K (94 + 6 * c + 3)).toInt := Int.mul_nonneg (by omega) (by omega)
            have em : (Rw K (94 + 6 * c + 1)).toInt64 * (Rw K (94 + 6 * c + 3)).toInt64 = (Rw K (94 + 6 * c + 1) * Rw K (94 + 6 * c + 3)).toInt64 := i64_eq.mpr (by
              rw [i64_mul (by rw [i3264, i3264]; omega) (by rw [i3264, i3264]; omega), i3264, i3264, i3264, i32_mul (by omega) (by omega)])
            rw [em]
            have eB4 : vp_updL (svK K).2.1 1 ((svK K).2.1 1 + (Rw K (94 + 6 * c + 1)).toInt64) 4 = Bw K 4 := updL_ne (by decide)
            rw [eB4, show (svK K).2.1 = Bw K from rfl, upd2_pc]
            have lo2 : ∀ j, j = 2 ∨ j = 3 ∨ j = 4 ∨ 130 ≤ j → pc6 ρ c (upd (upd (tv ρ c) 4 0) 5 (blM (Rw K) (nbK K) c l)) j = Rw K j := fun j hj => (pc_o _ (by omega)).trans (i8 j (by omega))
            obtain ⟨k, eb', el', ec', es'⟩ := KOk.mk' (K' := (pc6 ρ c (upd (upd (tv ρ c) 4 0) 5 (blM (Rw K) (nbK K) c l)), vp_updL (vp_updL (Bw K) 1 (Bw K 1 + (Rw K (94 + 6 * c + 1)).toInt64)) 4 (Bw K 4 + (Rw K (94 + 6 * c + 1) * Rw K (94 + 6 * c + 3)).toInt64), (svK K).2.2)) ((lo2 2 (by omega)).trans (svK_2 h.1)) h.1.1.2 ((lo2 3 (by omega)).trans (svK_3 h.1)) h.1.2.1.2 ((lo2 4 (by omega)).trans (svK_4 h.1)) h.1.2.2.1.2 (sv_ok h).1 (sv_ok h).2
            have hcon : ConOk (upd (upd (tv ρ c) 4 0) 5 (blM (Rw K) (nbK K) c l)) := by
              have := i2.2.2.2.1 c hc
              exact ⟨this.1, this.2.1, this.2.2.1, this.2.2.2.1, Or.inr ⟨rfl, u3⟩⟩
            have hbk : SInv ρ (vp_updL (vp_updL (Bw K) 1 (Bw K 1 + (Rw K (94 + 6 * c + 1)).toInt64)) 4 (Bw K 4 + (Rw K (94 + 6 * c + 1) * Rw K (94 + 6 * c + 3)).toInt64)) (nbK K) (nlK K) (ncK K) := by
              obtain ⟨z0, z1, z2, z3, z4, z5, z6, z7⟩ := bk_sum h.R
              have ee : (Bw K 1 + (Rw K (94 + 6 * c + 1)).toInt64).toInt = (Bw K 1).toInt + (Rw K (94 + 6 * c + 1)).toInt := by rw [i64_add (by rw [i3264]; omega) (by rw [i3264]; omega), i3264]
              have w1 : vp_updL (vp_updL (Bw K) 1 (Bw K 1 + (Rw K (94 + 6 * c + 1)).toInt64)) 4 (Bw K 4 + (Rw K (94 + 6 * c + 1) * Rw K (94 + 6 * c + 3)).toInt64) 1 = Bw K 1 + (Rw K (94 + 6 * c + 1)).toInt64 := rfl
              have w2 : vp_updL (vp_updL (Bw K) 1 (Bw K 1 + (Rw K (94 + 6 * c + 1)).toInt64)) 4 (Bw K 4 + (Rw K (94 + 6 * c + 1) * Rw K (94 + 6 * c + 3)).toInt64) 2 = Bw K 2 := rfl
              refine i2.books ?_ ?_ ?_ ?_
              · rw [i3]; rfl
              · rw [w1, ee]; omega
              · rw [w2]; omega
              · rw [w1, w2, ee, i4, i5, v2]; omega
            refine ⟨rfl, ⟨k, ?_⟩, ?_, ?_, fun _ _ => rfl, ⟨fun j hj => lo2 j (by omega), fun j hj => (updL_ne (by omega)).trans (updL_ne (by omega)), rfl⟩⟩
            · rw [eb', el', ec']
              exact hbk.addCon hcn (fun j hj _ => hj) hcon
            · dsimp only; rw [eb', el', ec']
            · rw [eb', el', ec']
              dsimp only
              rw [← upd2_pc]
              have ag : ∀ j, j ≠ 94 + 6 * c + 4 → upd ρ (94 + 6 * c + 5) (blM (Rw K) (nbK K) c l) j = upd (upd ρ (94 + 6 * c + 4) 0) (94 + 6 * c + 5) (blM (Rw K) (nbK K) c l) j := by
                intro j hj
                by_cases q : j = 94 + 6 * c + 5
                · subst q; rw [upd_eq, upd_eq]
                · rw [upd_ne q, upd_ne q, upd_ne hj]
              exact ⟨⟨ag _ (by omega), ag _ (by omega), ag _ (by omega)⟩, fun j hj => ag _ (by omega), fun i hi j hj => ag _ (by omega), fun i hi j hj => ag _ (by omega), fun i hi j hj hne => ag _ (by omega)⟩
          · rw [if_neg (fun q => c5 (hX.mp q)), if_neg (fun q => c5 (hP.mp q))]
            exact XRel.no h _
        · rw [if_neg c4, if_neg c4]
          exact XRel.code h _ _
    · rw [if_neg (fun q : q_n (ncK K) con ∧ q_n (nlK K) leg => c2 q.2), if_neg (show ¬ q_leg K.1 leg from el ▸ c2)]; exact XRel.no h _
  · rw [if_neg (fun q : q_n (ncK K) con ∧ q_n (nlK K) leg => c1 q.1), if_neg (show ¬ q_con K.1 con from ec ▸ c1)]; exact XRel.no h _
end L2
