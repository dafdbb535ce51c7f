/-! the reference: mixes, best, load -/
set_option maxRecDepth 100000
def z8 (u : Nat → Int32) : Nat → Nat → Int32
  | 0 => u
  | k + 1 => upd (z8 u k) k 0
theorem z8_0 (u : Nat → Int32) : ∀ j, j < 8 → z8 u 8 j = 0 := by
  have h : ∀ n j, j < n → z8 u n j = 0 := by
    intro n
    induction n with
    | zero => intro j hj; exact absurd hj (Nat.not_lt_zero j)
    | succ n ih =>
      intro j hj
      by_cases q : j = n
      · rw [q]; exact pk_us
      · exact (pk_un q).trans (ih j (by omega))
  exact h 8
theorem dec2 (t : Nat) : nI (t + 1) - 1 + Int32.ofInt (-1) = nI t - 1 := by
  rw [nI_pred]
  show nI t + (-1) = nI t - 1
  grind
theorem iter_ne {u : Nat → Int32} {nb lg : Nat} {r : Nat → Int32} {j n : Nat} (hnb : nb ≤ 8) (hn : n ≤ nb) (h0 : 0 < j) (hp : ∀ b, b < nb → j ≠ 10 + 9 * b + 6) (ht : ∀ k, k < n → (j < 10 + 9 * k + 3 ∨ 10 + 9 * k + 8 < j)) (hd : j < 82 + 4 * lg + 2 ∨ 82 + 4 * lg + 3 < j) : iter (ld1 u nb lg) n r j = r j := by
  induction n with
  | zero => rfl
  | succ n ih => exact (ld1_ne hnb (by omega) h0 hp (ht n (by omega)) hd).trans (ih (by omega) (fun k hk => ht k (by omega)))
def M_X3_mixes : Md := (yX3_mixes, cX3_mixes, 7, (some .int), 3, 83, 0, 0)
theorem ok_X3_mixes : MOKv M_X3_mixes 2 := ⟨q1469, qs80, q103, q1470, ⟨by decide +kernel, by decide +kernel, by decide +kernel⟩⟩
set_option maxHeartbeats 4000000 in
theorem m_mixes (l : Launch) (g : GT) (a : Nat → Nat) (row : Nat → Int32) (books : Nat → Int64) (S : Int32 × (Nat → Int32)) (B : (Nat → Int32) × Int32 × (Nat → Int32)) (T : (Nat → Int32) × Int32) (P : Int32 × Int32 × (Nat → Int32) × Int32 × Int32) (h : Int64) (n : Nat) (og : Nat → Nat) (hB : B.2.1 = nI n) (hn8 : n ≤ 8) (hord : ordOk B.1 og n) (hog : ∀ k, k < n → og k < 8) (damp dry : Int32) (hne : ¬ (damp + dry).toInt64 = 0) : CtE l g M_X3_mixes [.ref (a 0), .int damp, .int dry] (mw g a row books S B T P h) (some (.int (mixR row og n damp dry))) (mw g a row books S (B.1, nI n, mixU row og n damp dry) T P h) := by
  refine Ct.start2 (M := M_X3_mixes) rfl [(0, .ref (a 0)), (1, .int damp), (2, .int dry)] rfl (by decide +kernel) (Nat.le_of_ble_eq_true rfl) ?_
  intro p e s m args below meth c A C
  obtain ⟨f, un, u⟩ := B
  dsimp only at hB hord ⊢
  subst hB
  refine v_iconst (v := 0) C dX3_mixes_0 (by decide) ?_
  refine v_istore_n (lv' := [(3, _), (0, _), (1, _), (2, _)]) C dX3_mixes_1 rfl (by decide) rfl ?_
  refine v_loop 0 8 (fun k => [(3, .int (nI k)), (0, .ref (a 0)), (1, .int damp), (2, .int dry)]) (fun k => mw g a row books S (f, nI n, z8 u k) T P h) rfl rfl (by omega) ?_ ?_
  · skip
    refine v_iload_n C dX3_mixes_2 0 rfl ?_
    refine v_bipush (v := 8) C dX3_mixes_3 (by decide) ?_
    refine v_icmp_ge C 21 dX3_mixes_5 (by decide) (fun c5_1 => ?_) (fun c5_1 => ?_)
    · skip
      refine v_afun (f' := fun _ => 0) (ws' := mw g a row books S (f, nI n, fun _ => 0) T P h) 5 rfl (z8_0 u) rfl ?_
      refine v_iload_n C dX3_mixes_21 2 rfl ?_
      refine v_istore_n (lv' := [(3, _), (0, _), (1, _), (2, _)]) C dX3_mixes_22 rfl (by decide) rfl ?_
      refine v_iconst (v := 0) C dX3_mixes_23 (by decide) ?_
      refine v_istore (lv' := [(4, _), (3, _), (0, _), (1, _), (2, _)]) C dX3_mixes_24 (by decide) rfl ?_
      refine v_loop 0 n (fun k => [(4, .int (nI k)), (3, .int (mixA row og damp k).2), (0, .ref (a 0)), (1, .int damp), (2, .int dry)]) (fun k => mw g a row books S (f, nI n, (mixA row og damp k).1) T P h) rfl rfl (by omega) ?_ ?_
      · skip
        refine v_iload C dX3_mixes_26 0 rfl ?_
        refine v_aload_n C dX3_mixes_28 2 rfl ?_
        refine v_get C in_X3 rfl 0 rfl 5 (by decide) q1171 (fun _ h => h) rfl dX3_mixes_29 ?_
        refine v_icmp_ge C 97 dX3_mixes_32 (by decide) (fun c32_2 => ?_) (fun c32_2 => ?_)
        · skip
          refine v_iload_n C dX3_mixes_97 4 rfl ?_
          refine v_istore_n (lv' := [(3, _), (4, _), (0, _), (1, _), (2, _)]) C dX3_mixes_98 rfl (by decide) rfl ?_
          refine v_aload_n C dX3_mixes_99 2 rfl ?_
          refine v_get C in_X3 rfl 0 rfl 5 (by decide) q1171 (fun _ h => h) rfl dX3_mixes_100 ?_
          refine v_iconst (v := 1) C dX3_mixes_103 (by decide) ?_
          refine v_isub C dX3_mixes_104 ?_
          refine v_istore (lv' := [(4, _), (3, _), (0, _), (1, _), (2, _)]) C dX3_mixes_105 (by decide) rfl ?_
          refine v_loop 0 n (fun j => [(4, .int (nI (n - j) - 1)), (3, .int (mixB row og n damp dry j).2), (0, .ref (a 0)), (1, .int damp), (2, .int dry)]) (fun j => mw g a row books S (f, nI n, (mixB row og n damp dry j).1) T P h) rfl rfl (by omega) ?_ ?_
          · skip
            refine v_iload C dX3_mixes_107 0 rfl ?_
            refine v_if_lt C 174 dX3_mixes_109 (by decide) (fun c109_3 => ?_) (fun c109_3 => ?_)
            · skip
              refine v_lconst (v := 0) C dX3_mixes_174 (by decide) ?_
              refine v_lstore (lv' := [(4, _), (3, _), (0, _), (1, _), (2, _)]) C dX3_mixes_175 (by decide) rfl ?_
              refine v_iconst (v := 0) C dX3_mixes_177 (by decide) ?_
              refine v_istore (lv' := [(6, _), (4, _), (3, _), (0, _), (1, _), (2, _)]) C dX3_mixes_178 (by decide) rfl ?_
              refine v_lvp (lv' := [(6, _), (4, _), (0, _), (1, _), (2, _)]) [0, 1, 3, 4, 5] rfl ?_
              refine v_loop 0 n (fun k => [(6, .int (nI k)), (4, .long (mixS row og (mixU row og n damp dry) k)), (0, .ref (a 0)), (1, .int damp), (2, .int dry)]) (fun k => mw g a row books S (f, nI n, mixU row og n damp dry) T P h) rfl rfl (by omega) ?_ ?_
              · skip
                refine v_iload C dX3_mixes_180 0 rfl ?_
                refine v_aload_n C dX3_mixes_182 2 rfl ?_
                refine v_get C in_X3 rfl 0 rfl 5 (by decide) q1171 (fun _ h => h) rfl dX3_mixes_183 ?_
                refine v_icmp_ge C 226 dX3_mixes_186 (by decide) (fun c186_4 => ?_) (fun c186_4 => ?_)
                · skip
                  refine v_lload C dX3_mixes_226 1 rfl ?_
                  refine v_iload_n C dX3_mixes_228 3 rfl ?_
                  refine v_i2l C dX3_mixes_229 ?_
                  refine v_ladd C dX3_mixes_230 ?_
                  refine v_iload_n C dX3_mixes_231 4 rfl ?_
                  refine v_i2l C dX3_mixes_232 ?_
                  refine v_ladd C dX3_mixes_233 ?_
                  refine v_lconst (v := 1) C dX3_mixes_234 (by decide) ?_
                  refine v_lsub C dX3_mixes_235 ?_
                  refine v_iload_n C dX3_mixes_236 3 rfl ?_
                  refine v_iload_n C dX3_mixes_237 4 rfl ?_
                  refine v_iadd C dX3_mixes_238 ?_
                  refine v_i2l C dX3_mixes_239 ?_
                  refine v_ldiv C dX3_mixes_240 hne ?_
                  refine v_l2i C dX3_mixes_241 ?_
                  exact v_iret C dX3_mixes_242 (Nat.le_of_ble_eq_true rfl) (Nat.le_of_ble_eq_true rfl) ⟨rfl, rfl⟩
                · exact absurd (Int32.le_refl _) c186_4
              · intro k hk hk0 hback
                have hok := hog k hk
                refine v_iload C dX3_mixes_180 0 rfl ?_
                refine v_aload_n C dX3_mixes_182 2 rfl ?_
                refine v_get C in_X3 rfl 0 rfl 5 (by decide) q1171 (fun _ h => h) rfl dX3_mixes_183 ?_
                refine v_icmp_ge C 226 dX3_mixes_186 (by decide) (fun c186_5 => ?_) (fun c186_5 => ?_)
                · exact absurd c186_5 (nI_ge hk (by first | decide | omega))
                · skip
                  refine v_lload C dX3_mixes_189 1 rfl ?_
                  refine v_aload_n C dX3_mixes_191 2 rfl ?_
                  refine v_get C in_X3 rfl 0 rfl 6 (by decide) q1172 (fun _ h => h) rfl dX3_mixes_192 ?_
                  refine v_aload_n C dX3_mixes_195 2 rfl ?_
                  refine v_get C in_X3 rfl 0 rfl 4 (by decide) q1170 (fun _ h => h) rfl dX3_mixes_196 ?_
                  refine v_iload C dX3_mixes_199 0 rfl ?_
                  refine v_iald C dX3_mixes_201 4 rfl (ixn (by omega) (by decide)) ?_
                  refine v_eqi (hord k hk) ?_
                  refine v_iald C dX3_mixes_202 5 rfl (ixn (by omega) (by decide)) ?_
                  refine v_i2l C dX3_mixes_203 ?_
                  refine v_aload_n C dX3_mixes_204 2 rfl ?_
                  refine v_aload_n C dX3_mixes_205 2 rfl ?_
                  refine v_get C in_X3 rfl 0 rfl 4 (by decide) q1170 (fun _ h => h) rfl dX3_mixes_206 ?_
                  refine v_iload C dX3_mixes_209 0 rfl ?_
                  refine v_iald C dX3_mixes_211 4 rfl (ixn (by omega) (by decide)) ?_
                  refine v_eqi (hord k hk) ?_
                  refine v_callVw C (m_moisture l g a _ _ _ _ _ _ _ (og k) _ rfl (by omega)) ok_X3_moisture rfl q1300 rfl (Nat.le_of_ble_eq_true rfl) 0 rfl rfl rfl dX3_mixes_212 (roomL rfl rfl) ⟨rfl, rfl⟩ ?_
                  refine v_i2l C dX3_mixes_215 ?_
                  refine v_lmul C dX3_mixes_216 ?_
                  refine v_ladd C dX3_mixes_217 ?_
                  refine v_lstore (lv' := [(4, _), (6, _), (0, _), (1, _), (2, _)]) C dX3_mixes_218 (by decide) rfl ?_
                  refine v_iinc (lv' := [(6, _), (4, _), (0, _), (1, _), (2, _)]) C dX3_mixes_220 1 rfl (nI_1 k) (by decide) rfl ?_
                  refine v_goto C 180 dX3_mixes_223 (by decide) ?_
                  exact hback
            · exact absurd (show nI (n - n) - 1 < 0 by rw [Nat.sub_self]; decide) c109_3
          · intro j hj hj0 hback
            have hok := hog (n - 1 - j) (by omega)
            have hkj : nI (n - j) - 1 = nI (n - 1 - j) := by rw [show n - j = (n - 1 - j) + 1 by omega]; exact nI_pred _
            refine v_iload C dX3_mixes_107 0 rfl ?_
            refine v_if_lt C 174 dX3_mixes_109 (by decide) (fun c109_6 => ?_) (fun c109_6 => ?_)
            · rw [hkj] at c109_6; exact absurd c109_6 (nI_pos (by omega))
            · skip
              refine v_iload_n C dX3_mixes_112 1 rfl ?_
              refine v_aload_n C dX3_mixes_113 2 rfl ?_
              refine v_aload_n C dX3_mixes_114 2 rfl ?_
              refine v_get C in_X3 rfl 0 rfl 4 (by decide) q1170 (fun _ h => h) rfl dX3_mixes_115 ?_
              refine v_iload C dX3_mixes_118 0 rfl ?_
              refine v_eqi hkj ?_
              refine v_iald C dX3_mixes_120 4 rfl (ixn (by omega) (by decide)) ?_
              refine v_eqi (hord (n - 1 - j) (by omega)) ?_
              refine v_iconst (v := 3) C dX3_mixes_121 (by decide) ?_
              refine v_callVw C (m_of l g a _ _ _ _ _ _ _ (og (n - 1 - j)) 3 _ _ rfl rfl (by omega)) ok_X3_of rfl q1241 rfl (Nat.le_of_ble_eq_true rfl) 0 rfl rfl rfl dX3_mixes_122 (roomL rfl rfl) ⟨rfl, rfl⟩ ?_
              refine v_icmp_ge C 132 dX3_mixes_125 (by decide) (fun c125_7 => ?_) (fun c125_7 => ?_)
              · skip
                refine v_aload_n C dX3_mixes_132 2 rfl ?_
                refine v_aload_n C dX3_mixes_133 2 rfl ?_
                refine v_get C in_X3 rfl 0 rfl 4 (by decide) q1170 (fun _ h => h) rfl dX3_mixes_134 ?_
                refine v_iload C dX3_mixes_137 0 rfl ?_
                refine v_eqi hkj ?_
                refine v_iald C dX3_mixes_139 4 rfl (ixn (by omega) (by decide)) ?_
                refine v_eqi (hord (n - 1 - j) (by omega)) ?_
                refine v_iconst (v := 3) C dX3_mixes_140 (by decide) ?_
                refine v_callVw C (m_of l g a _ _ _ _ _ _ _ (og (n - 1 - j)) 3 _ _ rfl rfl (by omega)) ok_X3_of rfl q1241 rfl (Nat.le_of_ble_eq_true rfl) 0 rfl rfl rfl dX3_mixes_141 (roomL rfl rfl) ⟨rfl, rfl⟩ ?_
                refine v_istore (lv' := [(5, _), (4, _), (3, _), (0, _), (1, _), (2, _)]) C dX3_mixes_144 (by decide) rfl ?_
                refine v_aload_n C dX3_mixes_146 3 rfl ?_
                refine v_get C in_X3 rfl 0 rfl 6 (by decide) q1172 (fun _ h => h) rfl dX3_mixes_147 ?_
                refine v_aload_n C dX3_mixes_150 3 rfl ?_
                refine v_get C in_X3 rfl 0 rfl 4 (by decide) q1170 (fun _ h => h) rfl dX3_mixes_151 ?_
                refine v_iload C dX3_mixes_154 1 rfl ?_
                refine v_eqi hkj ?_
                refine v_iald C dX3_mixes_156 4 rfl (ixn (by omega) (by decide)) ?_
                refine v_eqi (hord (n - 1 - j) (by omega)) ?_
                refine v_dup2_11 C dX3_mixes_157 rfl rfl ?_
                refine v_iald C dX3_mixes_158 5 rfl (ixn (by omega) (by decide)) ?_
                refine v_iload C dX3_mixes_159 0 rfl ?_
                refine v_iadd C dX3_mixes_161 ?_
                refine v_iast (ws' := mw g a _ _ _ (f, (nI n), (upd (mixB row og n damp dry j).1 _ _)) _ _ _) C dX3_mixes_162 5 rfl (ixn (by omega) (by decide)) rfl ?_
                refine v_iload_n C dX3_mixes_163 2 rfl ?_
                refine v_iload C dX3_mixes_164 0 rfl ?_
                refine v_isub C dX3_mixes_166 ?_
                refine v_istore_n (lv' := [(3, _), (5, _), (4, _), (0, _), (1, _), (2, _)]) C dX3_mixes_167 rfl (by decide) rfl ?_
                refine v_iinc (lv' := [(4, _), (3, _), (5, _), (0, _), (1, _), (2, _)]) C dX3_mixes_168 2 rfl (show nI (n - j) - 1 + Int32.ofInt (-1) = nI (n - (j + 1)) - 1 by rw [show n - j = (n - (j + 1)) + 1 by omega]; exact dec2 _) (by decide) rfl ?_
                refine v_goto C 107 dX3_mixes_171 (by decide) ?_
                refine v_lvp (lv' := [(4, _), (3, _), (0, _), (1, _), (2, _)]) [0, 1, 3, 4, 5] rfl ?_
                have e1 := hback
                rw [mixB, tk1, if_pos c125_7] at e1
                exact e1
              · skip
                refine v_iload_n C dX3_mixes_128 1 rfl ?_
                refine v_goto C 144 dX3_mixes_129 (by decide) ?_
                refine v_istore (lv' := [(5, _), (4, _), (3, _), (0, _), (1, _), (2, _)]) C dX3_mixes_144 (by decide) rfl ?_
                refine v_aload_n C dX3_mixes_146 3 rfl ?_
                refine v_get C in_X3 rfl 0 rfl 6 (by decide) q1172 (fun _ h => h) rfl dX3_mixes_147 ?_
                refine v_aload_n C dX3_mixes_150 3 rfl ?_
                refine v_get C in_X3 rfl 0 rfl 4 (by decide) q1170 (fun _ h => h) rfl dX3_mixes_151 ?_
                refine v_iload C dX3_mixes_154 1 rfl ?_
                refine v_eqi hkj ?_
                refine v_iald C dX3_mixes_156 4 rfl (ixn (by omega) (by decide)) ?_
                refine v_eqi (hord (n - 1 - j) (by omega)) ?_
                refine v_dup2_11 C dX3_mixes_157 rfl rfl ?_
                refine v_iald C dX3_mixes_158 5 rfl (ixn (by omega) (by decide)) ?_
                refine v_iload C dX3_mixes_159 0 rfl ?_
                refine v_iadd C dX3_mixes_161 ?_
                refine v_iast (ws' := mw g a _ _ _ (f, (nI n), (upd (mixB row og n damp dry j).1 _ _)) _ _ _) C dX3_mixes_162 5 rfl (ixn (by omega) (by decide)) rfl ?_
                refine v_iload_n C dX3_mixes_163 2 rfl ?_
                refine v_iload C dX3_mixes_164 0 rfl ?_
                refine v_isub C dX3_mixes_166 ?_
                refine v_istore_n (lv' := [(3, _), (5, _), (4, _), (0, _), (1, _), (2, _)]) C dX3_mixes_167 rfl (by decide) rfl ?_
                refine v_iinc (lv' := [(4, _), (3, _), (5, _), (0, _), (1, _), (2, _)]) C dX3_mixes_168 2 rfl (show nI (n - j) - 1 + Int32.ofInt (-1) = nI (n - (j + 1)) - 1 by rw [show n - j = (n - (j + 1)) + 1 by omega]; exact dec2 _) (by decide) rfl ?_
                refine v_goto C 107 dX3_mixes_171 (by decide) ?_
                refine v_lvp (lv' := [(4, _), (3, _), (0, _), (1, _), (2, _)]) [0, 1, 3, 4, 5] rfl ?_
                have e1 := hback
                rw [mixB, tk1, if_neg c125_7] at e1
                exact e1
        · exact absurd (Int32.le_refl _) c32_2
      · intro k hk hk0 hback
        have hok := hog k hk
        refine v_iload C dX3_mixes_26 0 rfl ?_
        refine v_aload_n C dX3_mixes_28 2 rfl ?_
        refine v_get C in_X3 rfl 0 rfl 5 (by decide) q1171 (fun _ h => h) rfl dX3_mixes_29 ?_
        refine v_icmp_ge C 97 dX3_mixes_32 (by decide) (fun c32_8 => ?_) (fun c32_8 => ?_)
        · exact absurd c32_8 (nI_ge hk (by first | decide | omega))
        · skip
          refine v_iload_n C dX3_mixes_35 1 rfl ?_
          refine v_aload_n C dX3_mixes_36 2 rfl ?_
          refine v_aload_n C dX3_mixes_37 2 rfl ?_
          refine v_get C in_X3 rfl 0 rfl 4 (by decide) q1170 (fun _ h => h) rfl dX3_mixes_38 ?_
          refine v_iload C dX3_mixes_41 0 rfl ?_
          refine v_iald C dX3_mixes_43 4 rfl (ixn (by omega) (by decide)) ?_
          refine v_eqi (hord k hk) ?_
          refine v_iconst (v := 3) C dX3_mixes_44 (by decide) ?_
          refine v_callVw C (m_of l g a _ _ _ _ _ _ _ (og k) 3 _ _ rfl rfl (by omega)) ok_X3_of rfl q1241 rfl (Nat.le_of_ble_eq_true rfl) 0 rfl rfl rfl dX3_mixes_45 (roomL rfl rfl) ⟨rfl, rfl⟩ ?_
          refine v_icmp_ge C 55 dX3_mixes_48 (by decide) (fun c48_9 => ?_) (fun c48_9 => ?_)
          · skip
            refine v_aload_n C dX3_mixes_55 2 rfl ?_
            refine v_aload_n C dX3_mixes_56 2 rfl ?_
            refine v_get C in_X3 rfl 0 rfl 4 (by decide) q1170 (fun _ h => h) rfl dX3_mixes_57 ?_
            refine v_iload C dX3_mixes_60 0 rfl ?_
            refine v_iald C dX3_mixes_62 4 rfl (ixn (by omega) (by decide)) ?_
            refine v_eqi (hord k hk) ?_
            refine v_iconst (v := 3) C dX3_mixes_63 (by decide) ?_
            refine v_callVw C (m_of l g a _ _ _ _ _ _ _ (og k) 3 _ _ rfl rfl (by omega)) ok_X3_of rfl q1241 rfl (Nat.le_of_ble_eq_true rfl) 0 rfl rfl rfl dX3_mixes_64 (roomL rfl rfl) ⟨rfl, rfl⟩ ?_
            refine v_istore (lv' := [(5, _), (4, _), (3, _), (0, _), (1, _), (2, _)]) C dX3_mixes_67 (by decide) rfl ?_
            refine v_aload_n C dX3_mixes_69 3 rfl ?_
            refine v_get C in_X3 rfl 0 rfl 6 (by decide) q1172 (fun _ h => h) rfl dX3_mixes_70 ?_
            refine v_aload_n C dX3_mixes_73 3 rfl ?_
            refine v_get C in_X3 rfl 0 rfl 4 (by decide) q1170 (fun _ h => h) rfl dX3_mixes_74 ?_
            refine v_iload C dX3_mixes_77 1 rfl ?_
            refine v_iald C dX3_mixes_79 4 rfl (ixn (by omega) (by decide)) ?_
            refine v_eqi (hord k hk) ?_
            refine v_dup2_11 C dX3_mixes_80 rfl rfl ?_
            refine v_iald C dX3_mixes_81 5 rfl (ixn (by omega) (by decide)) ?_
            refine v_iload C dX3_mixes_82 0 rfl ?_
            refine v_iadd C dX3_mixes_84 ?_
            refine v_iast (ws' := mw g a _ _ _ (f, (nI n), (upd (mixA row og damp k).1 _ _)) _ _ _) C dX3_mixes_85 5 rfl (ixn (by omega) (by decide)) rfl ?_
            refine v_iload_n C dX3_mixes_86 2 rfl ?_
            refine v_iload C dX3_mixes_87 0 rfl ?_
            refine v_isub C dX3_mixes_89 ?_
            refine v_istore_n (lv' := [(3, _), (5, _), (4, _), (0, _), (1, _), (2, _)]) C dX3_mixes_90 rfl (by decide) rfl ?_
            refine v_iinc (lv' := [(4, _), (3, _), (5, _), (0, _), (1, _), (2, _)]) C dX3_mixes_91 2 rfl (nI_1 k) (by decide) rfl ?_
            refine v_goto C 26 dX3_mixes_94 (by decide) ?_
            refine v_lvp (lv' := [(4, _), (3, _), (0, _), (1, _), (2, _)]) [0, 1, 3, 4, 5] rfl ?_
            have e1 := hback
            rw [mixA, tk1, if_pos c48_9] at e1
            exact e1
          · skip
            refine v_iload_n C dX3_mixes_51 1 rfl ?_
            refine v_goto C 67 dX3_mixes_52 (by decide) ?_
            refine v_istore (lv' := [(5, _), (4, _), (3, _), (0, _), (1, _), (2, _)]) C dX3_mixes_67 (by decide) rfl ?_
            refine v_aload_n C dX3_mixes_69 3 rfl ?_
            refine v_get C in_X3 rfl 0 rfl 6 (by decide) q1172 (fun _ h => h) rfl dX3_mixes_70 ?_
            refine v_aload_n C dX3_mixes_73 3 rfl ?_
            refine v_get C in_X3 rfl 0 rfl 4 (by decide) q1170 (fun _ h => h) rfl dX3_mixes_74 ?_
            refine v_iload C dX3_mixes_77 1 rfl ?_
            refine v_iald C dX3_mixes_79 4 rfl (ixn (by omega) (by decide)) ?_
            refine v_eqi (hord k hk) ?_
            refine v_dup2_11 C dX3_mixes_80 rfl rfl ?_
            refine v_iald C dX3_mixes_81 5 rfl (ixn (by omega) (by decide)) ?_
            refine v_iload C dX3_mixes_82 0 rfl ?_
            refine v_iadd C dX3_mixes_84 ?_
            refine v_iast (ws' := mw g a _ _ _ (f, (nI n), (upd (mixA row og damp k).1 _ _)) _ _ _) C dX3_mixes_85 5 rfl (ixn (by omega) (by decide)) rfl ?_
            refine v_iload_n C dX3_mixes_86 2 rfl ?_
            refine v_iload C dX3_mixes_87 0 rfl ?_
            refine v_isub C dX3_mixes_89 ?_
            refine v_istore_n (lv' := [(3, _), (5, _), (4, _), (0, _), (1, _), (2, _)]) C dX3_mixes_90 rfl (by decide) rfl ?_
            refine v_iinc (lv' := [(4, _), (3, _), (5, _), (0, _), (1, _), (2, _)]) C dX3_mixes_91 2 rfl (nI_1 k) (by decide) rfl ?_
            refine v_goto C 26 dX3_mixes_94 (by decide) ?_
            refine v_lvp (lv' := [(4, _), (3, _), (0, _), (1, _), (2, _)]) [0, 1, 3, 4, 5] rfl ?_
            have e1 := hback
            rw [mixA, tk1, if_neg c48_9] at e1
            exact e1
    · exact absurd (Int32.le_refl _) c5_1
  · intro k hk hk0 hback
    refine v_iload_n C dX3_mixes_2 0 rfl ?_
    refine v_bipush (v := 8) C dX3_mixes_3 (by decide) ?_
    refine v_icmp_ge C 21 dX3_mixes_5 (by decide) (fun c5_10 => ?_) (fun c5_10 => ?_)
    · exact absurd c5_10 (nI_ge hk (by first | decide | omega))
    · skip
      refine v_aload_n C dX3_mixes_8 1 rfl ?_
      refine v_get C in_X3 rfl 0 rfl 6 (by decide) q1172 (fun _ h => h) rfl dX3_mixes_9 ?_
      refine v_iload_n C dX3_mixes_12 0 rfl ?_
      refine v_iconst (v := 0) C dX3_mixes_13 (by decide) ?_
      refine v_iast (ws' := mw g a _ _ _ (f, (nI n), (upd (z8 u k) _ _)) _ _ _) C dX3_mixes_14 5 rfl (ixn (by omega) (by decide)) rfl ?_
      refine v_iinc (lv' := [(3, _), (0, _), (1, _), (2, _)]) C dX3_mixes_15 0 rfl (nI_1 k) (by decide) rfl ?_
      refine v_goto C 2 dX3_mixes_18 (by decide) ?_
      exact hback
def M_X3_noBlend : Md := (yX3_noBlend, cX3_noBlend, 3, (some .int), 5, 130, 0, 0)
theorem ok_X3_noBlend : MOKv M_X3_noBlend 2 := ⟨q1457, qs77, q103, q1458, ⟨by decide +kernel, by decide +kernel, by decide +kernel⟩⟩
set_option maxHeartbeats 4000000 in
theorem m_noBlend (l : Launch) (g : GT) (a : Nat → Nat) (row : Nat → Int32) (books : Nat → Int64) (S : Int32 × (Nat → Int32)) (B : (Nat → Int32) × Int32 × (Nat → Int32)) (T : (Nat → Int32) × Int32) (P : Int32 × Int32 × (Nat → Int32) × Int32 × Int32) (h : Int64) (nb : Nat) (hnb : row 2 = nI nb) (hb8 : nb ≤ 8) (cn lg : Nat) (ci li : Int32) (ec : ci = nI cn) (el : li = nI lg) (hc : cn < 6) (hl : lg < 3) (hw0 : ¬ row (94 + 6 * cn + 1) = 0) : Ct l g M_X3_noBlend [.ref (a 0), .int ci, .int li] (mw g a row books S B T P h) (fun rv w => rv = some (.int (p_noBlend row nb cn lg)) ∧ ∃ B', w = mw g a row books S B' T P h) := by
  refine Ct.start2 (M := M_X3_noBlend) rfl [(0, .ref (a 0)), (1, .int ci), (2, .int li)] rfl (by decide +kernel) (Nat.le_of_ble_eq_true rfl) ?_
  intro p e s m args below meth c A C
  subst ec; subst el
  refine v_aload_n C dX3_noBlend_0 0 rfl ?_
  refine v_iload_n C dX3_noBlend_1 2 rfl ?_
  refine v_callVw C (m_stands l g a _ _ _ _ _ _ _ lg _ rfl (by omega)) ok_X3_stands rfl q1312 rfl (Nat.le_of_ble_eq_true rfl) 0 rfl rfl rfl dX3_noBlend_2 (roomL rfl rfl) ⟨rfl, rfl⟩ ?_
  refine v_if_eqB C 10 dX3_noBlend_5 (by decide) (fun c5_1 => ?_) (fun c5_1 => ?_)
  · skip
    refine v_aload_n C dX3_noBlend_10 0 rfl ?_
    refine v_iload_n C dX3_noBlend_11 1 rfl ?_
    refine v_iload_n C dX3_noBlend_12 2 rfl ?_
    refine v_callVp C (m_finds l g a _ _ _ _ _ _ _ nb hnb hb8 cn lg _ _ rfl rfl (by omega) (by omega)) ok_X3_finds rfl q1459 rfl (Nat.le_of_ble_eq_true rfl) 0 rfl rfl rfl dX3_noBlend_13 (roomL rfl rfl) ⟨rfl, rfl⟩ ?_
    rintro _ ⟨f, rfl, hf⟩
    obtain ⟨hcn, hog⟩ := ogC_ok row cn lg nb
    refine v_aload_n C dX3_noBlend_16 0 rfl ?_
    refine v_iload_n C dX3_noBlend_17 1 rfl ?_
    refine v_iconst (v := 1) C dX3_noBlend_18 (by decide) ?_
    refine v_callVw C (m_ofContract l g a _ _ _ _ _ _ _ cn 1 _ _ rfl rfl (by omega)) ok_X3_ofContract rfl q1288 rfl (Nat.le_of_ble_eq_true rfl) 0 rfl rfl rfl dX3_noBlend_19 (roomL rfl rfl) ⟨rfl, rfl⟩ ?_
    refine v_icmp_ge C 28 dX3_noBlend_22 (by decide) (fun c22_2 => ?_) (fun c22_2 => ?_)
    · skip
      refine v_aload_n C dX3_noBlend_28 0 rfl ?_
      refine v_iconst (v := 0) C dX3_noBlend_29 (by decide) ?_
      refine v_aload_n C dX3_noBlend_30 0 rfl ?_
      refine v_iload_n C dX3_noBlend_31 1 rfl ?_
      refine v_iconst (v := 1) C dX3_noBlend_32 (by decide) ?_
      refine v_callVw C (m_ofContract l g a _ _ _ _ _ _ _ cn 1 _ _ rfl rfl (by omega)) ok_X3_ofContract rfl q1288 rfl (Nat.le_of_ble_eq_true rfl) 0 rfl rfl rfl dX3_noBlend_33 (roomL rfl rfl) ⟨rfl, rfl⟩ ?_
      refine v_callVw C (m_mixes l g a _ _ _ _ _ _ _ (cnN row nb cn lg) (ogN row nb cn lg) rfl (Nat.le_trans hcn hb8) hf (fun k hk => Nat.lt_of_lt_of_le (hog k hk).1 hb8) _ _ (ne0_l (by rw [show (0 : Int32) + row (94 + 6 * cn + 1) = row (94 + 6 * cn + 1) from Int32.zero_add _]; exact hw0))) ok_X3_mixes rfl q1467 rfl (Nat.le_of_ble_eq_true rfl) 0 rfl rfl rfl dX3_noBlend_36 (roomL rfl rfl) ⟨rfl, rfl⟩ ?_
      refine v_aload_n C dX3_noBlend_39 0 rfl ?_
      refine v_iload_n C dX3_noBlend_40 1 rfl ?_
      refine v_iconst (v := 2) C dX3_noBlend_41 (by decide) ?_
      refine v_callVw C (m_ofContract l g a _ _ _ _ _ _ _ cn 2 _ _ rfl rfl (by omega)) ok_X3_ofContract rfl q1288 rfl (Nat.le_of_ble_eq_true rfl) 0 rfl rfl rfl dX3_noBlend_42 (roomL rfl rfl) ⟨rfl, rfl⟩ ?_
      refine v_icmp_le C 53 dX3_noBlend_45 (by decide) (fun c45_3 => ?_) (fun c45_3 => ?_)
      · skip
        refine v_iconst (v := 0) C dX3_noBlend_53 (by decide) ?_
        exact v_iret C dX3_noBlend_54 (Nat.le_of_ble_eq_true rfl) (Nat.le_of_ble_eq_true rfl) (by unfold p_noBlend; rw [if_neg c5_1, if_pos c22_2, if_pos c45_3]; exact ⟨rfl, _, rfl⟩)
      · skip
        refine v_bipush (v := 8) C dX3_noBlend_48 (by decide) ?_
        refine v_goto C 54 dX3_noBlend_50 (by decide) ?_
        exact v_iret C dX3_noBlend_54 (Nat.le_of_ble_eq_true rfl) (Nat.le_of_ble_eq_true rfl) (by unfold p_noBlend; rw [if_neg c5_1, if_pos c22_2, if_neg c45_3]; exact ⟨rfl, _, rfl⟩)
    · skip
      refine v_bipush (v := 7) C dX3_noBlend_25 (by decide) ?_
      exact v_iret C dX3_noBlend_27 (Nat.le_of_ble_eq_true rfl) (Nat.le_of_ble_eq_true rfl) (by unfold p_noBlend; rw [if_neg c5_1, if_neg c22_2]; exact ⟨rfl, _, rfl⟩)
  · skip
    refine v_iconst (v := 1) C dX3_noBlend_8 (by decide) ?_
    exact v_iret C dX3_noBlend_9 (Nat.le_of_ble_eq_true rfl) (Nat.le_of_ble_eq_true rfl) (by unfold p_noBlend; rw [if_pos c5_1]; exact ⟨rfl, _, rfl⟩)
def M_X3_best : Md := (yX3_best, cX3_best, 8, (some .int), 5, 130, 0, 0)
theorem ok_X3_best : MOKv M_X3_best 2 := ⟨q1473, qs81, q103, q1474, ⟨by decide +kernel, by decide +kernel, by decide +kernel⟩⟩
set_option maxHeartbeats 4000000 in
theorem m_best (l : Launch) (g : GT) (a : Nat → Nat) (row : Nat → Int32) (books : Nat → Int64) (S : Int32 × (Nat → Int32)) (B : (Nat → Int32) × Int32 × (Nat → Int32)) (T : (Nat → Int32) × Int32) (P : Int32 × Int32 × (Nat → Int32) × Int32 × Int32) (h : Int64) (nb : Nat) (hnb : row 2 = nI nb) (hb8 : nb ≤ 8) (cn lg : Nat) (ci li : Int32) (ec : ci = nI cn) (el : li = nI lg) (hc : cn < 6) (hl : lg < 3) (wd : Nat) (hw : row (94 + 6 * cn + 1) = nI wd) (hw1 : 0 < wd) (hw2 : wd ≤ 20000) : Ct l g M_X3_best [.ref (a 0), .int ci, .int li] (mw g a row books S B T P h) (fun rv w => rv = some (.int (p_best row nb cn lg)) ∧ ∃ f u, w = mw g a row books S (f, nI (cnN row nb cn lg), u) T P h ∧ ordOk f (ogN row nb cn lg) (cnN row nb cn lg)) := by
  refine Ct.start2 (M := M_X3_best) rfl [(0, .ref (a 0)), (1, .int ci), (2, .int li)] rfl (by decide +kernel) (Nat.le_of_ble_eq_true rfl) ?_
  intro p e s m args below meth c A C
  subst ec; subst el
  have hwc : (row (94 + 6 * cn + 1)).toNatClampNeg = wd := by rw [hw]; exact nI_clamp (by omega)
  refine v_aload_n C dX3_best_0 0 rfl ?_
  refine v_iload_n C dX3_best_1 1 rfl ?_
  refine v_iload_n C dX3_best_2 2 rfl ?_
  refine v_callVp C (m_finds l g a _ _ _ _ _ _ _ nb hnb hb8 cn lg _ _ rfl rfl (by omega) (by omega)) ok_X3_finds rfl q1459 rfl (Nat.le_of_ble_eq_true rfl) 0 rfl rfl rfl dX3_best_3 (roomL rfl rfl) ⟨rfl, rfl⟩ ?_
  rintro _ ⟨f, rfl, hf⟩
  obtain ⟨hcn, hog⟩ := ogC_ok row cn lg nb
  refine v_istore_n (lv' := [(3, _), (0, _), (1, _), (2, _)]) C dX3_best_6 rfl (by decide) rfl ?_
  refine v_aload_n C dX3_best_7 1 rfl ?_
  refine v_iload_n C dX3_best_8 2 rfl ?_
  refine v_iconst (v := 1) C dX3_best_9 (by decide) ?_
  refine v_callVw C (m_ofContract l g a _ _ _ _ _ _ _ cn 1 _ _ rfl rfl (by omega)) ok_X3_ofContract rfl q1288 rfl (Nat.le_of_ble_eq_true rfl) 0 rfl rfl rfl dX3_best_10 (roomL rfl rfl) ⟨rfl, rfl⟩ ?_
  refine v_eqi hw ?_
  refine v_istore (lv' := [(4, _), (3, _), (0, _), (1, _), (2, _)]) C dX3_best_13 (by decide) rfl ?_
  refine v_iconst (v := 0) C dX3_best_15 (by decide) ?_
  refine v_istore (lv' := [(5, _), (4, _), (3, _), (0, _), (1, _), (2, _)]) C dX3_best_16 (by decide) rfl ?_
  refine v_iload C dX3_best_18 1 rfl ?_
  refine v_iconst (v := 1) C dX3_best_20 (by decide) ?_
  refine v_iadd C dX3_best_21 ?_
  refine v_eqi (nI_add wd 1) ?_
  refine v_istore (lv' := [(6, _), (5, _), (4, _), (3, _), (0, _), (1, _), (2, _)]) C dX3_best_22 (by decide) rfl ?_
  refine v_lvp (lv' := [(6, _), (5, _), (4, _), (0, _), (1, _), (2, _)]) [0, 1, 2, 4, 5, 6] rfl ?_
  refine v_while (α := Nat × Nat × Nat × (Nat → Int32)) (fun x => x.2.2.1 - x.2.1) (fun x => x.2.1 < x.2.2.1 ∧ x.2.2.1 ≤ wd + 1 ∧ x.2.2.1 - x.2.1 ≤ x.1 ∧ bsr (bestT row (ogN row nb cn lg) (cnN row nb cn lg) (row (94 + 6 * cn + 1)).toNatClampNeg (row (94 + 6 * cn + 2))) ((row (94 + 6 * cn + 1)).toNatClampNeg + 1) 0 ((row (94 + 6 * cn + 1)).toNatClampNeg + 1) = bsr (bestT row (ogN row nb cn lg) (cnN row nb cn lg) (row (94 + 6 * cn + 1)).toNatClampNeg (row (94 + 6 * cn + 2))) x.1 x.2.1 x.2.2.1) (fun x => [(6, .int (nI x.2.2.1)), (5, .int (nI x.2.1)), (4, .int (nI wd)), (0, .ref (a 0)), (1, .int (nI cn)), (2, .int (nI lg))]) (fun x => mw g a row books S (f, nI (cnN row nb cn lg), x.2.2.2) T P h) (wd + 1, 0, wd + 1, B.2.2) rfl rfl ⟨by dsimp only; omega, by dsimp only; omega, by dsimp only; omega, by dsimp only; rw [hwc]⟩ ?_
  rintro ⟨fu, lo, hi, u⟩ ⟨h1, h2, h3, hfin⟩ ih
  dsimp only at h1 h2 h3 hfin ih ⊢
  obtain ⟨fu, rfl⟩ : ∃ z, fu = z + 1 := ⟨fu - 1, by omega⟩
  refine v_iload C dX3_best_24 0 rfl ?_
  refine v_iload C dX3_best_26 1 rfl ?_
  refine v_isub C dX3_best_28 ?_
  refine v_eqi (pk_sub (Nat.le_of_lt h1)) ?_
  refine v_iconst (v := 1) C dX3_best_29 (by decide) ?_
  refine v_icmp_le C 76 dX3_best_30 (by decide) (fun c30_1 => ?_) (fun c30_1 => ?_)
  · skip
    have hle : hi - lo ≤ 1 := (nI_leI (by omega) (by decide)).mp c30_1
    refine v_iload C dX3_best_76 1 rfl ?_
    exact v_iret C dX3_best_78 (Nat.le_of_ble_eq_true rfl) (Nat.le_of_ble_eq_true rfl) ⟨by rw [p_best, p_bestN, hfin, bsr, if_pos hle], f, _, rfl, hf⟩
  · skip
    have hgt : ¬ hi - lo ≤ 1 := fun q => c30_1 ((nI_leI (by omega) (by decide)).mpr q)
    refine v_iload C dX3_best_33 1 rfl ?_
    refine v_iload C dX3_best_35 0 rfl ?_
    refine v_iadd C dX3_best_37 ?_
    refine v_eqi (nI_add lo hi) ?_
    refine v_iconst (v := 2) C dX3_best_38 (by decide) ?_
    refine v_idiv C dX3_best_39 (by decide) ?_
    refine v_eqi (pk_div (a := lo + hi) (d := 2) (by omega) (by decide) (by decide)) ?_
    refine v_istore (lv' := [(7, _), (6, _), (5, _), (4, _), (0, _), (1, _), (2, _)]) C dX3_best_40 (by decide) rfl ?_
    refine v_aload_n C dX3_best_42 4 rfl ?_
    refine v_iload C dX3_best_43 0 rfl ?_
    refine v_iload C dX3_best_45 3 rfl ?_
    refine v_iload C dX3_best_47 0 rfl ?_
    refine v_isub C dX3_best_49 ?_
    refine v_callVw C (m_mixes l g a _ _ _ _ _ _ _ (cnN row nb cn lg) (ogN row nb cn lg) rfl (Nat.le_trans hcn hb8) hf (fun k hk => Nat.lt_of_lt_of_le (hog k hk).1 hb8) _ _ (ne0_l (by rw [addsub]; exact nI_ne0 hw1 (by omega)))) ok_X3_mixes rfl q1467 rfl (Nat.le_of_ble_eq_true rfl) 0 rfl rfl rfl dX3_best_50 (roomL rfl rfl) ⟨rfl, rfl⟩ ?_
    refine v_aload_n C dX3_best_53 4 rfl ?_
    refine v_iload_n C dX3_best_54 5 rfl ?_
    refine v_iconst (v := 2) C dX3_best_55 (by decide) ?_
    refine v_callVw C (m_ofContract l g a _ _ _ _ _ _ _ cn 2 _ _ rfl rfl (by omega)) ok_X3_ofContract rfl q1288 rfl (Nat.le_of_ble_eq_true rfl) 0 rfl rfl rfl dX3_best_56 (roomL rfl rfl) ⟨rfl, rfl⟩ ?_
    refine v_icmp_gt C 69 dX3_best_59 (by decide) (fun c59_2 => ?_) (fun c59_2 => ?_)
    · skip
      refine v_iload C dX3_best_69 0 rfl ?_
      refine v_istore (lv' := [(6, _), (7, _), (5, _), (4, _), (0, _), (1, _), (2, _)]) C dX3_best_71 (by decide) rfl ?_
      refine v_goto C 24 dX3_best_73 (by decide) ?_
      refine v_lvp (lv' := [(6, _), (5, _), (4, _), (0, _), (1, _), (2, _)]) [0, 2, 3, 4, 5, 6] rfl ?_
      have ht : ¬ bestT row (ogN row nb cn lg) (cnN row nb cn lg) (row (94 + 6 * cn + 1)).toNatClampNeg (row (94 + 6 * cn + 2)) ((lo + hi) / 2) = true := by
        unfold bestT; rw [hwc, decide_eq_true_eq]; exact Int32.not_le.mpr c59_2
      exact ih (fu, lo, (lo + hi) / 2, mixU row (ogN row nb cn lg) (cnN row nb cn lg) (nI ((lo + hi) / 2)) (nI wd - nI ((lo + hi) / 2))) ⟨by dsimp only; omega, by dsimp only; omega, by dsimp only; omega, by dsimp only; rw [hfin, bsr, if_neg hgt, if_neg ht]⟩ (by dsimp only; omega)
    · skip
      refine v_iload C dX3_best_62 0 rfl ?_
      refine v_istore (lv' := [(5, _), (7, _), (6, _), (4, _), (0, _), (1, _), (2, _)]) C dX3_best_64 (by decide) rfl ?_
      refine v_goto C 73 dX3_best_66 (by decide) ?_
      refine v_goto C 24 dX3_best_73 (by decide) ?_
      refine v_lvp (lv' := [(6, _), (5, _), (4, _), (0, _), (1, _), (2, _)]) [2, 0, 3, 4, 5, 6] rfl ?_
      have ht : bestT row (ogN row nb cn lg) (cnN row nb cn lg) (row (94 + 6 * cn + 1)).toNatClampNeg (row (94 + 6 * cn + 2)) ((lo + hi) / 2) = true := by
        unfold bestT; rw [hwc, decide_eq_true_eq]; exact Int32.not_lt.mp c59_2
      exact ih (fu, (lo + hi) / 2, hi, mixU row (ogN row nb cn lg) (cnN row nb cn lg) (nI ((lo + hi) / 2)) (nI wd - nI ((lo + hi) / 2))) ⟨by dsimp only; omega, by dsimp only; omega, by dsimp only; omega, by dsimp only; rw [hfin, bsr, if_neg hgt, if_pos ht]⟩ (by dsimp only; omega)
def M_X3_blend : Md := (yX3_blend, cX3_blend, 3, (some .int), 6, 157, 0, 0)
theorem ok_X3_blend : MOKv M_X3_blend 2 := ⟨q1452, q1453, q103, q1454, ⟨by decide +kernel, by decide +kernel, by decide +kernel⟩⟩
set_option maxHeartbeats 4000000 in
theorem m_blend (l : Launch) (g : GT) (a : Nat → Nat) (row : Nat → Int32) (books : Nat → Int64) (S : Int32 × (Nat → Int32)) (B : (Nat → Int32) × Int32 × (Nat → Int32)) (T : (Nat → Int32) × Int32) (P : Int32 × Int32 × (Nat → Int32) × Int32 × Int32) (h : Int64) (nb nl nc : Nat) (hnb : row 2 = nI nb) (hb8 : nb ≤ 8) (hnl : row 3 = nI nl) (hl3 : nl ≤ 3) (hnc : row 4 = nI nc) (hc6 : nc ≤ 6) (hcw : ∀ c, c < nc → ∃ wd, row (94 + 6 * c + 1) = nI wd ∧ 0 < wd ∧ wd ≤ 20000) (con leg : Int32) : Ct l g M_X3_blend [.ref (a 0), .int con, .int leg] (mw g a row books S B T P h) (fun rv w => rv = some (.int (p_blend row nb con leg)) ∧ ∃ B', w = mw g a row books S B' T P h) := by
  refine Ct.start2 (M := M_X3_blend) rfl [(0, .ref (a 0)), (1, .int con), (2, .int leg)] rfl (by decide +kernel) (Nat.le_of_ble_eq_true rfl) ?_
  intro p e s m args below meth c A C
  refine v_aload_n C dX3_blend_0 0 rfl ?_
  refine v_iload_n C dX3_blend_1 1 rfl ?_
  refine v_callVw C (m_isContract l g a _ _ _ _ _ _ _ _) ok_X3_isContract rfl q1447 rfl (Nat.le_of_ble_eq_true rfl) 0 rfl rfl rfl dX3_blend_2 (roomL rfl rfl) ⟨rfl, rfl⟩ ?_
  refine v_if_eqB C 16 dX3_blend_5 (by decide) (fun c5_1 => ?_) (fun c5_1 => ?_)
  · skip
    refine v_bipush (v := -2) C dX3_blend_16 (by decide) ?_
    exact v_iret C dX3_blend_18 (Nat.le_of_ble_eq_true rfl) (Nat.le_of_ble_eq_true rfl) (by unfold p_blend; rw [if_neg c5_1]; exact ⟨rfl, _, rfl⟩)
  · skip
    obtain ⟨ec, hc⟩ := isB_c hnc (by omega) c5_1
    obtain ⟨wd, hw, hw1, hw2⟩ := hcw _ hc
    have hw0 : ¬ row (94 + 6 * con.toNatClampNeg + 1) = 0 := by rw [hw]; exact nI_ne0 hw1 (by omega)
    refine v_aload_n C dX3_blend_8 0 rfl ?_
    refine v_iload_n C dX3_blend_9 2 rfl ?_
    refine v_callVw C (m_isLeg l g a _ _ _ _ _ _ _ _) ok_X3_isLeg rfl q1253 rfl (Nat.le_of_ble_eq_true rfl) 0 rfl rfl rfl dX3_blend_10 (roomL rfl rfl) ⟨rfl, rfl⟩ ?_
    refine v_if_neB C 19 dX3_blend_13 (by decide) (fun c13_2 => ?_) (fun c13_2 => ?_)
    · skip
      obtain ⟨el, hl⟩ := isB_c hnl (by omega) c13_2
      refine v_aload_n C dX3_blend_19 0 rfl ?_
      refine v_iload_n C dX3_blend_20 1 rfl ?_
      refine v_eqi ec ?_
      refine v_iload_n C dX3_blend_21 2 rfl ?_
      refine v_eqi el ?_
      refine v_callVp C (m_noBlend l g a _ _ _ _ _ _ _ nb hnb hb8 con.toNatClampNeg leg.toNatClampNeg _ _ rfl rfl (by omega) (by omega) hw0) ok_X3_noBlend rfl q1455 rfl (Nat.le_of_ble_eq_true rfl) 0 rfl rfl rfl dX3_blend_22 (roomL rfl rfl) ⟨rfl, rfl⟩ ?_
      rintro _ ⟨B1, rfl⟩
      refine v_if_le C 32 dX3_blend_25 (by decide) (fun c25_3 => ?_) (fun c25_3 => ?_)
      · skip
        refine v_aload_n C dX3_blend_32 0 rfl ?_
        refine v_iload_n C dX3_blend_33 1 rfl ?_
        refine v_eqi ec ?_
        refine v_iload_n C dX3_blend_34 2 rfl ?_
        refine v_eqi el ?_
        refine v_callVp C (m_best l g a _ _ _ _ _ _ _ nb hnb hb8 con.toNatClampNeg leg.toNatClampNeg _ _ rfl rfl (by omega) (by omega) wd hw hw1 hw2) ok_X3_best rfl q1471 rfl (Nat.le_of_ble_eq_true rfl) 0 rfl rfl rfl dX3_blend_35 (roomL rfl rfl) ⟨rfl, rfl⟩ ?_
        rintro _ ⟨f, u, rfl, hf⟩
        obtain ⟨hcn, hog⟩ := ogC_ok row con.toNatClampNeg leg.toNatClampNeg nb
        exact v_iret C dX3_blend_38 (Nat.le_of_ble_eq_true rfl) (Nat.le_of_ble_eq_true rfl) (by unfold p_blend; rw [if_pos c5_1, if_pos c13_2, if_pos c25_3]; exact ⟨rfl, _, rfl⟩)
      · skip
        refine v_iconst (v := -1) C dX3_blend_28 (by decide) ?_
        refine v_goto C 38 dX3_blend_29 (by decide) ?_
        exact v_iret C dX3_blend_38 (Nat.le_of_ble_eq_true rfl) (Nat.le_of_ble_eq_true rfl) (by unfold p_blend; rw [if_pos c5_1, if_pos c13_2, if_neg c25_3]; exact ⟨rfl, _, rfl⟩)
    · skip
      refine v_bipush (v := -2) C dX3_blend_16 (by decide) ?_
      exact v_iret C dX3_blend_18 (Nat.le_of_ble_eq_true rfl) (Nat.le_of_ble_eq_true rfl) (by unfold p_blend; rw [if_pos c5_1, if_neg c13_2]; exact ⟨rfl, _, rfl⟩)
def M_X3_whyNoBlend : Md := (yX3_whyNoBlend, cX3_whyNoBlend, 3, (some .int), 6, 152, 0, 0)
theorem ok_X3_whyNoBlend : MOKv M_X3_whyNoBlend 2 := ⟨q1476, q1477, q103, q1478, ⟨by decide +kernel, by decide +kernel, by decide +kernel⟩⟩
set_option maxHeartbeats 4000000 in
theorem m_whyNoBlend (l : Launch) (g : GT) (a : Nat → Nat) (row : Nat → Int32) (books : Nat → Int64) (S : Int32 × (Nat → Int32)) (B : (Nat → Int32) × Int32 × (Nat → Int32)) (T : (Nat → Int32) × Int32) (P : Int32 × Int32 × (Nat → Int32) × Int32 × Int32) (h : Int64) (nb nl nc : Nat) (hnb : row 2 = nI nb) (hb8 : nb ≤ 8) (hnl : row 3 = nI nl) (hl3 : nl ≤ 3) (hnc : row 4 = nI nc) (hc6 : nc ≤ 6) (hcw : ∀ c, c < nc → ∃ wd, row (94 + 6 * c + 1) = nI wd ∧ 0 < wd ∧ wd ≤ 20000) (con leg : Int32) : Ct l g M_X3_whyNoBlend [.ref (a 0), .int con, .int leg] (mw g a row books S B T P h) (fun rv w => rv = some (.int (p_whyNoBlend row nb con leg)) ∧ ∃ B', w = mw g a row books S B' T P h) := by
  refine Ct.start2 (M := M_X3_whyNoBlend) rfl [(0, .ref (a 0)), (1, .int con), (2, .int leg)] rfl (by decide +kernel) (Nat.le_of_ble_eq_true rfl) ?_
  intro p e s m args below meth c A C
  refine v_aload_n C dX3_whyNoBlend_0 0 rfl ?_
  refine v_iload_n C dX3_whyNoBlend_1 1 rfl ?_
  refine v_callVw C (m_isContract l g a _ _ _ _ _ _ _ _) ok_X3_isContract rfl q1447 rfl (Nat.le_of_ble_eq_true rfl) 0 rfl rfl rfl dX3_whyNoBlend_2 (roomL rfl rfl) ⟨rfl, rfl⟩ ?_
  refine v_if_eqB C 25 dX3_whyNoBlend_5 (by decide) (fun c5_1 => ?_) (fun c5_1 => ?_)
  · skip
    refine v_bipush (v := -2) C dX3_whyNoBlend_25 (by decide) ?_
    exact v_iret C dX3_whyNoBlend_27 (Nat.le_of_ble_eq_true rfl) (Nat.le_of_ble_eq_true rfl) (by unfold p_whyNoBlend; rw [if_neg c5_1]; exact ⟨rfl, _, rfl⟩)
  · skip
    obtain ⟨ec, hc⟩ := isB_c hnc (by omega) c5_1
    obtain ⟨wd, hw, hw1, hw2⟩ := hcw _ hc
    have hw0 : ¬ row (94 + 6 * con.toNatClampNeg + 1) = 0 := by rw [hw]; exact nI_ne0 hw1 (by omega)
    refine v_aload_n C dX3_whyNoBlend_8 0 rfl ?_
    refine v_iload_n C dX3_whyNoBlend_9 2 rfl ?_
    refine v_callVw C (m_isLeg l g a _ _ _ _ _ _ _ _) ok_X3_isLeg rfl q1253 rfl (Nat.le_of_ble_eq_true rfl) 0 rfl rfl rfl dX3_whyNoBlend_10 (roomL rfl rfl) ⟨rfl, rfl⟩ ?_
    refine v_if_eqB C 25 dX3_whyNoBlend_13 (by decide) (fun c13_2 => ?_) (fun c13_2 => ?_)
    · skip
      refine v_bipush (v := -2) C dX3_whyNoBlend_25 (by decide) ?_
      exact v_iret C dX3_whyNoBlend_27 (Nat.le_of_ble_eq_true rfl) (Nat.le_of_ble_eq_true rfl) (by unfold p_whyNoBlend; rw [if_pos c5_1, if_neg c13_2]; exact ⟨rfl, _, rfl⟩)
    · skip
      obtain ⟨el, hl⟩ := isB_c hnl (by omega) c13_2
      refine v_aload_n C dX3_whyNoBlend_16 0 rfl ?_
      refine v_iload_n C dX3_whyNoBlend_17 1 rfl ?_
      refine v_eqi ec ?_
      refine v_iload_n C dX3_whyNoBlend_18 2 rfl ?_
      refine v_eqi el ?_
      refine v_callVp C (m_noBlend l g a _ _ _ _ _ _ _ nb hnb hb8 con.toNatClampNeg leg.toNatClampNeg _ _ rfl rfl (by omega) (by omega) hw0) ok_X3_noBlend rfl q1455 rfl (Nat.le_of_ble_eq_true rfl) 0 rfl rfl rfl dX3_whyNoBlend_19 (roomL rfl rfl) ⟨rfl, rfl⟩ ?_
      rintro _ ⟨B1, rfl⟩
      refine v_goto C 27 dX3_whyNoBlend_22 (by decide) ?_
      exact v_iret C dX3_whyNoBlend_27 (Nat.le_of_ble_eq_true rfl) (Nat.le_of_ble_eq_true rfl) (by unfold p_whyNoBlend; rw [if_pos c5_1, if_pos c13_2]; exact ⟨rfl, _, rfl⟩)
def M_X3_blendMoisture : Md := (yX3_blendMoisture, cX3_blendMoisture, 4, (some .int), 6, 157, 0, 0)
theorem ok_X3_blendMoisture : MOKv M_X3_blendMoisture 2 := ⟨q1484, q1485, q103, q1486, ⟨by decide +kernel, by decide +kernel, by decide +kernel⟩⟩
set_option maxHeartbeats 4000000 in
theorem m_blendMoisture (l : Launch) (g : GT) (a : Nat → Nat) (row : Nat → Int32) (books : Nat → Int64) (S : Int32 × (Nat → Int32)) (B : (Nat → Int32) × Int32 × (Nat → Int32)) (T : (Nat → Int32) × Int32) (P : Int32 × Int32 × (Nat → Int32) × Int32 × Int32) (h : Int64) (nb nl nc : Nat) (hnb : row 2 = nI nb) (hb8 : nb ≤ 8) (hnl : row 3 = nI nl) (hl3 : nl ≤ 3) (hnc : row 4 = nI nc) (hc6 : nc ≤ 6) (hcw : ∀ c, c < nc → ∃ wd, row (94 + 6 * c + 1) = nI wd ∧ 0 < wd ∧ wd ≤ 20000) (con leg : Int32) : Ct l g M_X3_blendMoisture [.ref (a 0), .int con, .int leg] (mw g a row books S B T P h) (fun rv w => rv = some (.int (p_blendMoisture row nb con leg)) ∧ ∃ B', w = mw g a row books S B' T P h) := by
  refine Ct.start2 (M := M_X3_blendMoisture) rfl [(0, .ref (a 0)), (1, .int con), (2, .int leg)] rfl (by decide +kernel) (Nat.le_of_ble_eq_true rfl) ?_
  intro p e s m args below meth c A C
  refine v_aload_n C dX3_blendMoisture_0 0 rfl ?_
  refine v_iload_n C dX3_blendMoisture_1 1 rfl ?_
  refine v_callVw C (m_isContract l g a _ _ _ _ _ _ _ _) ok_X3_isContract rfl q1447 rfl (Nat.le_of_ble_eq_true rfl) 0 rfl rfl rfl dX3_blendMoisture_2 (roomL rfl rfl) ⟨rfl, rfl⟩ ?_
  refine v_if_eqB C 16 dX3_blendMoisture_5 (by decide) (fun c5_1 => ?_) (fun c5_1 => ?_)
  · skip
    refine v_bipush (v := -2) C dX3_blendMoisture_16 (by decide) ?_
    exact v_iret C dX3_blendMoisture_18 (Nat.le_of_ble_eq_true rfl) (Nat.le_of_ble_eq_true rfl) (by unfold p_blendMoisture; rw [if_neg c5_1]; exact ⟨rfl, _, rfl⟩)
  · skip
    obtain ⟨ec, hc⟩ := isB_c hnc (by omega) c5_1
    obtain ⟨wd, hw, hw1, hw2⟩ := hcw _ hc
    have hw0 : ¬ row (94 + 6 * con.toNatClampNeg + 1) = 0 := by rw [hw]; exact nI_ne0 hw1 (by omega)
    refine v_aload_n C dX3_blendMoisture_8 0 rfl ?_
    refine v_iload_n C dX3_blendMoisture_9 2 rfl ?_
    refine v_callVw C (m_isLeg l g a _ _ _ _ _ _ _ _) ok_X3_isLeg rfl q1253 rfl (Nat.le_of_ble_eq_true rfl) 0 rfl rfl rfl dX3_blendMoisture_10 (roomL rfl rfl) ⟨rfl, rfl⟩ ?_
    refine v_if_neB C 19 dX3_blendMoisture_13 (by decide) (fun c13_2 => ?_) (fun c13_2 => ?_)
    · skip
      obtain ⟨el, hl⟩ := isB_c hnl (by omega) c13_2
      refine v_aload_n C dX3_blendMoisture_19 0 rfl ?_
      refine v_iload_n C dX3_blendMoisture_20 1 rfl ?_
      refine v_eqi ec ?_
      refine v_iload_n C dX3_blendMoisture_21 2 rfl ?_
      refine v_eqi el ?_
      refine v_callVp C (m_noBlend l g a _ _ _ _ _ _ _ nb hnb hb8 con.toNatClampNeg leg.toNatClampNeg _ _ rfl rfl (by omega) (by omega) hw0) ok_X3_noBlend rfl q1455 rfl (Nat.le_of_ble_eq_true rfl) 0 rfl rfl rfl dX3_blendMoisture_22 (roomL rfl rfl) ⟨rfl, rfl⟩ ?_
      rintro _ ⟨B1, rfl⟩
      refine v_if_le C 30 dX3_blendMoisture_25 (by decide) (fun c25_3 => ?_) (fun c25_3 => ?_)
      · skip
        refine v_aload_n C dX3_blendMoisture_30 0 rfl ?_
        refine v_iload_n C dX3_blendMoisture_31 1 rfl ?_
        refine v_eqi ec ?_
        refine v_iload_n C dX3_blendMoisture_32 2 rfl ?_
        refine v_eqi el ?_
        refine v_callVp C (m_best l g a _ _ _ _ _ _ _ nb hnb hb8 con.toNatClampNeg leg.toNatClampNeg _ _ rfl rfl (by omega) (by omega) wd hw hw1 hw2) ok_X3_best rfl q1471 rfl (Nat.le_of_ble_eq_true rfl) 0 rfl rfl rfl dX3_blendMoisture_33 (roomL rfl rfl) ⟨rfl, rfl⟩ ?_
        rintro _ ⟨f, u, rfl, hf⟩
        obtain ⟨hcn, hog⟩ := ogC_ok row con.toNatClampNeg leg.toNatClampNeg nb
        refine v_istore_n (lv' := [(3, _), (0, _), (1, _), (2, _)]) C dX3_blendMoisture_36 rfl (by decide) rfl ?_
        refine v_aload_n C dX3_blendMoisture_37 1 rfl ?_
        refine v_iload_n C dX3_blendMoisture_38 0 rfl ?_
        refine v_aload_n C dX3_blendMoisture_39 1 rfl ?_
        refine v_iload_n C dX3_blendMoisture_40 2 rfl ?_
        refine v_eqi ec ?_
        refine v_iconst (v := 1) C dX3_blendMoisture_41 (by decide) ?_
        refine v_callVw C (m_ofContract l g a _ _ _ _ _ _ _ (con.toNatClampNeg) 1 _ _ rfl rfl (by omega)) ok_X3_ofContract rfl q1288 rfl (Nat.le_of_ble_eq_true rfl) 0 rfl rfl rfl dX3_blendMoisture_42 (roomL rfl rfl) ⟨rfl, rfl⟩ ?_
        refine v_iload_n C dX3_blendMoisture_45 0 rfl ?_
        refine v_isub C dX3_blendMoisture_46 ?_
        refine v_callVw C (m_mixes l g a _ _ _ _ _ _ _ (cnN row nb con.toNatClampNeg leg.toNatClampNeg) (ogN row nb con.toNatClampNeg leg.toNatClampNeg) rfl (Nat.le_trans hcn hb8) hf (fun k hk => Nat.lt_of_lt_of_le (hog k hk).1 hb8) _ _ (ne0_l (by rw [addsub]; exact hw0))) ok_X3_mixes rfl q1467 rfl (Nat.le_of_ble_eq_true rfl) 0 rfl rfl rfl dX3_blendMoisture_47 (roomL rfl rfl) ⟨rfl, rfl⟩ ?_
        exact v_iret C dX3_blendMoisture_50 (Nat.le_of_ble_eq_true rfl) (Nat.le_of_ble_eq_true rfl) (by unfold p_blendMoisture; rw [if_pos c5_1, if_pos c13_2, if_pos c25_3]; exact ⟨rfl, _, rfl⟩)
      · skip
        refine v_iconst (v := -1) C dX3_blendMoisture_28 (by decide) ?_
        exact v_iret C dX3_blendMoisture_29 (Nat.le_of_ble_eq_true rfl) (Nat.le_of_ble_eq_true rfl) (by unfold p_blendMoisture; rw [if_pos c5_1, if_pos c13_2, if_neg c25_3]; exact ⟨rfl, _, rfl⟩)
    · skip
      refine v_bipush (v := -2) C dX3_blendMoisture_16 (by decide) ?_
      exact v_iret C dX3_blendMoisture_18 (Nat.le_of_ble_eq_true rfl) (Nat.le_of_ble_eq_true rfl) (by unfold p_blendMoisture; rw [if_pos c5_1, if_neg c13_2]; exact ⟨rfl, _, rfl⟩)
def M_X3_fromBin : Md := (yX3_fromBin, cX3_fromBin, 6, (some .int), 6, 157, 0, 0)
theorem ok_X3_fromBin : MOKv M_X3_fromBin 3 := ⟨q1480, q1481, q103, q1482, ⟨by decide +kernel, by decide +kernel, by decide +kernel⟩⟩
set_option maxHeartbeats 4000000 in
theorem m_fromBin (l : Launch) (g : GT) (a : Nat → Nat) (row : Nat → Int32) (books : Nat → Int64) (S : Int32 × (Nat → Int32)) (B : (Nat → Int32) × Int32 × (Nat → Int32)) (T : (Nat → Int32) × Int32) (P : Int32 × Int32 × (Nat → Int32) × Int32 × Int32) (h : Int64) (nb nl nc : Nat) (hnb : row 2 = nI nb) (hb8 : nb ≤ 8) (hnl : row 3 = nI nl) (hl3 : nl ≤ 3) (hnc : row 4 = nI nc) (hc6 : nc ≤ 6) (hcw : ∀ c, c < nc → ∃ wd, row (94 + 6 * c + 1) = nI wd ∧ 0 < wd ∧ wd ≤ 20000) (con leg bin : Int32) : Ct l g M_X3_fromBin [.ref (a 0), .int con, .int leg, .int bin] (mw g a row books S B T P h) (fun rv w => rv = some (.int (p_fromBin row nb con leg bin)) ∧ ∃ B', w = mw g a row books S B' T P h) := by
  refine Ct.start2 (M := M_X3_fromBin) rfl [(0, .ref (a 0)), (1, .int con), (2, .int leg), (3, .int bin)] rfl (by decide +kernel) (Nat.le_of_ble_eq_true rfl) ?_
  intro p e s m args below meth c A C
  refine v_aload_n C dX3_fromBin_0 0 rfl ?_
  refine v_iload_n C dX3_fromBin_1 1 rfl ?_
  refine v_callVw C (m_isContract l g a _ _ _ _ _ _ _ _) ok_X3_isContract rfl q1447 rfl (Nat.le_of_ble_eq_true rfl) 0 rfl rfl rfl dX3_fromBin_2 (roomL rfl rfl) ⟨rfl, rfl⟩ ?_
  refine v_if_eqB C 24 dX3_fromBin_5 (by decide) (fun c5_1 => ?_) (fun c5_1 => ?_)
  · skip
    refine v_bipush (v := -2) C dX3_fromBin_24 (by decide) ?_
    exact v_iret C dX3_fromBin_26 (Nat.le_of_ble_eq_true rfl) (Nat.le_of_ble_eq_true rfl) (by unfold p_fromBin; rw [if_neg c5_1]; exact ⟨rfl, _, rfl⟩)
  · skip
    obtain ⟨ec, hc⟩ := isB_c hnc (by omega) c5_1
    obtain ⟨wd, hw, hw1, hw2⟩ := hcw _ hc
    have hw0 : ¬ row (94 + 6 * con.toNatClampNeg + 1) = 0 := by rw [hw]; exact nI_ne0 hw1 (by omega)
    refine v_aload_n C dX3_fromBin_8 0 rfl ?_
    refine v_iload_n C dX3_fromBin_9 2 rfl ?_
    refine v_callVw C (m_isLeg l g a _ _ _ _ _ _ _ _) ok_X3_isLeg rfl q1253 rfl (Nat.le_of_ble_eq_true rfl) 0 rfl rfl rfl dX3_fromBin_10 (roomL rfl rfl) ⟨rfl, rfl⟩ ?_
    refine v_if_eqB C 24 dX3_fromBin_13 (by decide) (fun c13_2 => ?_) (fun c13_2 => ?_)
    · skip
      refine v_bipush (v := -2) C dX3_fromBin_24 (by decide) ?_
      exact v_iret C dX3_fromBin_26 (Nat.le_of_ble_eq_true rfl) (Nat.le_of_ble_eq_true rfl) (by unfold p_fromBin; rw [if_pos c5_1, if_neg c13_2]; exact ⟨rfl, _, rfl⟩)
    · skip
      obtain ⟨el, hl⟩ := isB_c hnl (by omega) c13_2
      refine v_aload_n C dX3_fromBin_16 0 rfl ?_
      refine v_iload_n C dX3_fromBin_17 3 rfl ?_
      refine v_callVw C (m_isBin l g a _ _ _ _ _ _ _ _) ok_X3_isBin rfl q1237 rfl (Nat.le_of_ble_eq_true rfl) 0 rfl rfl rfl dX3_fromBin_18 (roomL rfl rfl) ⟨rfl, rfl⟩ ?_
      refine v_if_neB C 27 dX3_fromBin_21 (by decide) (fun c21_3 => ?_) (fun c21_3 => ?_)
      · skip
        obtain ⟨eb, hb⟩ := isB_c hnb (by omega) c21_3
        refine v_aload_n C dX3_fromBin_27 0 rfl ?_
        refine v_iload_n C dX3_fromBin_28 1 rfl ?_
        refine v_eqi ec ?_
        refine v_iload_n C dX3_fromBin_29 2 rfl ?_
        refine v_eqi el ?_
        refine v_callVp C (m_noBlend l g a _ _ _ _ _ _ _ nb hnb hb8 con.toNatClampNeg leg.toNatClampNeg _ _ rfl rfl (by omega) (by omega) hw0) ok_X3_noBlend rfl q1455 rfl (Nat.le_of_ble_eq_true rfl) 0 rfl rfl rfl dX3_fromBin_30 (roomL rfl rfl) ⟨rfl, rfl⟩ ?_
        rintro _ ⟨B1, rfl⟩
        refine v_if_le C 38 dX3_fromBin_33 (by decide) (fun c33_4 => ?_) (fun c33_4 => ?_)
        · skip
          refine v_aload_n C dX3_fromBin_38 0 rfl ?_
          refine v_iload_n C dX3_fromBin_39 1 rfl ?_
          refine v_eqi ec ?_
          refine v_iload_n C dX3_fromBin_40 2 rfl ?_
          refine v_eqi el ?_
          refine v_callVp C (m_best l g a _ _ _ _ _ _ _ nb hnb hb8 con.toNatClampNeg leg.toNatClampNeg _ _ rfl rfl (by omega) (by omega) wd hw hw1 hw2) ok_X3_best rfl q1471 rfl (Nat.le_of_ble_eq_true rfl) 0 rfl rfl rfl dX3_fromBin_41 (roomL rfl rfl) ⟨rfl, rfl⟩ ?_
          rintro _ ⟨f, u, rfl, hf⟩
          obtain ⟨hcn, hog⟩ := ogC_ok row con.toNatClampNeg leg.toNatClampNeg nb
          refine v_istore (lv' := [(4, _), (0, _), (1, _), (2, _), (3, _)]) C dX3_fromBin_44 (by decide) rfl ?_
          refine v_aload_n C dX3_fromBin_46 1 rfl ?_
          refine v_iload C dX3_fromBin_47 0 rfl ?_
          refine v_aload_n C dX3_fromBin_49 1 rfl ?_
          refine v_iload_n C dX3_fromBin_50 2 rfl ?_
          refine v_eqi ec ?_
          refine v_iconst (v := 1) C dX3_fromBin_51 (by decide) ?_
          refine v_callVw C (m_ofContract l g a _ _ _ _ _ _ _ (con.toNatClampNeg) 1 _ _ rfl rfl (by omega)) ok_X3_ofContract rfl q1288 rfl (Nat.le_of_ble_eq_true rfl) 0 rfl rfl rfl dX3_fromBin_52 (roomL rfl rfl) ⟨rfl, rfl⟩ ?_
          refine v_iload C dX3_fromBin_55 0 rfl ?_
          refine v_isub C dX3_fromBin_57 ?_
          refine v_callVw C (m_mixes l g a _ _ _ _ _ _ _ (cnN row nb con.toNatClampNeg leg.toNatClampNeg) (ogN row nb con.toNatClampNeg leg.toNatClampNeg) rfl (Nat.le_trans hcn hb8) hf (fun k hk => Nat.lt_of_lt_of_le (hog k hk).1 hb8) _ _ (ne0_l (by rw [addsub]; exact hw0))) ok_X3_mixes rfl q1467 rfl (Nat.le_of_ble_eq_true rfl) 0 rfl rfl rfl dX3_fromBin_58 (roomL rfl rfl) ⟨rfl, rfl⟩ ?_
          refine v_istore (lv' := [(5, _), (4, _), (0, _), (1, _), (2, _), (3, _)]) C dX3_fromBin_61 (by decide) rfl ?_
          refine v_aload_n C dX3_fromBin_63 2 rfl ?_
          refine v_get C in_X3 rfl 0 rfl 6 (by decide) q1172 (fun _ h => h) rfl dX3_fromBin_64 ?_
          refine v_iload_n C dX3_fromBin_67 5 rfl ?_
          refine v_eqi eb ?_
          refine v_iald C dX3_fromBin_68 5 rfl (ixn (by omega) (by decide)) ?_
          exact v_iret C dX3_fromBin_69 (Nat.le_of_ble_eq_true rfl) (Nat.le_of_ble_eq_true rfl) (by unfold p_fromBin; rw [if_pos c5_1, if_pos c13_2, if_pos c21_3, if_pos c33_4]; exact ⟨rfl, _, rfl⟩)
        · skip
          refine v_iconst (v := -1) C dX3_fromBin_36 (by decide) ?_
          exact v_iret C dX3_fromBin_37 (Nat.le_of_ble_eq_true rfl) (Nat.le_of_ble_eq_true rfl) (by unfold p_fromBin; rw [if_pos c5_1, if_pos c13_2, if_pos c21_3, if_neg c33_4]; exact ⟨rfl, _, rfl⟩)
      · skip
        refine v_bipush (v := -2) C dX3_fromBin_24 (by decide) ?_
        exact v_iret C dX3_fromBin_26 (Nat.le_of_ble_eq_true rfl) (Nat.le_of_ble_eq_true rfl) (by unfold p_fromBin; rw [if_pos c5_1, if_pos c13_2, if_neg c21_3]; exact ⟨rfl, _, rfl⟩)
def M_X3_load : Md := (yX3_load, cX3_load, 8, (some .int), 6, 157, 0, 0)
theorem ok_X3_load : MOKv M_X3_load 2 := ⟨q1488, q1489, q103, q1490, ⟨by decide +kernel, by decide +kernel, by decide +kernel⟩⟩
set_option maxHeartbeats 4000000 in
theorem m_load (l : Launch) (g : GT) (a : Nat → Nat) (K : KT) (B : (Nat → Int32) × Int32 × (Nat → Int32)) (T : (Nat → Int32) × Int32) (P : Int32 × Int32 × (Nat → Int32) × Int32 × Int32) (h : Int64) (hK : KOk K) (hsp : ∀ l, l < nlK K → ¬ K.1 (82 + 4 * l + 0) = 0) (hcw : ∀ c, c < ncK K → ∃ wd, K.1 (94 + 6 * c + 1) = nI wd ∧ 0 < wd ∧ wd ≤ 20000) (con leg : Int32) : Ct l g M_X3_load [.ref (a 0), .int con, .int leg] (mw g a K.1 K.2.1 K.2.2 B T P h) (fun rv w => rv = some (.int (p_load K con leg).1) ∧ ∃ B', w = mw g a (p_load K con leg).2.1 (p_load K con leg).2.2.1 (p_load K con leg).2.2.2 B' T P h) := by
  refine Ct.start2 (M := M_X3_load) rfl [(0, .ref (a 0)), (1, .int con), (2, .int leg)] rfl (by decide +kernel) (Nat.le_of_ble_eq_true rfl) ?_
  intro p e s m args below meth c A C
  obtain ⟨⟨hnb, hb8⟩, ⟨hnl, hl3⟩, ⟨hnc, hc6⟩, hsv, hs5⟩ := id hK
  refine v_aload_n C dX3_load_0 0 rfl ?_
  refine v_iload_n C dX3_load_1 1 rfl ?_
  refine v_callVw C (m_isContract l g a _ _ _ _ _ _ _ _) ok_X3_isContract rfl q1447 rfl (Nat.le_of_ble_eq_true rfl) 0 rfl rfl rfl dX3_load_2 (roomL rfl rfl) ⟨rfl, rfl⟩ ?_
  refine v_if_eqB C 16 dX3_load_5 (by decide) (fun c5_1 => ?_) (fun c5_1 => ?_)
  · skip
    refine v_bipush (v := -2) C dX3_load_16 (by decide) ?_
    exact v_iret C dX3_load_18 (Nat.le_of_ble_eq_true rfl) (Nat.le_of_ble_eq_true rfl) (by unfold p_load; (try dsimp only); rw [if_neg c5_1]; exact ⟨rfl, _, rfl⟩)
  · skip
    obtain ⟨ec, hc⟩ := isB_c hnc (by omega) c5_1
    obtain ⟨wd, hw, hw1, hw2⟩ := hcw _ hc
    have hw0 : ¬ K.1 (94 + 6 * con.toNatClampNeg + 1) = 0 := by rw [hw]; exact nI_ne0 hw1 (by omega)
    refine v_aload_n C dX3_load_8 0 rfl ?_
    refine v_iload_n C dX3_load_9 2 rfl ?_
    refine v_callVw C (m_isLeg l g a _ _ _ _ _ _ _ _) ok_X3_isLeg rfl q1253 rfl (Nat.le_of_ble_eq_true rfl) 0 rfl rfl rfl dX3_load_10 (roomL rfl rfl) ⟨rfl, rfl⟩ ?_
    refine v_if_neB C 19 dX3_load_13 (by decide) (fun c13_2 => ?_) (fun c13_2 => ?_)
    · skip
      obtain ⟨el, hl⟩ := isB_c hnl (by omega) c13_2
      refine v_aload_n C dX3_load_19 0 rfl ?_
      refine v_iload_n C dX3_load_20 1 rfl ?_
      refine v_eqi ec ?_
      refine v_iconst (v := 4) C dX3_load_21 (by decide) ?_
      refine v_callVw C (m_ofContract l g a _ _ _ _ _ _ _ (con.toNatClampNeg) 4 _ _ rfl rfl (by omega)) ok_X3_ofContract rfl q1288 rfl (Nat.le_of_ble_eq_true rfl) 0 rfl rfl rfl dX3_load_22 (roomL rfl rfl) ⟨rfl, rfl⟩ ?_
      refine v_if_ne C 31 dX3_load_25 (by decide) (fun c25_3 => ?_) (fun c25_3 => ?_)
      · skip
        refine v_aload_n C dX3_load_31 0 rfl ?_
        refine v_iload_n C dX3_load_32 1 rfl ?_
        refine v_eqi ec ?_
        refine v_iload_n C dX3_load_33 2 rfl ?_
        refine v_eqi el ?_
        refine v_callVp C (m_noBlend l g a _ _ _ _ _ _ _ (nbK K) hnb hb8 con.toNatClampNeg leg.toNatClampNeg _ _ rfl rfl (by omega) (by omega) hw0) ok_X3_noBlend rfl q1455 rfl (Nat.le_of_ble_eq_true rfl) 0 rfl rfl rfl dX3_load_34 (roomL rfl rfl) ⟨rfl, rfl⟩ ?_
        rintro _ ⟨B1, rfl⟩
        refine v_istore_n (lv' := [(3, _), (0, _), (1, _), (2, _)]) C dX3_load_37 rfl (by decide) rfl ?_
        refine v_iload_n C dX3_load_38 0 rfl ?_
        refine v_if_le C 48 dX3_load_39 (by decide) (fun c39_4 => ?_) (fun c39_4 => ?_)
        · skip
          refine v_aload_n C dX3_load_48 1 rfl ?_
          refine v_iload_n C dX3_load_49 2 rfl ?_
          refine v_eqi ec ?_
          refine v_iload_n C dX3_load_50 3 rfl ?_
          refine v_eqi el ?_
          refine v_callVp C (m_best l g a _ _ _ _ _ _ _ (nbK K) hnb hb8 con.toNatClampNeg leg.toNatClampNeg _ _ rfl rfl (by omega) (by omega) wd hw hw1 hw2) ok_X3_best rfl q1471 rfl (Nat.le_of_ble_eq_true rfl) 0 rfl rfl rfl dX3_load_51 (roomL rfl rfl) ⟨rfl, rfl⟩ ?_
          rintro _ ⟨f, u, rfl, hf⟩
          obtain ⟨hcn, hog⟩ := ogC_ok K.1 con.toNatClampNeg leg.toNatClampNeg (nbK K)
          refine v_istore (lv' := [(4, _), (3, _), (0, _), (1, _), (2, _)]) C dX3_load_54 (by decide) rfl ?_
          refine v_aload_n C dX3_load_56 2 rfl ?_
          refine v_iload C dX3_load_57 0 rfl ?_
          refine v_aload_n C dX3_load_59 2 rfl ?_
          refine v_iload_n C dX3_load_60 3 rfl ?_
          refine v_eqi ec ?_
          refine v_iconst (v := 1) C dX3_load_61 (by decide) ?_
          refine v_callVw C (m_ofContract l g a _ _ _ _ _ _ _ (con.toNatClampNeg) 1 _ _ rfl rfl (by omega)) ok_X3_ofContract rfl q1288 rfl (Nat.le_of_ble_eq_true rfl) 0 rfl rfl rfl dX3_load_62 (roomL rfl rfl) ⟨rfl, rfl⟩ ?_
          refine v_iload C dX3_load_65 0 rfl ?_
          refine v_isub C dX3_load_67 ?_
          refine v_callVw C (m_mixes l g a _ _ _ _ _ _ _ (cnN K.1 (nbK K) con.toNatClampNeg leg.toNatClampNeg) (ogN K.1 (nbK K) con.toNatClampNeg leg.toNatClampNeg) rfl (Nat.le_trans hcn hb8) hf (fun k hk => Nat.lt_of_lt_of_le (hog k hk).1 hb8) _ _ (ne0_l (by rw [addsub]; exact hw0))) ok_X3_mixes rfl q1467 rfl (Nat.le_of_ble_eq_true rfl) 0 rfl rfl rfl dX3_load_68 (roomL rfl rfl) ⟨rfl, rfl⟩ ?_
          refine v_istore (lv' := [(5, _), (4, _), (3, _), (0, _), (1, _), (2, _)]) C dX3_load_71 (by decide) rfl ?_
          refine v_iconst (v := 0) C dX3_load_73 (by decide) ?_
          refine v_istore (lv' := [(6, _), (5, _), (4, _), (3, _), (0, _), (1, _), (2, _)]) C dX3_load_74 (by decide) rfl ?_
          refine v_iconst (v := 0) C dX3_load_76 (by decide) ?_
          refine v_istore (lv' := [(7, _), (6, _), (5, _), (4, _), (3, _), (0, _), (1, _), (2, _)]) C dX3_load_77 (by decide) rfl ?_
          refine v_lvp (lv' := [(7, _), (6, _), (5, _), (0, _), (1, _), (2, _)]) [0, 1, 2, 5, 6, 7] rfl ?_
          refine v_loop 0 (nbK K) (fun k => [(7, .int (nI k)), (6, .int (ldT (blU K.1 (nbK K) con.toNatClampNeg leg.toNatClampNeg) (K.1 (82 + 4 * leg.toNatClampNeg + 0)) k)), (5, .int (blM K.1 (nbK K) con.toNatClampNeg leg.toNatClampNeg)), (0, .ref (a 0)), (1, .int con), (2, .int leg)]) (fun k => mw g a K.1 K.2.1 K.2.2 (f, nI (cnN K.1 (nbK K) con.toNatClampNeg leg.toNatClampNeg), blU K.1 (nbK K) con.toNatClampNeg leg.toNatClampNeg) T P h) rfl rfl (by omega) ?_ ?_
          · skip
            refine v_iload C dX3_load_79 0 rfl ?_
            refine v_aload_n C dX3_load_81 3 rfl ?_
            refine v_get C in_X3 rfl 0 rfl 0 (by decide) q1166 (fun _ h => h) rfl dX3_load_82 ?_
            refine v_iconst (v := 2) C dX3_load_85 (by decide) ?_
            refine v_iald C dX3_load_86 1 rfl (j := 2) (ixl rfl) ?_
            refine v_eqi hnb ?_
            refine v_icmp_ge C 117 dX3_load_87 (by decide) (fun c87_5 => ?_) (fun c87_5 => ?_)
            · skip
              refine v_aload_n C dX3_load_117 3 rfl ?_
              refine v_get C in_X3 rfl 0 rfl 0 (by decide) q1166 (fun _ h => h) rfl dX3_load_118 ?_
              refine v_iconst (v := 0) C dX3_load_121 (by decide) ?_
              refine v_iald C dX3_load_122 1 rfl (j := 0) (ixl rfl) ?_
              refine v_iload C dX3_load_123 1 rfl ?_
              refine v_iadd C dX3_load_125 ?_
              refine v_ldc C dX3_load_126 q1351 ?_
              refine v_icmp_le C 134 dX3_load_128 (by decide) (fun c128_6 => ?_) (fun c128_6 => ?_)
              · skip
                refine v_aload_n C dX3_load_134 3 rfl ?_
                refine v_callVv C (m_saves l g a _ _ _ _ _ hK.2.2.2.1 hK.2.2.2.2) ok_X3_saves rfl q1221 rfl (Nat.le_of_ble_eq_true rfl) 0 rfl rfl rfl dX3_load_135 (roomL rfl rfl) ⟨rfl, rfl⟩ ?_
                refine v_iconst (v := 0) C dX3_load_138 (by decide) ?_
                refine v_istore (lv' := [(7, _), (6, _), (5, _), (0, _), (1, _), (2, _)]) C dX3_load_139 (by decide) rfl ?_
                refine v_lvp (lv' := [(7, _), (5, _), (0, _), (1, _), (2, _)]) [0, 2, 3, 4, 5] rfl ?_
                refine v_loop 0 (nbK K) (fun k => [(7, .int (nI k)), (5, .int (blM K.1 (nbK K) con.toNatClampNeg leg.toNatClampNeg)), (0, .ref (a 0)), (1, .int con), (2, .int leg)]) (fun k => mw g a (iter (ld1 (blU K.1 (nbK K) con.toNatClampNeg leg.toNatClampNeg) (nbK K) leg.toNatClampNeg) k (svK K).1) (svK K).2.1 (svK K).2.2 (f, nI (cnN K.1 (nbK K) con.toNatClampNeg leg.toNatClampNeg), blU K.1 (nbK K) con.toNatClampNeg leg.toNatClampNeg) T P h) rfl rfl (by omega) ?_ ?_
                · skip
                  have hrk2 : (iter (ld1 (blU K.1 (nbK K) con.toNatClampNeg leg.toNatClampNeg) (nbK K) leg.toNatClampNeg) (nbK K) (svK K).1) 2 = nI (nbK K) := (iter_ne hb8 (by omega) (by decide) (fun b _ => by omega) (fun b _ => by omega) (by omega)).trans (svK_2 hK)
                  refine v_iload C dX3_load_141 0 rfl ?_
                  refine v_aload_n C dX3_load_143 2 rfl ?_
                  refine v_get C in_X3 rfl 0 rfl 0 (by decide) q1166 (fun _ h => h) rfl dX3_load_144 ?_
                  refine v_iconst (v := 2) C dX3_load_147 (by decide) ?_
                  refine v_iald C dX3_load_148 1 rfl (j := 2) (ixl rfl) ?_
                  refine v_eqi hrk2 ?_
                  refine v_icmp_ge C 213 dX3_load_149 (by decide) (fun c149_7 => ?_) (fun c149_7 => ?_)
                  · skip
                    refine v_aload_n C dX3_load_213 2 rfl ?_
                    refine v_iload_n C dX3_load_214 3 rfl ?_
                    refine v_eqi ec ?_
                    refine v_iconst (v := 1) C dX3_load_215 (by decide) ?_
                    refine v_callVw C (m_ofContract l g a _ _ _ _ _ _ _ (con.toNatClampNeg) 1 _ _ rfl rfl (by omega)) ok_X3_ofContract rfl q1288 rfl (Nat.le_of_ble_eq_true rfl) 0 rfl rfl rfl dX3_load_216 (roomL rfl rfl) ⟨rfl, rfl⟩ ?_
                    refine v_aload_n C dX3_load_219 2 rfl ?_
                    refine v_iload_n C dX3_load_220 3 rfl ?_
                    refine v_eqi ec ?_
                    refine v_iconst (v := 3) C dX3_load_221 (by decide) ?_
                    refine v_callVw C (m_ofContract l g a _ _ _ _ _ _ _ (con.toNatClampNeg) 3 _ _ rfl rfl (by omega)) ok_X3_ofContract rfl q1288 rfl (Nat.le_of_ble_eq_true rfl) 0 rfl rfl rfl dX3_load_222 (roomL rfl rfl) ⟨rfl, rfl⟩ ?_
                    refine v_imul C dX3_load_225 ?_
                    refine v_istore (lv' := [(7, _), (5, _), (0, _), (1, _), (2, _)]) C dX3_load_226 (by decide) rfl ?_
                    refine v_aload_n C dX3_load_228 2 rfl ?_
                    refine v_get C in_X3 rfl 0 rfl 1 (by decide) q1167 (fun _ h => h) rfl dX3_load_229 ?_
                    refine v_iconst (v := 1) C dX3_load_232 (by decide) ?_
                    refine v_dup2_11 C dX3_load_233 rfl rfl ?_
                    refine v_lald C dX3_load_234 2 rfl (j := 1) (ixl rfl) ?_
                    refine v_aload_n C dX3_load_235 2 rfl ?_
                    refine v_iload_n C dX3_load_236 3 rfl ?_
                    refine v_eqi ec ?_
                    refine v_iconst (v := 1) C dX3_load_237 (by decide) ?_
                    refine v_callVw C (m_ofContract l g a _ _ _ _ _ _ _ (con.toNatClampNeg) 1 _ _ rfl rfl (by omega)) ok_X3_ofContract rfl q1288 rfl (Nat.le_of_ble_eq_true rfl) 0 rfl rfl rfl dX3_load_238 (roomL rfl rfl) ⟨rfl, rfl⟩ ?_
                    refine v_i2l C dX3_load_241 ?_
                    refine v_ladd C dX3_load_242 ?_
                    refine v_last (ws' := mw g a _ _ _ _ _ _ _) C dX3_load_243 2 rfl (j := 1) (ixl rfl) rfl ?_
                    refine v_aload_n C dX3_load_244 2 rfl ?_
                    refine v_get C in_X3 rfl 0 rfl 1 (by decide) q1167 (fun _ h => h) rfl dX3_load_245 ?_
                    refine v_iconst (v := 4) C dX3_load_248 (by decide) ?_
                    refine v_dup2_11 C dX3_load_249 rfl rfl ?_
                    refine v_lald C dX3_load_250 2 rfl (j := 4) (ixl rfl) ?_
                    refine v_iload C dX3_load_251 0 rfl ?_
                    refine v_i2l C dX3_load_253 ?_
                    refine v_ladd C dX3_load_254 ?_
                    refine v_last (ws' := mw g a _ _ _ _ _ _ _) C dX3_load_255 2 rfl (j := 4) (ixl rfl) rfl ?_
                    refine v_aload_n C dX3_load_256 2 rfl ?_
                    refine v_get C in_X3 rfl 0 rfl 0 (by decide) q1166 (fun _ h => h) rfl dX3_load_257 ?_
                    refine v_bipush (v := 94) C dX3_load_260 (by decide) ?_
                    refine v_bipush (v := 6) C dX3_load_262 (by decide) ?_
                    refine v_iload_n C dX3_load_264 3 rfl ?_
                    refine v_eqi ec ?_
                    refine v_imul C dX3_load_265 ?_
                    refine v_eqi (pk_mul 6 (con.toNatClampNeg)) ?_
                    refine v_iadd C dX3_load_266 ?_
                    refine v_eqi (nI_add 94 (6 * (con.toNatClampNeg))) ?_
                    refine v_iconst (v := 4) C dX3_load_267 (by decide) ?_
                    refine v_iadd C dX3_load_268 ?_
                    refine v_eqi (nI_add (94 + (6 * (con.toNatClampNeg))) 4) ?_
                    refine v_iconst (v := 0) C dX3_load_269 (by decide) ?_
                    refine v_iast (ws' := mw g a _ _ _ _ _ _ _) C dX3_load_270 1 rfl (ixn (by omega) (by decide)) rfl ?_
                    refine v_aload_n C dX3_load_271 2 rfl ?_
                    refine v_get C in_X3 rfl 0 rfl 0 (by decide) q1166 (fun _ h => h) rfl dX3_load_272 ?_
                    refine v_bipush (v := 94) C dX3_load_275 (by decide) ?_
                    refine v_bipush (v := 6) C dX3_load_277 (by decide) ?_
                    refine v_iload_n C dX3_load_279 3 rfl ?_
                    refine v_eqi ec ?_
                    refine v_imul C dX3_load_280 ?_
                    refine v_eqi (pk_mul 6 (con.toNatClampNeg)) ?_
                    refine v_iadd C dX3_load_281 ?_
                    refine v_eqi (nI_add 94 (6 * (con.toNatClampNeg))) ?_
                    refine v_iconst (v := 5) C dX3_load_282 (by decide) ?_
                    refine v_iadd C dX3_load_283 ?_
                    refine v_eqi (nI_add (94 + (6 * (con.toNatClampNeg))) 5) ?_
                    refine v_iload C dX3_load_284 1 rfl ?_
                    refine v_iast (ws' := mw g a _ _ _ _ _ _ _) C dX3_load_286 1 rfl (ixn (by omega) (by decide)) rfl ?_
                    refine v_iload C dX3_load_287 0 rfl ?_
                    exact v_iret C dX3_load_289 (Nat.le_of_ble_eq_true rfl) (Nat.le_of_ble_eq_true rfl) (by unfold p_load; (try dsimp only); rw [if_pos c5_1, if_pos c13_2, if_neg c25_3, if_pos c39_4, if_pos c128_6]; exact ⟨rfl, _, rfl⟩)
                  · exact absurd (Int32.le_refl _) c149_7
                · intro k hk hk0 hback
                  have hrk2 : (iter (ld1 (blU K.1 (nbK K) con.toNatClampNeg leg.toNatClampNeg) (nbK K) leg.toNatClampNeg) k (svK K).1) 2 = nI (nbK K) := (iter_ne hb8 (by omega) (by decide) (fun b _ => by omega) (fun b _ => by omega) (by omega)).trans (svK_2 hK)
                  have hspk : ¬ (iter (ld1 (blU K.1 (nbK K) con.toNatClampNeg leg.toNatClampNeg) (nbK K) leg.toNatClampNeg) k (svK K).1) (82 + 4 * leg.toNatClampNeg + 0) = 0 := by
                    rw [iter_ne hb8 (by omega) (by omega) (fun b _ => by omega) (fun b _ => by omega) (by omega), svK_lo _ (by omega)]; exact hsp _ hl
                  have hamt : ∀ mi, p_passes mi (iter (ld1 (blU K.1 (nbK K) con.toNatClampNeg leg.toNatClampNeg) (nbK K) leg.toNatClampNeg) k (svK K).1) (nbK K) (10 + 9 * k + 3) = K.1 (10 + 9 * k + 3) := fun mi => by
                    rw [show p_passes mi (iter (ld1 (blU K.1 (nbK K) con.toNatClampNeg leg.toNatClampNeg) (nbK K) leg.toNatClampNeg) k (svK K).1) (nbK K) (10 + 9 * k + 3) = _ from (pk_un (by omega)).trans (passB_ne (fun b _ => by omega)), iter_ne hb8 (by omega) (by omega) (fun b _ => by omega) (fun b _ => by omega) (by omega), svK_lo _ (by omega)]
                  refine v_iload C dX3_load_141 0 rfl ?_
                  refine v_aload_n C dX3_load_143 2 rfl ?_
                  refine v_get C in_X3 rfl 0 rfl 0 (by decide) q1166 (fun _ h => h) rfl dX3_load_144 ?_
                  refine v_iconst (v := 2) C dX3_load_147 (by decide) ?_
                  refine v_iald C dX3_load_148 1 rfl (j := 2) (ixl rfl) ?_
                  refine v_eqi hrk2 ?_
                  refine v_icmp_ge C 213 dX3_load_149 (by decide) (fun c149_8 => ?_) (fun c149_8 => ?_)
                  · exact absurd c149_8 (nI_ge hk (by first | decide | omega))
                  · skip
                    refine v_aload_n C dX3_load_152 2 rfl ?_
                    refine v_get C in_X3 rfl 0 rfl 6 (by decide) q1172 (fun _ h => h) rfl dX3_load_153 ?_
                    refine v_iload C dX3_load_156 0 rfl ?_
                    refine v_iald C dX3_load_158 5 rfl (ixn (by omega) (by decide)) ?_
                    refine v_if_le C 207 dX3_load_159 (by decide) (fun c159_9 => ?_) (fun c159_9 => ?_)
                    · skip
                      refine v_iinc (lv' := [(7, _), (5, _), (0, _), (1, _), (2, _)]) C dX3_load_207 0 rfl (nI_1 k) (by decide) rfl ?_
                      refine v_goto C 141 dX3_load_210 (by decide) ?_
                      have e1 := hback
                      rw [iter, ld1, if_pos c159_9] at e1
                      exact e1
                    · skip
                      have huk : ¬ (blU K.1 (nbK K) con.toNatClampNeg leg.toNatClampNeg) k = 0 := fun q => c159_9 (show (blU K.1 (nbK K) con.toNatClampNeg leg.toNatClampNeg) k ≤ 0 by rw [q]; exact Int32.le_refl _)
                      have hzk : ∀ mi, ¬ (blU K.1 (nbK K) con.toNatClampNeg leg.toNatClampNeg) k = p_passes mi (iter (ld1 (blU K.1 (nbK K) con.toNatClampNeg leg.toNatClampNeg) (nbK K) leg.toNatClampNeg) k (svK K).1) (nbK K) (10 + 9 * k + 3) → ¬ (p_passes mi (iter (ld1 (blU K.1 (nbK K) con.toNatClampNeg leg.toNatClampNeg) (nbK K) leg.toNatClampNeg) k (svK K).1) (nbK K) (10 + 9 * k + 3)).toInt64 = 0 := by
                        intro mi _
                        rw [hamt]
                        refine ne0_l (fun q0 => huk (mixU_sel (fun j hj e => ?_)))
                        have h2 := (hog j hj).2.1
                        rw [show (ogC K.1 con.toNatClampNeg leg.toNatClampNeg (nbK K)).1 j = k from e, q0] at h2
                        exact h2 (Int32.le_refl _)
                      refine v_aload_n C dX3_load_162 2 rfl ?_
                      refine v_aload_n C dX3_load_163 2 rfl ?_
                      refine v_get C in_X3 rfl 0 rfl 6 (by decide) q1172 (fun _ h => h) rfl dX3_load_164 ?_
                      refine v_iload C dX3_load_167 0 rfl ?_
                      refine v_iald C dX3_load_169 5 rfl (ixn (by omega) (by decide)) ?_
                      refine v_aload_n C dX3_load_170 2 rfl ?_
                      refine v_iload_n C dX3_load_171 4 rfl ?_
                      refine v_eqi el ?_
                      refine v_iconst (v := 0) C dX3_load_172 (by decide) ?_
                      refine v_callVw C (m_ofLeg l g a _ _ _ _ _ _ _ (leg.toNatClampNeg) 0 _ _ rfl rfl (by omega)) ok_X3_ofLeg rfl q1257 rfl (Nat.le_of_ble_eq_true rfl) 0 rfl rfl rfl dX3_load_173 (roomL rfl rfl) ⟨rfl, rfl⟩ ?_
                      refine v_callSp C (m_minutes l g _ _ hspk) ok_X3_minutes rfl q1348 rfl (Nat.le_of_ble_eq_true rfl) dX3_load_176 (roomL rfl rfl) ⟨rfl, rfl⟩ ?_
                      refine v_callVv C (m_passes l g a _ _ _ _ _ _ _ (nbK K) hrk2 hb8 _) ok_X3_passes rfl q1356 rfl (Nat.le_of_ble_eq_true rfl) 0 rfl rfl rfl dX3_load_179 (roomL rfl rfl) ⟨rfl, rfl⟩ ?_
                      refine v_aload_n C dX3_load_182 2 rfl ?_
                      refine v_iload_n C dX3_load_183 4 rfl ?_
                      refine v_eqi el ?_
                      refine v_aload_n C dX3_load_184 2 rfl ?_
                      refine v_get C in_X3 rfl 0 rfl 6 (by decide) q1172 (fun _ h => h) rfl dX3_load_185 ?_
                      refine v_iload C dX3_load_188 0 rfl ?_
                      refine v_iald C dX3_load_190 5 rfl (ixn (by omega) (by decide)) ?_
                      refine v_aload_n C dX3_load_191 2 rfl ?_
                      refine v_iload C dX3_load_192 0 rfl ?_
                      refine v_aload_n C dX3_load_194 2 rfl ?_
                      refine v_get C in_X3 rfl 0 rfl 6 (by decide) q1172 (fun _ h => h) rfl dX3_load_195 ?_
                      refine v_iload C dX3_load_198 0 rfl ?_
                      refine v_iald C dX3_load_200 5 rfl (ixn (by omega) (by decide)) ?_
                      refine v_callVw C (m_takes l g a _ _ _ _ _ _ _ k _ _ rfl (by omega) (hzk _)) ok_X3_takes rfl q1394 rfl (Nat.le_of_ble_eq_true rfl) 0 rfl rfl rfl dX3_load_201 (roomL rfl rfl) ⟨rfl, rfl⟩ ?_
                      refine v_callVv C (m_dusts l g a _ _ _ _ _ _ _ leg.toNatClampNeg _ _ _ rfl (by omega) huk) ok_X3_dusts rfl q1364 rfl (Nat.le_of_ble_eq_true rfl) 0 rfl rfl rfl dX3_load_204 (roomL rfl rfl) ⟨rfl, rfl⟩ ?_
                      refine v_iinc (lv' := [(7, _), (5, _), (0, _), (1, _), (2, _)]) C dX3_load_207 0 rfl (nI_1 k) (by decide) rfl ?_
                      refine v_goto C 141 dX3_load_210 (by decide) ?_
                      have e1 := hback
                      rw [iter, ld1, if_neg c159_9] at e1
                      exact e1
              · skip
                refine v_bipush (v := -5) C dX3_load_131 (by decide) ?_
                exact v_iret C dX3_load_133 (Nat.le_of_ble_eq_true rfl) (Nat.le_of_ble_eq_true rfl) (by unfold p_load; (try dsimp only); rw [if_pos c5_1, if_pos c13_2, if_neg c25_3, if_pos c39_4, if_neg c128_6]; exact ⟨rfl, _, rfl⟩)
            · exact absurd (Int32.le_refl _) c87_5
          · intro k hk hk0 hback
            refine v_iload C dX3_load_79 0 rfl ?_
            refine v_aload_n C dX3_load_81 3 rfl ?_
            refine v_get C in_X3 rfl 0 rfl 0 (by decide) q1166 (fun _ h => h) rfl dX3_load_82 ?_
            refine v_iconst (v := 2) C dX3_load_85 (by decide) ?_
            refine v_iald C dX3_load_86 1 rfl (j := 2) (ixl rfl) ?_
            refine v_eqi hnb ?_
            refine v_icmp_ge C 117 dX3_load_87 (by decide) (fun c87_10 => ?_) (fun c87_10 => ?_)
            · exact absurd c87_10 (nI_ge hk (by first | decide | omega))
            · skip
              refine v_iload C dX3_load_90 1 rfl ?_
              refine v_aload_n C dX3_load_92 3 rfl ?_
              refine v_get C in_X3 rfl 0 rfl 6 (by decide) q1172 (fun _ h => h) rfl dX3_load_93 ?_
              refine v_iload C dX3_load_96 0 rfl ?_
              refine v_iald C dX3_load_98 5 rfl (ixn (by omega) (by decide)) ?_
              refine v_aload_n C dX3_load_99 3 rfl ?_
              refine v_iload_n C dX3_load_100 5 rfl ?_
              refine v_eqi el ?_
              refine v_iconst (v := 0) C dX3_load_101 (by decide) ?_
              refine v_callVw C (m_ofLeg l g a _ _ _ _ _ _ _ (leg.toNatClampNeg) 0 _ _ rfl rfl (by omega)) ok_X3_ofLeg rfl q1257 rfl (Nat.le_of_ble_eq_true rfl) 0 rfl rfl rfl dX3_load_102 (roomL rfl rfl) ⟨rfl, rfl⟩ ?_
              refine v_callSp C (m_minutes l g _ _ (hsp _ hl)) ok_X3_minutes rfl q1348 rfl (Nat.le_of_ble_eq_true rfl) dX3_load_105 (roomL rfl rfl) ⟨rfl, rfl⟩ ?_
              refine v_iadd C dX3_load_108 ?_
              refine v_istore (lv' := [(6, _), (7, _), (5, _), (0, _), (1, _), (2, _)]) C dX3_load_109 (by decide) rfl ?_
              refine v_iinc (lv' := [(7, _), (6, _), (5, _), (0, _), (1, _), (2, _)]) C dX3_load_111 1 rfl (nI_1 k) (by decide) rfl ?_
              refine v_goto C 79 dX3_load_114 (by decide) ?_
              exact hback
        · skip
          refine v_aload_n C dX3_load_42 1 rfl ?_
          refine v_iload_n C dX3_load_43 0 rfl ?_
          refine v_callVw C (m_refuses l g a _ _ _ _ _ _ _ _) ok_X3_refuses rfl q1344 rfl (Nat.le_of_ble_eq_true rfl) 0 rfl rfl rfl dX3_load_44 (roomL rfl rfl) ⟨rfl, rfl⟩ ?_
          exact v_iret C dX3_load_47 (Nat.le_of_ble_eq_true rfl) (Nat.le_of_ble_eq_true rfl) (by unfold p_load; (try dsimp only); rw [if_pos c5_1, if_pos c13_2, if_neg c25_3, if_neg c39_4]; exact ⟨rfl, _, rfl⟩)
      · skip
        refine v_bipush (v := -4) C dX3_load_28 (by decide) ?_
        exact v_iret C dX3_load_30 (Nat.le_of_ble_eq_true rfl) (Nat.le_of_ble_eq_true rfl) (by unfold p_load; (try dsimp only); rw [if_pos c5_1, if_pos c13_2, if_pos c25_3]; exact ⟨rfl, _, rfl⟩)
    · skip
      refine v_bipush (v := -2) C dX3_load_16 (by decide) ?_
      exact v_iret C dX3_load_18 (Nat.le_of_ble_eq_true rfl) (Nat.le_of_ble_eq_true rfl) (by unfold p_load; (try dsimp only); rw [if_pos c5_1, if_neg c13_2]; exact ⟨rfl, _, rfl⟩)
