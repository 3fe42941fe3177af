/-! the model's parser: statements; load -/
theorem cS_up {S : Nat → Int32} {k : Nat} {x : Nat} (hx : x < 2147483648) : cS (upd S k (nI x)) k = x := by
  unfold cS
  rw [show upd S k (nI x) k = nI x from if_pos rfl]
  exact n_cl hx
theorem cS_ne {S : Nat → Int32} {k j : Nat} {x : Int32} (h : j ≠ k) : cS (upd S k x) j = cS S j := by
  unfold cS
  rw [show upd S k x j = S j from if_neg h]
theorem up_is {S : Nat → Int32} {k : Nat} {x : Int32} : upd S k x k = x := if_pos rfl
theorem up_ne {S : Nat → Int32} {k j : Nat} {x : Int32} (h : j ≠ k) : upd S k x j = S j := if_neg h
theorem bd_of {S S' : Nat → Int32} (b : BdS S) (h : ∀ k, k = 8 ∨ k = 9 ∨ k = 10 ∨ k = 11 → S' k = S k) : BdS S' := by
  have e : ∀ k, k = 8 ∨ k = 9 ∨ k = 10 ∨ k = 11 → cS S' k = cS S k := fun k hk => by unfold cS; rw [h k hk]
  refine ⟨?_, ?_, ?_, ?_⟩
  · rw [e 8 (by simp), h 8 (by simp)]; exact b.g
  · rw [e 9 (by simp), h 9 (by simp)]; exact b.r
  · rw [e 10 (by simp), h 10 (by simp)]; exact b.a
  · rw [e 11 (by simp), h 11 (by simp)]; exact b.v
theorem bd_gn {S : Nat → Int32} {x : Nat} (b : BdS S) (h : cS S 8 < 12) : BdS (gnR S x) := by
  unfold gnR
  have b' : BdS (upd S (15 + cS S 8) (nI x)) := bd_of b (fun k hk => up_ne (by omega))
  obtain ⟨b1, b2, b3, b4⟩ := b'
  refine ⟨⟨by rw [cS_up (by omega), up_is], by rw [cS_up (by omega)]; omega⟩, ?_, ?_, ?_⟩
  · rw [cS_ne (by decide), up_ne (by decide)]; exact b2
  · rw [cS_ne (by decide), up_ne (by decide)]; exact b3
  · rw [cS_ne (by decide), up_ne (by decide)]; exact b4
theorem bd_rd {S : Nat → Int32} {x y z w : Nat} (b : BdS S) (h : cS S 9 < 40) : BdS (rdR S x y z w) := by
  unfold rdR
  have b' : BdS (upd (upd (upd (upd S (27 + 4 * cS S 9) (nI x)) (27 + 4 * cS S 9 + 1) (nI y)) (27 + 4 * cS S 9 + 2) (nI z)) (27 + 4 * cS S 9 + 3) (nI w)) := bd_of b (fun k hk => by rw [up_ne (by omega), up_ne (by omega), up_ne (by omega), up_ne (by omega)])
  obtain ⟨b1, b2, b3, b4⟩ := b'
  refine ⟨?_, ⟨by rw [cS_up (by omega), up_is], by rw [cS_up (by omega)]; omega⟩, ?_, ?_⟩
  · rw [cS_ne (by decide), up_ne (by decide)]; exact b1
  · rw [cS_ne (by decide), up_ne (by decide)]; exact b3
  · rw [cS_ne (by decide), up_ne (by decide)]; exact b4
theorem bd_ac {S : Nat → Int32} {x y z : Nat} (b : BdS S) (h : cS S 10 < 8) : BdS (acR S x y z) := by
  unfold acR
  have b' : BdS (upd (upd (upd S (187 + 6 * cS S 10) (S (187 + 6 * cS S 10) + nI x)) (187 + 6 * cS S 10 + 1) (S (187 + 6 * cS S 10 + 1) + nI y)) (187 + 6 * cS S 10 + 2) (S (187 + 6 * cS S 10 + 2) + nI z)) := bd_of b (fun k hk => by rw [up_ne (by omega), up_ne (by omega), up_ne (by omega)])
  obtain ⟨b1, b2, b3, b4⟩ := b'
  refine ⟨?_, ?_, ⟨by rw [cS_up (by omega), up_is], by rw [cS_up (by omega)]; omega⟩, ?_⟩
  · rw [cS_ne (by decide), up_ne (by decide)]; exact b1
  · rw [cS_ne (by decide), up_ne (by decide)]; exact b2
  · rw [cS_ne (by decide), up_ne (by decide)]; exact b4
theorem bd_vh {S : Nat → Int32} {x : Nat} {y : Int32} (b : BdS S) (h : cS S 11 < 15) : BdS (vhR S x y) := by
  unfold vhR
  have b' : BdS (upd (upd (upd S (235 + 3 * cS S 11) (nI x)) (235 + 3 * cS S 11 + 1) y) (235 + 3 * cS S 11 + 2) (nI 0)) := bd_of b (fun k hk => by rw [up_ne (by omega), up_ne (by omega), up_ne (by omega)])
  obtain ⟨b1, b2, b3, b4⟩ := b'
  refine ⟨?_, ?_, ?_, ⟨by rw [cS_up (by omega), up_is], by rw [cS_up (by omega)]; omega⟩⟩
  · rw [cS_ne (by decide), up_ne (by decide)]; exact b1
  · rw [cS_ne (by decide), up_ne (by decide)]; exact b2
  · rw [cS_ne (by decide), up_ne (by decide)]; exact b3
section
variable {A : Hp} {m0 d i i' n c g0 : Nat} {M0 M : Ms} {T : Nat → Nat} {S S' : Nat → Int32} {w : Lb}
theorem tkB_ge : i ≤ tkB T n i := by unfold tkB; omega
theorem tkE_ge : i ≤ tkE T n i := by
  have := tkB_ge (T := T) (n := n) (i := i)
  unfold tkE
  omega
theorem tkE_gt (h : tkK T n i ≠ 0) : i < tkE T n i := by
  have hb := tkB_ge (T := T) (n := n) (i := i)
  have h0 : tkB T n i < n := by
    unfold tkK at h
    by_cases q : n ≤ tkB T n i
    · rw [if_pos q] at h; exact absurd rfl h
    · omega
  have e : n - tkB T n i = (n - tkB T n i - 1) + 1 := by omega
  unfold tkE
  rw [if_neg h]
  by_cases h2 : tkK T n i = 2
  · rw [if_pos h2]
    have hp : leP (T (tkB T n i)) = true := by
      unfold tkK at h2
      rw [if_neg (by omega)] at h2
      cases hq : leP (T (tkB T n i)) with
      | true => rfl
      | false =>
        rw [hq, if_neg (by decide)] at h2
        (repeat' split at h2) <;> cases h2
    unfold tkL runA
    rw [e, run_c h0 hp, List.length_cons]
    omega
  · rw [if_neg h2]
    by_cases h3 : tkK T n i = 3
    · rw [if_pos h3]
      have hp : dgP (T (tkB T n i)) = true := by
        unfold tkK at h3
        rw [if_neg (by omega)] at h3
        cases hq : dgP (T (tkB T n i)) with
        | true => rfl
        | false =>
          rw [hq] at h3
          split at h3
          · cases h3
          · rw [if_neg (by decide)] at h3
            split at h3 <;> cases h3
      unfold tkD runA
      rw [e, run_c h0 hp, List.length_cons]
      omega
    · rw [if_neg h3]; omega
/-- what a statement that is right leaves -/
theorem pStm_ok (b : BdS S) (e : pStm T n S i = .inr (S', i')) : BdS S' ∧ tkE T n i ≤ i' := by
  have g := fun j => tkE_ge (T := T) (n := n) (i := j)
  have g1 := g (tkE T n i)
  have g2 := g (tkE T n (tkE T n i))
  have g3 := g (tkE T n (tkE T n (tkE T n i)))
  have g4 := g (tkE T n (tkE T n (tkE T n (tkE T n i))))
  unfold pStm at e
  split at e
  · unfold pGn at e
    split at e
    · cases e
    · split at e
      · cases e
      · cases e; exact ⟨bd_gn b (by omega), g1⟩
  · split at e
    · unfold pRd at e
      dsimp only at e
      split at e
      · cases e
      · split at e
        · cases e
        · split at e
          · cases e
          · split at e
            · split at e
              · cases e
              · split at e
                · cases e
                · cases e; exact ⟨bd_rd b (by omega), by omega⟩
            · cases e
    · split at e
      · unfold pAc at e
        dsimp only at e
        split at e
        · cases e
        · split at e
          · cases e
          · split at e
            · cases e
            · split at e
              · cases e
              · cases e; exact ⟨bd_ac b (by omega), by omega⟩
      · split at e
        · unfold pVh at e
          dsimp only at e
          split at e
          · cases e
          · split at e
            · cases e
            · split at e
              · split at e
                · cases e
                · cases e; exact ⟨bd_vh b (by omega), by omega⟩
              · cases e; exact ⟨bd_vh b (by omega), by omega⟩
        · unfold pSt at e
          dsimp only at e
          split at e
          · cases e
          · split at e
            · cases e
            · rename_i hp
              have hk : vlN T n (tkE T n i) < 8 := by
                unfold pLk at hp
                split at hp
                · cases hp
                · split at hp
                  · rename_i hh; exact hh.2
                  · cases hp
              split at e
              · cases e
              · cases e; exact ⟨bd_of b (fun k hk2 => up_ne (by omega)), by omega⟩
def PaS (M0 M : Ms) (T : Nat → Nat) (n : Nat) : PaR → Prop
  | .inl e => PaE M0 M e.1 e.2
  | .inr x => if tkK T n x.2 = 4 then PaI M0 M T n x.1 (tkE T n x.2) else PaE M0 M 1 (tkB T n x.2)
theorem m_301 (g : PaI M0 M T n S i) (b : BdS S) (h : mO A m0) (wd : WdM A m0) (lh : LoH M0) : ∃ M', evG TB (d + 8) 301 [.ref m0] (hM A m0 M) = some (.inl none, hM A m0 M') ∧ PaS M0 M' T n (pStm T n S i) := by
  have q302 := fun k h2 h6 => m_302 (d := d + 2) (k := k) h (wd M k h2 h6) g.tx g.tk
  -- the end of a statement
  have fin : ∀ (M1 : Ms) (r : PaR), PaX M0 M1 T n r → ∃ M', exG TB (d + 7) 301 68 [some (.ref m0)] [] (hM A m0 M1) = some (.inl none, hM A m0 M') ∧ PaS M0 M' T n r := by
    intro M1 r hr
    cases r with
    | inl e =>
      have z : PaE M0 M1 e.1 e.2 := hr
      refine ⟨M1, ?_, z⟩
      have q304 := fun x y => m_304_z (A := A) (d := d + 6) (b := x) (c := y) h z.z z.c0
      have q305 := m_305_z (d := d + 5) h z.z z.c0
      rcases pc (mF M1 160 = nI 4) with e4 | e4 <;> simp (disch := omega) only [x_301_68, x_301_69, x_301_70, x_301_73, x_301_74, x_301_77, x_301_78, x_301_81, x_301_82, x_301_83, x_301_86, x_301_87, x_301_90, hm_c h, hm_148 h, hg_0 h, ha_0, hm_149 h, hg_1 h, ha_1, hm_150 h, hg_2 h, ha_2, hm_151 h, hg_3 h, ha_3, hm_152 h, hg_4 h, ha_4, hm_153 h, hg_5 h, ha_5, hm_154 h, hg_6 h, ha_6, hm_155 h, hs_155, hm_156 h, hg_7 h, ha_7, hm_157 h, hs_157, hm_158 h, hs_158, hm_159 h, hs_159, hm_160 h, hs_160, hm_161 h, hs_161, hm_162 h, hs_162, hm_163 h, hs_163, hm_164 h, hs_164, hm_165 h, hs_165, hm_166 h, hg_8 h, ha_8, hm_167 h, hg_9 h, ha_9, hm_168 h, hg_10 h, ha_10, hm_169 h, hg_11 h, ha_11, hm_170 h, hg_12 h, ha_12, hm_171 h, hg_13 h, ha_13, hm_172 h, hs_172, hm_173 h, hs_173, hm_174 h, hs_174, hm_175 h, hs_175, hm_176 h, hs_176, hm_177 h, hg_14 h, ha_14, hm_178 h, hg_15 h, ha_15, hm_179 h, hg_16 h, ha_16, hm_180 h, hg_17 h, ha_17, hm_181 h, hg_18 h, ha_18, hm_182 h, hg_19 h, ha_19, hm_183 h, hg_20 h, ha_20, hm_184 h, hs_184, hm_185 h, hs_185, hm_186 h, hs_186, mA_uA, mA_uF, mA_uW, mF_uA, mF_uF, mF_uW, mW_uA, mW_uF, mW_uW, uA_uA, uA_uF, uF_uF, bI0, kv_s, ki_s, kj_s, kd_s, kq_s, kq_n, kq_o, ka_s, kc_r, kc_t, kc0_r, kc0_t, kch_r, kc0h_r, kw_s, kw0_s, kwh_s, kw0h_s, rg_ref, rg_null, rg_rf, ck_t, sel_some, lkn_hd, Option.isSome_some, Bool.true_and, Bool.and_true, okv_i, okv_l, okv_r, okv_n, okv_rf, okv_b, okv_0, okv_1, okv_f, okv_d, c1_i, c1_r, c1_n, c1_rf, c1_f, nI_add, n_mul, n_sub, n_pred, n_eq, n_le, n_lt, n_neN, n_Nne, N_lt, N_le, n_ltN, n_leN, rdI_n, rdJ_n, rdD_n, wrI_n, wrI_z0, wrI_z1, wrI_zb, wrJ_n, wrD_n, aln_s, okn_n, upd_is, upd_ne, Nat.add_zero, Nat.add_sub_cancel, decide_true, decide_false, cond_true, cond_false, if_true, if_false, ite_not, not_true_eq_false, not_false_eq_true, Nat.reduceEqDiff, Nat.reduceAdd, Nat.reduceMul, Nat.reduceSub, Nat.reduceLeDiff, e4, q304, q305]
    | inr x =>
      have g1 : PaI M0 M1 T n x.1 x.2 := hr
      have kd := g1.tk.kd
      have k4 := tkK_le (T := T) (n := n) (i := x.2)
      by_cases e4 : tkK T n x.2 = 4
      · refine ⟨tkM M1 T n (tkE T n x.2), ?_, ?_⟩
        · have q304 := m_304_t (d := d + 6) (m0 := m0) (c := nI 1) (H := hM A m0 M1)
          have q305 := m_305_f (d := d + 2) h g1.fi g1.tx g1.tk.en g1.hn
          rw [e4] at kd
          simp (disch := omega) only [x_301_68, x_301_69, x_301_70, x_301_73, x_301_74, x_301_77, x_301_78, x_301_81, x_301_82, x_301_83, x_301_86, x_301_87, x_301_90, hm_c h, hm_148 h, hg_0 h, ha_0, hm_149 h, hg_1 h, ha_1, hm_150 h, hg_2 h, ha_2, hm_151 h, hg_3 h, ha_3, hm_152 h, hg_4 h, ha_4, hm_153 h, hg_5 h, ha_5, hm_154 h, hg_6 h, ha_6, hm_155 h, hs_155, hm_156 h, hg_7 h, ha_7, hm_157 h, hs_157, hm_158 h, hs_158, hm_159 h, hs_159, hm_160 h, hs_160, hm_161 h, hs_161, hm_162 h, hs_162, hm_163 h, hs_163, hm_164 h, hs_164, hm_165 h, hs_165, hm_166 h, hg_8 h, ha_8, hm_167 h, hg_9 h, ha_9, hm_168 h, hg_10 h, ha_10, hm_169 h, hg_11 h, ha_11, hm_170 h, hg_12 h, ha_12, hm_171 h, hg_13 h, ha_13, hm_172 h, hs_172, hm_173 h, hs_173, hm_174 h, hs_174, hm_175 h, hs_175, hm_176 h, hs_176, hm_177 h, hg_14 h, ha_14, hm_178 h, hg_15 h, ha_15, hm_179 h, hg_16 h, ha_16, hm_180 h, hg_17 h, ha_17, hm_181 h, hg_18 h, ha_18, hm_182 h, hg_19 h, ha_19, hm_183 h, hg_20 h, ha_20, hm_184 h, hs_184, hm_185 h, hs_185, hm_186 h, hs_186, mA_uA, mA_uF, mA_uW, mF_uA, mF_uF, mF_uW, mW_uA, mW_uF, mW_uW, uA_uA, uA_uF, uF_uF, bI0, kv_s, ki_s, kj_s, kd_s, kq_s, kq_n, kq_o, ka_s, kc_r, kc_t, kc0_r, kc0_t, kch_r, kc0h_r, kw_s, kw0_s, kwh_s, kw0h_s, rg_ref, rg_null, rg_rf, ck_t, sel_some, lkn_hd, Option.isSome_some, Bool.true_and, Bool.and_true, okv_i, okv_l, okv_r, okv_n, okv_rf, okv_b, okv_0, okv_1, okv_f, okv_d, c1_i, c1_r, c1_n, c1_rf, c1_f, nI_add, n_mul, n_sub, n_pred, n_eq, n_le, n_lt, n_neN, n_Nne, N_lt, N_le, n_ltN, n_leN, rdI_n, rdJ_n, rdD_n, wrI_n, wrI_z0, wrI_z1, wrI_zb, wrJ_n, wrD_n, aln_s, okn_n, upd_is, upd_ne, Nat.add_zero, Nat.add_sub_cancel, decide_true, decide_false, cond_true, cond_false, if_true, if_false, ite_not, not_true_eq_false, not_false_eq_true, Nat.reduceEqDiff, Nat.reduceAdd, Nat.reduceMul, Nat.reduceSub, Nat.reduceLeDiff, kd, q304, q305]
        · show (if tkK T n x.2 = 4 then _ else _)
          rw [if_pos e4]
          exact g1.adv
      · have he := g1.er (c := 1) (by decide)
        refine ⟨erM M1 1, ?_, ?_⟩
        · have q304 := m_304_f (d := d + 6) (c := 1) h g1.fi
          have q305 := m_305_z (d := d + 5) h he.z he.c0
          have e4' : (tkK T n x.2 = 4) = False := eq_false e4
          simp (disch := omega) only [x_301_68, x_301_69, x_301_70, x_301_73, x_301_74, x_301_77, x_301_78, x_301_81, x_301_82, x_301_83, x_301_86, x_301_87, x_301_90, hm_c h, hm_148 h, hg_0 h, ha_0, hm_149 h, hg_1 h, ha_1, hm_150 h, hg_2 h, ha_2, hm_151 h, hg_3 h, ha_3, hm_152 h, hg_4 h, ha_4, hm_153 h, hg_5 h, ha_5, hm_154 h, hg_6 h, ha_6, hm_155 h, hs_155, hm_156 h, hg_7 h, ha_7, hm_157 h, hs_157, hm_158 h, hs_158, hm_159 h, hs_159, hm_160 h, hs_160, hm_161 h, hs_161, hm_162 h, hs_162, hm_163 h, hs_163, hm_164 h, hs_164, hm_165 h, hs_165, hm_166 h, hg_8 h, ha_8, hm_167 h, hg_9 h, ha_9, hm_168 h, hg_10 h, ha_10, hm_169 h, hg_11 h, ha_11, hm_170 h, hg_12 h, ha_12, hm_171 h, hg_13 h, ha_13, hm_172 h, hs_172, hm_173 h, hs_173, hm_174 h, hs_174, hm_175 h, hs_175, hm_176 h, hs_176, hm_177 h, hg_14 h, ha_14, hm_178 h, hg_15 h, ha_15, hm_179 h, hg_16 h, ha_16, hm_180 h, hg_17 h, ha_17, hm_181 h, hg_18 h, ha_18, hm_182 h, hg_19 h, ha_19, hm_183 h, hg_20 h, ha_20, hm_184 h, hs_184, hm_185 h, hs_185, hm_186 h, hs_186, mA_uA, mA_uF, mA_uW, mF_uA, mF_uF, mF_uW, mW_uA, mW_uF, mW_uW, uA_uA, uA_uF, uF_uF, bI0, kv_s, ki_s, kj_s, kd_s, kq_s, kq_n, kq_o, ka_s, kc_r, kc_t, kc0_r, kc0_t, kch_r, kc0h_r, kw_s, kw0_s, kwh_s, kw0h_s, rg_ref, rg_null, rg_rf, ck_t, sel_some, lkn_hd, Option.isSome_some, Bool.true_and, Bool.and_true, okv_i, okv_l, okv_r, okv_n, okv_rf, okv_b, okv_0, okv_1, okv_f, okv_d, c1_i, c1_r, c1_n, c1_rf, c1_f, nI_add, n_mul, n_sub, n_pred, n_eq, n_le, n_lt, n_neN, n_Nne, N_lt, N_le, n_ltN, n_leN, rdI_n, rdJ_n, rdD_n, wrI_n, wrI_z0, wrI_z1, wrI_zb, wrJ_n, wrD_n, aln_s, okn_n, upd_is, upd_ne, Nat.add_zero, Nat.add_sub_cancel, decide_true, decide_false, cond_true, cond_false, if_true, if_false, ite_not, not_true_eq_false, not_false_eq_true, Nat.reduceEqDiff, Nat.reduceAdd, Nat.reduceMul, Nat.reduceSub, Nat.reduceLeDiff, kd, e4', q304, q305]
        · show (if tkK T n x.2 = 4 then _ else _)
          rw [if_neg e4]
          exact he
  unfold pStm
  by_cases e2 : tkL T n i = txB 2
  · rw [if_pos e2]
    obtain ⟨M1, r1, r2⟩ := m_303 (d := d) g b h
    obtain ⟨M2, r3, r4⟩ := fin M1 _ r2
    refine ⟨M2, ?_, r4⟩
    have w2 := q302 2 (by decide) (by decide)
    rw [decide_eq_true e2, bI_t] at w2
    simp (disch := omega) only [e_301, x_301_0, x_301_1, x_301_3, x_301_6, x_301_9, x_301_10, x_301_13, x_301_16, x_301_17, x_301_19, x_301_22, x_301_25, x_301_26, x_301_29, x_301_32, x_301_33, x_301_35, x_301_38, x_301_41, x_301_42, x_301_45, x_301_48, x_301_49, x_301_51, x_301_54, x_301_57, x_301_58, x_301_61, x_301_64, x_301_65, hm_c h, hm_148 h, hg_0 h, ha_0, hm_149 h, hg_1 h, ha_1, hm_150 h, hg_2 h, ha_2, hm_151 h, hg_3 h, ha_3, hm_152 h, hg_4 h, ha_4, hm_153 h, hg_5 h, ha_5, hm_154 h, hg_6 h, ha_6, hm_155 h, hs_155, hm_156 h, hg_7 h, ha_7, hm_157 h, hs_157, hm_158 h, hs_158, hm_159 h, hs_159, hm_160 h, hs_160, hm_161 h, hs_161, hm_162 h, hs_162, hm_163 h, hs_163, hm_164 h, hs_164, hm_165 h, hs_165, hm_166 h, hg_8 h, ha_8, hm_167 h, hg_9 h, ha_9, hm_168 h, hg_10 h, ha_10, hm_169 h, hg_11 h, ha_11, hm_170 h, hg_12 h, ha_12, hm_171 h, hg_13 h, ha_13, hm_172 h, hs_172, hm_173 h, hs_173, hm_174 h, hs_174, hm_175 h, hs_175, hm_176 h, hs_176, hm_177 h, hg_14 h, ha_14, hm_178 h, hg_15 h, ha_15, hm_179 h, hg_16 h, ha_16, hm_180 h, hg_17 h, ha_17, hm_181 h, hg_18 h, ha_18, hm_182 h, hg_19 h, ha_19, hm_183 h, hg_20 h, ha_20, hm_184 h, hs_184, hm_185 h, hs_185, hm_186 h, hs_186, mA_uA, mA_uF, mA_uW, mF_uA, mF_uF, mF_uW, mW_uA, mW_uF, mW_uW, uA_uA, uA_uF, uF_uF, bI0, kv_s, ki_s, kj_s, kd_s, kq_s, kq_n, kq_o, ka_s, kc_r, kc_t, kc0_r, kc0_t, kch_r, kc0h_r, kw_s, kw0_s, kwh_s, kw0h_s, rg_ref, rg_null, rg_rf, ck_t, sel_some, lkn_hd, Option.isSome_some, Bool.true_and, Bool.and_true, okv_i, okv_l, okv_r, okv_n, okv_rf, okv_b, okv_0, okv_1, okv_f, okv_d, c1_i, c1_r, c1_n, c1_rf, c1_f, nI_add, n_mul, n_sub, n_pred, n_eq, n_le, n_lt, n_neN, n_Nne, N_lt, N_le, n_ltN, n_leN, rdI_n, rdJ_n, rdD_n, wrI_n, wrI_z0, wrI_z1, wrI_zb, wrJ_n, wrD_n, aln_s, okn_n, upd_is, upd_ne, Nat.add_zero, Nat.add_sub_cancel, decide_true, decide_false, cond_true, cond_false, if_true, if_false, ite_not, not_true_eq_false, not_false_eq_true, Nat.reduceEqDiff, Nat.reduceAdd, Nat.reduceMul, Nat.reduceSub, Nat.reduceLeDiff, hM_sg, w2, r1, r3]
  rw [if_neg e2]
  by_cases e3 : tkL T n i = txB 3
  · rw [if_pos e3]
    obtain ⟨M1, r1, r2⟩ := m_309 (d := d) g b h
    obtain ⟨M2, r3, r4⟩ := fin M1 _ r2
    refine ⟨M2, ?_, r4⟩
    have w2 := q302 2 (by decide) (by decide)
    rw [decide_eq_false e2, bI_f] at w2
    have w3 := q302 3 (by decide) (by decide)
    rw [decide_eq_true e3, bI_t] at w3
    simp (disch := omega) only [e_301, x_301_0, x_301_1, x_301_3, x_301_6, x_301_9, x_301_10, x_301_13, x_301_16, x_301_17, x_301_19, x_301_22, x_301_25, x_301_26, x_301_29, x_301_32, x_301_33, x_301_35, x_301_38, x_301_41, x_301_42, x_301_45, x_301_48, x_301_49, x_301_51, x_301_54, x_301_57, x_301_58, x_301_61, x_301_64, x_301_65, hm_c h, hm_148 h, hg_0 h, ha_0, hm_149 h, hg_1 h, ha_1, hm_150 h, hg_2 h, ha_2, hm_151 h, hg_3 h, ha_3, hm_152 h, hg_4 h, ha_4, hm_153 h, hg_5 h, ha_5, hm_154 h, hg_6 h, ha_6, hm_155 h, hs_155, hm_156 h, hg_7 h, ha_7, hm_157 h, hs_157, hm_158 h, hs_158, hm_159 h, hs_159, hm_160 h, hs_160, hm_161 h, hs_161, hm_162 h, hs_162, hm_163 h, hs_163, hm_164 h, hs_164, hm_165 h, hs_165, hm_166 h, hg_8 h, ha_8, hm_167 h, hg_9 h, ha_9, hm_168 h, hg_10 h, ha_10, hm_169 h, hg_11 h, ha_11, hm_170 h, hg_12 h, ha_12, hm_171 h, hg_13 h, ha_13, hm_172 h, hs_172, hm_173 h, hs_173, hm_174 h, hs_174, hm_175 h, hs_175, hm_176 h, hs_176, hm_177 h, hg_14 h, ha_14, hm_178 h, hg_15 h, ha_15, hm_179 h, hg_16 h, ha_16, hm_180 h, hg_17 h, ha_17, hm_181 h, hg_18 h, ha_18, hm_182 h, hg_19 h, ha_19, hm_183 h, hg_20 h, ha_20, hm_184 h, hs_184, hm_185 h, hs_185, hm_186 h, hs_186, mA_uA, mA_uF, mA_uW, mF_uA, mF_uF, mF_uW, mW_uA, mW_uF, mW_uW, uA_uA, uA_uF, uF_uF, bI0, kv_s, ki_s, kj_s, kd_s, kq_s, kq_n, kq_o, ka_s, kc_r, kc_t, kc0_r, kc0_t, kch_r, kc0h_r, kw_s, kw0_s, kwh_s, kw0h_s, rg_ref, rg_null, rg_rf, ck_t, sel_some, lkn_hd, Option.isSome_some, Bool.true_and, Bool.and_true, okv_i, okv_l, okv_r, okv_n, okv_rf, okv_b, okv_0, okv_1, okv_f, okv_d, c1_i, c1_r, c1_n, c1_rf, c1_f, nI_add, n_mul, n_sub, n_pred, n_eq, n_le, n_lt, n_neN, n_Nne, N_lt, N_le, n_ltN, n_leN, rdI_n, rdJ_n, rdD_n, wrI_n, wrI_z0, wrI_z1, wrI_zb, wrJ_n, wrD_n, aln_s, okn_n, upd_is, upd_ne, Nat.add_zero, Nat.add_sub_cancel, decide_true, decide_false, cond_true, cond_false, if_true, if_false, ite_not, not_true_eq_false, not_false_eq_true, Nat.reduceEqDiff, Nat.reduceAdd, Nat.reduceMul, Nat.reduceSub, Nat.reduceLeDiff, hM_sg, w2, w3, r1, r3]
  rw [if_neg e3]
  by_cases e4 : tkL T n i = txB 4
  · rw [if_pos e4]
    obtain ⟨M1, r1, r2⟩ := m_312 (d := d) g b h
    obtain ⟨M2, r3, r4⟩ := fin M1 _ r2
    refine ⟨M2, ?_, r4⟩
    have w2 := q302 2 (by decide) (by decide)
    rw [decide_eq_false e2, bI_f] at w2
    have w3 := q302 3 (by decide) (by decide)
    rw [decide_eq_false e3, bI_f] at w3
    have w4 := q302 4 (by decide) (by decide)
    rw [decide_eq_true e4, bI_t] at w4
    simp (disch := omega) only [e_301, x_301_0, x_301_1, x_301_3, x_301_6, x_301_9, x_301_10, x_301_13, x_301_16, x_301_17, x_301_19, x_301_22, x_301_25, x_301_26, x_301_29, x_301_32, x_301_33, x_301_35, x_301_38, x_301_41, x_301_42, x_301_45, x_301_48, x_301_49, x_301_51, x_301_54, x_301_57, x_301_58, x_301_61, x_301_64, x_301_65, hm_c h, hm_148 h, hg_0 h, ha_0, hm_149 h, hg_1 h, ha_1, hm_150 h, hg_2 h, ha_2, hm_151 h, hg_3 h, ha_3, hm_152 h, hg_4 h, ha_4, hm_153 h, hg_5 h, ha_5, hm_154 h, hg_6 h, ha_6, hm_155 h, hs_155, hm_156 h, hg_7 h, ha_7, hm_157 h, hs_157, hm_158 h, hs_158, hm_159 h, hs_159, hm_160 h, hs_160, hm_161 h, hs_161, hm_162 h, hs_162, hm_163 h, hs_163, hm_164 h, hs_164, hm_165 h, hs_165, hm_166 h, hg_8 h, ha_8, hm_167 h, hg_9 h, ha_9, hm_168 h, hg_10 h, ha_10, hm_169 h, hg_11 h, ha_11, hm_170 h, hg_12 h, ha_12, hm_171 h, hg_13 h, ha_13, hm_172 h, hs_172, hm_173 h, hs_173, hm_174 h, hs_174, hm_175 h, hs_175, hm_176 h, hs_176, hm_177 h, hg_14 h, ha_14, hm_178 h, hg_15 h, ha_15, hm_179 h, hg_16 h, ha_16, hm_180 h, hg_17 h, ha_17, hm_181 h, hg_18 h, ha_18, hm_182 h, hg_19 h, ha_19, hm_183 h, hg_20 h, ha_20, hm_184 h, hs_184, hm_185 h, hs_185, hm_186 h, hs_186, mA_uA, mA_uF, mA_uW, mF_uA, mF_uF, mF_uW, mW_uA, mW_uF, mW_uW, uA_uA, uA_uF, uF_uF, bI0, kv_s, ki_s, kj_s, kd_s, kq_s, kq_n, kq_o, ka_s, kc_r, kc_t, kc0_r, kc0_t, kch_r, kc0h_r, kw_s, kw0_s, kwh_s, kw0h_s, rg_ref, rg_null, rg_rf, ck_t, sel_some, lkn_hd, Option.isSome_some, Bool.true_and, Bool.and_true, okv_i, okv_l, okv_r, okv_n, okv_rf, okv_b, okv_0, okv_1, okv_f, okv_d, c1_i, c1_r, c1_n, c1_rf, c1_f, nI_add, n_mul, n_sub, n_pred, n_eq, n_le, n_lt, n_neN, n_Nne, N_lt, N_le, n_ltN, n_leN, rdI_n, rdJ_n, rdD_n, wrI_n, wrI_z0, wrI_z1, wrI_zb, wrJ_n, wrD_n, aln_s, okn_n, upd_is, upd_ne, Nat.add_zero, Nat.add_sub_cancel, decide_true, decide_false, cond_true, cond_false, if_true, if_false, ite_not, not_true_eq_false, not_false_eq_true, Nat.reduceEqDiff, Nat.reduceAdd, Nat.reduceMul, Nat.reduceSub, Nat.reduceLeDiff, hM_sg, w2, w3, w4, r1, r3]
  rw [if_neg e4]
  by_cases e5 : tkL T n i = txB 5
  · rw [if_pos e5]
    obtain ⟨M1, r1, r2⟩ := m_315 (d := d) g b h wd
    obtain ⟨M2, r3, r4⟩ := fin M1 _ r2
    refine ⟨M2, ?_, r4⟩
    have w2 := q302 2 (by decide) (by decide)
    rw [decide_eq_false e2, bI_f] at w2
    have w3 := q302 3 (by decide) (by decide)
    rw [decide_eq_false e3, bI_f] at w3
    have w4 := q302 4 (by decide) (by decide)
    rw [decide_eq_false e4, bI_f] at w4
    have w5 := q302 5 (by decide) (by decide)
    rw [decide_eq_true e5, bI_t] at w5
    simp (disch := omega) only [e_301, x_301_0, x_301_1, x_301_3, x_301_6, x_301_9, x_301_10, x_301_13, x_301_16, x_301_17, x_301_19, x_301_22, x_301_25, x_301_26, x_301_29, x_301_32, x_301_33, x_301_35, x_301_38, x_301_41, x_301_42, x_301_45, x_301_48, x_301_49, x_301_51, x_301_54, x_301_57, x_301_58, x_301_61, x_301_64, x_301_65, hm_c h, hm_148 h, hg_0 h, ha_0, hm_149 h, hg_1 h, ha_1, hm_150 h, hg_2 h, ha_2, hm_151 h, hg_3 h, ha_3, hm_152 h, hg_4 h, ha_4, hm_153 h, hg_5 h, ha_5, hm_154 h, hg_6 h, ha_6, hm_155 h, hs_155, hm_156 h, hg_7 h, ha_7, hm_157 h, hs_157, hm_158 h, hs_158, hm_159 h, hs_159, hm_160 h, hs_160, hm_161 h, hs_161, hm_162 h, hs_162, hm_163 h, hs_163, hm_164 h, hs_164, hm_165 h, hs_165, hm_166 h, hg_8 h, ha_8, hm_167 h, hg_9 h, ha_9, hm_168 h, hg_10 h, ha_10, hm_169 h, hg_11 h, ha_11, hm_170 h, hg_12 h, ha_12, hm_171 h, hg_13 h, ha_13, hm_172 h, hs_172, hm_173 h, hs_173, hm_174 h, hs_174, hm_175 h, hs_175, hm_176 h, hs_176, hm_177 h, hg_14 h, ha_14, hm_178 h, hg_15 h, ha_15, hm_179 h, hg_16 h, ha_16, hm_180 h, hg_17 h, ha_17, hm_181 h, hg_18 h, ha_18, hm_182 h, hg_19 h, ha_19, hm_183 h, hg_20 h, ha_20, hm_184 h, hs_184, hm_185 h, hs_185, hm_186 h, hs_186, mA_uA, mA_uF, mA_uW, mF_uA, mF_uF, mF_uW, mW_uA, mW_uF, mW_uW, uA_uA, uA_uF, uF_uF, bI0, kv_s, ki_s, kj_s, kd_s, kq_s, kq_n, kq_o, ka_s, kc_r, kc_t, kc0_r, kc0_t, kch_r, kc0h_r, kw_s, kw0_s, kwh_s, kw0h_s, rg_ref, rg_null, rg_rf, ck_t, sel_some, lkn_hd, Option.isSome_some, Bool.true_and, Bool.and_true, okv_i, okv_l, okv_r, okv_n, okv_rf, okv_b, okv_0, okv_1, okv_f, okv_d, c1_i, c1_r, c1_n, c1_rf, c1_f, nI_add, n_mul, n_sub, n_pred, n_eq, n_le, n_lt, n_neN, n_Nne, N_lt, N_le, n_ltN, n_leN, rdI_n, rdJ_n, rdD_n, wrI_n, wrI_z0, wrI_z1, wrI_zb, wrJ_n, wrD_n, aln_s, okn_n, upd_is, upd_ne, Nat.add_zero, Nat.add_sub_cancel, decide_true, decide_false, cond_true, cond_false, if_true, if_false, ite_not, not_true_eq_false, not_false_eq_true, Nat.reduceEqDiff, Nat.reduceAdd, Nat.reduceMul, Nat.reduceSub, Nat.reduceLeDiff, hM_sg, w2, w3, w4, w5, r1, r3]
  rw [if_neg e5]
  obtain ⟨M1, r1, r2⟩ := m_318 (d := d) g h wd lh
  obtain ⟨M2, r3, r4⟩ := fin M1 _ r2
  refine ⟨M2, ?_, r4⟩
  have w2 := q302 2 (by decide) (by decide)
  rw [decide_eq_false e2, bI_f] at w2
  have w3 := q302 3 (by decide) (by decide)
  rw [decide_eq_false e3, bI_f] at w3
  have w4 := q302 4 (by decide) (by decide)
  rw [decide_eq_false e4, bI_f] at w4
  have w5 := q302 5 (by decide) (by decide)
  rw [decide_eq_false e5, bI_f] at w5
  simp (disch := omega) only [e_301, x_301_0, x_301_1, x_301_3, x_301_6, x_301_9, x_301_10, x_301_13, x_301_16, x_301_17, x_301_19, x_301_22, x_301_25, x_301_26, x_301_29, x_301_32, x_301_33, x_301_35, x_301_38, x_301_41, x_301_42, x_301_45, x_301_48, x_301_49, x_301_51, x_301_54, x_301_57, x_301_58, x_301_61, x_301_64, x_301_65, hm_c h, hm_148 h, hg_0 h, ha_0, hm_149 h, hg_1 h, ha_1, hm_150 h, hg_2 h, ha_2, hm_151 h, hg_3 h, ha_3, hm_152 h, hg_4 h, ha_4, hm_153 h, hg_5 h, ha_5, hm_154 h, hg_6 h, ha_6, hm_155 h, hs_155, hm_156 h, hg_7 h, ha_7, hm_157 h, hs_157, hm_158 h, hs_158, hm_159 h, hs_159, hm_160 h, hs_160, hm_161 h, hs_161, hm_162 h, hs_162, hm_163 h, hs_163, hm_164 h, hs_164, hm_165 h, hs_165, hm_166 h, hg_8 h, ha_8, hm_167 h, hg_9 h, ha_9, hm_168 h, hg_10 h, ha_10, hm_169 h, hg_11 h, ha_11, hm_170 h, hg_12 h, ha_12, hm_171 h, hg_13 h, ha_13, hm_172 h, hs_172, hm_173 h, hs_173, hm_174 h, hs_174, hm_175 h, hs_175, hm_176 h, hs_176, hm_177 h, hg_14 h, ha_14, hm_178 h, hg_15 h, ha_15, hm_179 h, hg_16 h, ha_16, hm_180 h, hg_17 h, ha_17, hm_181 h, hg_18 h, ha_18, hm_182 h, hg_19 h, ha_19, hm_183 h, hg_20 h, ha_20, hm_184 h, hs_184, hm_185 h, hs_185, hm_186 h, hs_186, mA_uA, mA_uF, mA_uW, mF_uA, mF_uF, mF_uW, mW_uA, mW_uF, mW_uW, uA_uA, uA_uF, uF_uF, bI0, kv_s, ki_s, kj_s, kd_s, kq_s, kq_n, kq_o, ka_s, kc_r, kc_t, kc0_r, kc0_t, kch_r, kc0h_r, kw_s, kw0_s, kwh_s, kw0h_s, rg_ref, rg_null, rg_rf, ck_t, sel_some, lkn_hd, Option.isSome_some, Bool.true_and, Bool.and_true, okv_i, okv_l, okv_r, okv_n, okv_rf, okv_b, okv_0, okv_1, okv_f, okv_d, c1_i, c1_r, c1_n, c1_rf, c1_f, nI_add, n_mul, n_sub, n_pred, n_eq, n_le, n_lt, n_neN, n_Nne, N_lt, N_le, n_ltN, n_leN, rdI_n, rdJ_n, rdD_n, wrI_n, wrI_z0, wrI_z1, wrI_zb, wrJ_n, wrD_n, aln_s, okn_n, upd_is, upd_ne, Nat.add_zero, Nat.add_sub_cancel, decide_true, decide_false, cond_true, cond_false, if_true, if_false, ite_not, not_true_eq_false, not_false_eq_true, Nat.reduceEqDiff, Nat.reduceAdd, Nat.reduceMul, Nat.reduceSub, Nat.reduceLeDiff, hM_sg, w2, w3, w4, w5, r1, r3]
end
