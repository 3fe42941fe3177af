/-! the model's load -/
/-- the row at the start of a text -/
def S00 (S0 F : Nat → Int32) : Nat → Int32 := cpyR F (zrR S0 3100) 0 0 8
section
variable {A : Hp} {m0 d i n c g0 : Nat} {M0 M : Ms} {T : Nat → Nat} {S S' : Nat → Int32} {w : Lb}
theorem m_294_lp (h : mO A m0) (wd : WdM A m0) (lh : LoH M0) : ∀ (f : Nat) (M : Ms) (S : Nat → Int32) (i c : Nat), PaI M0 M T n S i → BdS S → n < i + f → c ≤ i →
    ∃ M', (match pSts T n f S i c with
      | .inl e => (∃ c', exG TB (d + 8) 294 43 [some (.ref m0), some (.int (nI c))] [] (hM A m0 M) = exG TB (d + 8) 294 67 [some (.ref m0), some (.int (nI c'))] [] (hM A m0 M')) ∧ PaE M0 M' e.1 e.2
      | .inr x => exG TB (d + 8) 294 43 [some (.ref m0), some (.int (nI c))] [] (hM A m0 M) = exG TB (d + 8) 294 67 [some (.ref m0), some (.int (nI x.2))] [] (hM A m0 M') ∧ mA M' 0 = x.1 ∧ BdS x.1 ∧ mF M' 163 = nI 0 ∧ mF M' 164 = mF M0 164 ∧ (∀ k, k ≠ 0 → mA M' k = mA M0 k) ∧ mF M' 155 = mF M0 155 ∧ x.2 ≤ n)
  | 0, M, S, i, c, g, b, hf, hc => by
    have h1 := g.hn
    have h2 := tkE_ge (T := T) (n := n) (i := i)
    omega
  | f + 1, M, S, i, c, g, b, hf, hc => by
    unfold pSts
    have q300 := m_300_f (d := d + 7) h g.fi
    have kd := g.tk.kd
    have k4 := tkK_le (T := T) (n := n) (i := i)
    by_cases e0 : tkK T n i = 0
    · rw [if_pos e0]
      rw [e0] at kd
      have hn := g.hn
      have h2 := tkE_ge (T := T) (n := n) (i := i)
      refine ⟨M, ?_, g.s0, b, g.fi, g.k4, g.kp, g.k5, by omega⟩
      refine x_294_43.trans ?_
      simp (disch := omega) only [x_294_44, x_294_47, x_294_50, x_294_51, x_294_54, x_294_57, x_294_58, x_294_61, x_294_64, hm_c h, hm_148 h, hg_0 h, ha_0, hm_149 h, hg_1 h, ha_1, hm_150 h, hg_2 h, ha_2, hm_151 h, hg_3 h, ha_3, hm_152 h, hg_4 h, ha_4, hm_153 h, hg_5 h, ha_5, hm_154 h, hg_6 h, ha_6, hm_155 h, hs_155, hm_156 h, hg_7 h, ha_7, hm_157 h, hs_157, hm_158 h, hs_158, hm_159 h, hs_159, hm_160 h, hs_160, hm_161 h, hs_161, hm_162 h, hs_162, hm_163 h, hs_163, hm_164 h, hs_164, hm_165 h, hs_165, hm_166 h, hg_8 h, ha_8, hm_167 h, hg_9 h, ha_9, hm_168 h, hg_10 h, ha_10, hm_169 h, hg_11 h, ha_11, hm_170 h, hg_12 h, ha_12, hm_171 h, hg_13 h, ha_13, hm_172 h, hs_172, hm_173 h, hs_173, hm_174 h, hs_174, hm_175 h, hs_175, hm_176 h, hs_176, hm_177 h, hg_14 h, ha_14, hm_178 h, hg_15 h, ha_15, hm_179 h, hg_16 h, ha_16, hm_180 h, hg_17 h, ha_17, hm_181 h, hg_18 h, ha_18, hm_182 h, hg_19 h, ha_19, hm_183 h, hg_20 h, ha_20, hm_184 h, hs_184, hm_185 h, hs_185, hm_186 h, hs_186, mA_uA, mA_uF, mA_uW, mF_uA, mF_uF, mF_uW, mW_uA, mW_uF, mW_uW, uA_uA, uA_uF, uF_uF, bI0, kv_s, ki_s, kj_s, kd_s, kq_s, kq_n, kq_o, ka_s, kc_r, kc_t, kc0_r, kc0_t, kch_r, kc0h_r, kw_s, kw0_s, kwh_s, kw0h_s, rg_ref, rg_null, rg_rf, ck_t, sel_some, lkn_hd, Option.isSome_some, Bool.true_and, Bool.and_true, okv_i, okv_l, okv_r, okv_n, okv_rf, okv_b, okv_0, okv_1, okv_f, okv_d, c1_i, c1_r, c1_n, c1_rf, c1_f, nI_add, n_mul, n_sub, n_pred, n_eq, n_le, n_lt, n_neN, n_Nne, N_lt, N_le, n_ltN, n_leN, rdI_n, rdJ_n, rdD_n, wrI_n, wrI_z0, wrI_z1, wrI_zb, wrJ_n, wrD_n, aln_s, okn_n, upd_is, upd_ne, Nat.add_zero, Nat.add_sub_cancel, decide_true, decide_false, cond_true, cond_false, if_true, if_false, ite_not, not_true_eq_false, not_false_eq_true, Nat.reduceEqDiff, Nat.reduceAdd, Nat.reduceMul, Nat.reduceSub, Nat.reduceLeDiff, q300, kd]
    · rw [if_neg e0]
      have e0' : (tkK T n i = 0) = False := eq_false e0
      have g1 := tkE_gt (T := T) (n := n) (i := i) e0
      obtain ⟨M1, r1, r2⟩ := m_301 (d := d) g b h wd lh
      -- the head once more, after a statement
      have st : exG TB (d + 8) 294 43 [some (.ref m0), some (.int (nI c))] [] (hM A m0 M) = exG TB (d + 8) 294 43 [some (.ref m0), some (.int (nI (c + 1)))] [] (hM A m0 M1) := by
        refine x_294_43.trans ?_
        simp (disch := omega) only [x_294_44, x_294_47, x_294_50, x_294_51, x_294_54, x_294_57, x_294_58, x_294_61, x_294_64, hm_c h, hm_148 h, hg_0 h, ha_0, hm_149 h, hg_1 h, ha_1, hm_150 h, hg_2 h, ha_2, hm_151 h, hg_3 h, ha_3, hm_152 h, hg_4 h, ha_4, hm_153 h, hg_5 h, ha_5, hm_154 h, hg_6 h, ha_6, hm_155 h, hs_155, hm_156 h, hg_7 h, ha_7, hm_157 h, hs_157, hm_158 h, hs_158, hm_159 h, hs_159, hm_160 h, hs_160, hm_161 h, hs_161, hm_162 h, hs_162, hm_163 h, hs_163, hm_164 h, hs_164, hm_165 h, hs_165, hm_166 h, hg_8 h, ha_8, hm_167 h, hg_9 h, ha_9, hm_168 h, hg_10 h, ha_10, hm_169 h, hg_11 h, ha_11, hm_170 h, hg_12 h, ha_12, hm_171 h, hg_13 h, ha_13, hm_172 h, hs_172, hm_173 h, hs_173, hm_174 h, hs_174, hm_175 h, hs_175, hm_176 h, hs_176, hm_177 h, hg_14 h, ha_14, hm_178 h, hg_15 h, ha_15, hm_179 h, hg_16 h, ha_16, hm_180 h, hg_17 h, ha_17, hm_181 h, hg_18 h, ha_18, hm_182 h, hg_19 h, ha_19, hm_183 h, hg_20 h, ha_20, hm_184 h, hs_184, hm_185 h, hs_185, hm_186 h, hs_186, mA_uA, mA_uF, mA_uW, mF_uA, mF_uF, mF_uW, mW_uA, mW_uF, mW_uW, uA_uA, uA_uF, uF_uF, bI0, kv_s, ki_s, kj_s, kd_s, kq_s, kq_n, kq_o, ka_s, kc_r, kc_t, kc0_r, kc0_t, kch_r, kc0h_r, kw_s, kw0_s, kwh_s, kw0h_s, rg_ref, rg_null, rg_rf, ck_t, sel_some, lkn_hd, Option.isSome_some, Bool.true_and, Bool.and_true, okv_i, okv_l, okv_r, okv_n, okv_rf, okv_b, okv_0, okv_1, okv_f, okv_d, c1_i, c1_r, c1_n, c1_rf, c1_f, nI_add, n_mul, n_sub, n_pred, n_eq, n_le, n_lt, n_neN, n_Nne, N_lt, N_le, n_ltN, n_leN, rdI_n, rdJ_n, rdD_n, wrI_n, wrI_z0, wrI_z1, wrI_zb, wrJ_n, wrD_n, aln_s, okn_n, upd_is, upd_ne, Nat.add_zero, Nat.add_sub_cancel, decide_true, decide_false, cond_true, cond_false, if_true, if_false, ite_not, not_true_eq_false, not_false_eq_true, Nat.reduceEqDiff, Nat.reduceAdd, Nat.reduceMul, Nat.reduceSub, Nat.reduceLeDiff, q300, kd, e0', r1]
      have ze : ∀ (c' p : Nat), PaE M0 M1 c' p → exG TB (d + 8) 294 43 [some (.ref m0), some (.int (nI c))] [] (hM A m0 M) = exG TB (d + 8) 294 67 [some (.ref m0), some (.int (nI (c + 1)))] [] (hM A m0 M1) := fun c' p z => by
        have q300 := m_300_z (d := d + 7) h z.z z.c0
        refine st.trans (x_294_43.trans ?_)
        simp (disch := omega) only [x_294_44, x_294_47, x_294_50, x_294_51, x_294_54, x_294_57, x_294_58, x_294_61, x_294_64, hm_c h, hm_148 h, hg_0 h, ha_0, hm_149 h, hg_1 h, ha_1, hm_150 h, hg_2 h, ha_2, hm_151 h, hg_3 h, ha_3, hm_152 h, hg_4 h, ha_4, hm_153 h, hg_5 h, ha_5, hm_154 h, hg_6 h, ha_6, hm_155 h, hs_155, hm_156 h, hg_7 h, ha_7, hm_157 h, hs_157, hm_158 h, hs_158, hm_159 h, hs_159, hm_160 h, hs_160, hm_161 h, hs_161, hm_162 h, hs_162, hm_163 h, hs_163, hm_164 h, hs_164, hm_165 h, hs_165, hm_166 h, hg_8 h, ha_8, hm_167 h, hg_9 h, ha_9, hm_168 h, hg_10 h, ha_10, hm_169 h, hg_11 h, ha_11, hm_170 h, hg_12 h, ha_12, hm_171 h, hg_13 h, ha_13, hm_172 h, hs_172, hm_173 h, hs_173, hm_174 h, hs_174, hm_175 h, hs_175, hm_176 h, hs_176, hm_177 h, hg_14 h, ha_14, hm_178 h, hg_15 h, ha_15, hm_179 h, hg_16 h, ha_16, hm_180 h, hg_17 h, ha_17, hm_181 h, hg_18 h, ha_18, hm_182 h, hg_19 h, ha_19, hm_183 h, hg_20 h, ha_20, hm_184 h, hs_184, hm_185 h, hs_185, hm_186 h, hs_186, mA_uA, mA_uF, mA_uW, mF_uA, mF_uF, mF_uW, mW_uA, mW_uF, mW_uW, uA_uA, uA_uF, uF_uF, bI0, kv_s, ki_s, kj_s, kd_s, kq_s, kq_n, kq_o, ka_s, kc_r, kc_t, kc0_r, kc0_t, kch_r, kc0h_r, kw_s, kw0_s, kwh_s, kw0h_s, rg_ref, rg_null, rg_rf, ck_t, sel_some, lkn_hd, Option.isSome_some, Bool.true_and, Bool.and_true, okv_i, okv_l, okv_r, okv_n, okv_rf, okv_b, okv_0, okv_1, okv_f, okv_d, c1_i, c1_r, c1_n, c1_rf, c1_f, nI_add, n_mul, n_sub, n_pred, n_eq, n_le, n_lt, n_neN, n_Nne, N_lt, N_le, n_ltN, n_leN, rdI_n, rdJ_n, rdD_n, wrI_n, wrI_z0, wrI_z1, wrI_zb, wrJ_n, wrD_n, aln_s, okn_n, upd_is, upd_ne, Nat.add_zero, Nat.add_sub_cancel, decide_true, decide_false, cond_true, cond_false, if_true, if_false, ite_not, not_true_eq_false, not_false_eq_true, Nat.reduceEqDiff, Nat.reduceAdd, Nat.reduceMul, Nat.reduceSub, Nat.reduceLeDiff, q300]
      cases hp : pStm T n S i with
      | inl e =>
        rw [hp] at r2
        exact ⟨M1, ⟨c + 1, ze _ _ r2⟩, r2⟩
      | inr x =>
        obtain ⟨S', i'⟩ := x
        rw [hp] at r2
        obtain ⟨b', hi'⟩ := pStm_ok b hp
        dsimp only
        by_cases e4 : tkK T n i' = 4
        · have r3 : PaI M0 M1 T n S' (tkE T n i') := by
            have r2' : (if tkK T n i' = 4 then PaI M0 M1 T n S' (tkE T n i') else PaE M0 M1 1 (tkB T n i')) := r2
            rw [if_pos e4] at r2'; exact r2'
          have h3 := tkE_ge (T := T) (n := n) (i := i')
          obtain ⟨M', ih⟩ := m_294_lp h wd lh f M1 S' (tkE T n i') (c + 1) r3 b' (by omega) (by omega)
          rw [if_pos e4]
          refine ⟨M', ?_⟩
          cases hs : pSts T n f S' (tkE T n i') (c + 1) with
          | inl e => rw [hs] at ih; obtain ⟨⟨c', ih1⟩, ih2⟩ := ih; exact ⟨⟨c', st.trans ih1⟩, ih2⟩
          | inr x => rw [hs] at ih; exact ⟨st.trans ih.1, ih.2⟩
        · have r3 : PaE M0 M1 1 (tkB T n i') := by
            have r2' : (if tkK T n i' = 4 then PaI M0 M1 T n S' (tkE T n i') else PaE M0 M1 1 (tkB T n i')) := r2
            rw [if_neg e4] at r2'; exact r2'
          rw [if_neg e4]
          exact ⟨M1, ⟨c + 1, ze _ _ r3⟩, r3⟩
def ld0 (M : Ms) : Nat → Int32 := cpyR (mA M 4) (zrR (mA M 0) 3100) 0 0 8
def ldM (M : Ms) : Ms := uF (uF (uF (uF (uA (uA M 1 (cpyR (mA M 0) (mA M 1) 0 0 3100)) 0 (ld0 M)) 155 (nI 0)) 163 (nI 0)) 164 nN) 158 (nI 0)
theorem ld0_bd : BdS (ld0 M) := by
  have e : ∀ k, 8 ≤ k → k < 3100 → ld0 M k = nI 0 := fun k h1 h2 => by
    show (if 0 ≤ k ∧ k < 0 + 8 then _ else (if k < 3100 then nI 0 else _)) = _
    rw [if_neg (by omega), if_pos h2]
  have c : ∀ k, 8 ≤ k → k < 3100 → cS (ld0 M) k = 0 := fun k h1 h2 => by
    unfold cS
    rw [e k h1 h2]
    exact n_cl (by decide)
  refine ⟨?_, ?_, ?_, ?_⟩ <;> (rw [c _ (by decide) (by decide), e _ (by decide) (by decide)]; exact ⟨rfl, by decide⟩)
theorem ldM_e {k : Nat} : mA (ldM M) k = if k = 0 then ld0 M else if k = 1 then cpyR (mA M 0) (mA M 1) 0 0 3100 else mA M k := rfl
theorem ldM_A {k : Nat} (hk : 2 ≤ k) : mA (ldM M) k = mA M k := by rw [ldM_e, if_neg (by omega), if_neg (by omega)]
theorem ldM_0 : mA (ldM M) 0 = ld0 M := by rw [ldM_e, if_pos rfl]
theorem ldM_1 : mA (ldM M) 1 = cpyR (mA M 0) (mA M 1) 0 0 3100 := by rw [ldM_e, if_neg (by decide), if_pos rfl]
/-- a text loaded -/
theorem m_294 (h : mO A m0) (wd : WdM A m0) (t : TxM M T n) (lh : LoH M) : ∃ M', (match pSts T n (n + 1) (ld0 M) 0 0 with
    | .inl e => evG TB (d + 9) 294 [.ref m0] (hM A m0 M) = some (.inl (some (.int nN)), hM A m0 M') ∧ mF M' 163 = nI e.1 ∧ (0 < e.1 ∧ e.1 < 10) ∧ mF M' 164 = nI e.2 ∧ ∀ q, q < 3100 → mA M' 0 q = mA M 0 q
    | .inr x => evG TB (d + 9) 294 [.ref m0] (hM A m0 M) = some (.inl (some (.int (nI x.2))), hM A m0 M') ∧ mF M' 163 = nI 0 ∧ mF M' 164 = nN ∧ mA M' 0 = x.1 ∧ BdS x.1) ∧ mF M' 157 = nI 0 ∧ mF M' 155 = nI 0 ∧ ∀ k, 2 ≤ k → mA M' k = mA M k := by
  have q1 := fun M => m_295_01 (A := A) (M := M) (d := d + 7) h (s := 0) (t := 0) (by decide) (by decide)
  have q2 := fun M => m_288 (A := A) (M := M) (d := d + 7) h
  have tx : TxM (ldM M) T n := ⟨t.n1, t.n2, fun j hj => by rw [ldM_A (by decide)]; exact t.t j hj⟩
  have q3 := m_296 (d := d + 4) (M := ldM M) h tx (i := 0) rfl (Nat.zero_le _)
  have g : PaI (ldM M) (tkM (ldM M) T n 0) T n (ld0 M) 0 := ⟨tkM_T tx, tkM_I, rfl, ldM_0, fun _ _ => rfl, rfl, rfl, tkE_le (Nat.zero_le _)⟩
  have lh' : LoH (ldM M) := fun j hj => by rw [ldM_A (by decide), ldM_A (by decide)]; exact lh j hj
  obtain ⟨M1, lp⟩ := m_294_lp (d := d) h wd lh' (n + 1) (tkM (ldM M) T n 0) (ld0 M) 0 0 g ld0_bd (by omega) (Nat.le_refl _)
  have st : ∀ r, exG TB (d + 8) 294 43 [some (.ref m0), some (.int (nI 0))] [] (hM A m0 (tkM (ldM M) T n 0)) = r → evG TB (d + 9) 294 [.ref m0] (hM A m0 M) = r := fun r hr => by
    rw [← hr]
    unfold ldM ld0 at q3
    unfold ldM ld0
    simp (disch := omega) only [e_294, x_294_0, x_294_1, x_294_2, x_294_5, x_294_6, x_294_9, x_294_10, x_294_11, x_294_14, x_294_15, x_294_18, x_294_19, x_294_22, x_294_23, x_294_24, x_294_27, x_294_28, x_294_29, x_294_32, x_294_33, x_294_34, x_294_37, x_294_38, x_294_41, x_294_42, hm_c h, hm_148 h, hg_0 h, ha_0, hm_149 h, hg_1 h, ha_1, hm_150 h, hg_2 h, ha_2, hm_151 h, hg_3 h, ha_3, hm_152 h, hg_4 h, ha_4, hm_153 h, hg_5 h, ha_5, hm_154 h, hg_6 h, ha_6, hm_155 h, hs_155, hm_156 h, hg_7 h, ha_7, hm_157 h, hs_157, hm_158 h, hs_158, hm_159 h, hs_159, hm_160 h, hs_160, hm_161 h, hs_161, hm_162 h, hs_162, hm_163 h, hs_163, hm_164 h, hs_164, hm_165 h, hs_165, hm_166 h, hg_8 h, ha_8, hm_167 h, hg_9 h, ha_9, hm_168 h, hg_10 h, ha_10, hm_169 h, hg_11 h, ha_11, hm_170 h, hg_12 h, ha_12, hm_171 h, hg_13 h, ha_13, hm_172 h, hs_172, hm_173 h, hs_173, hm_174 h, hs_174, hm_175 h, hs_175, hm_176 h, hs_176, hm_177 h, hg_14 h, ha_14, hm_178 h, hg_15 h, ha_15, hm_179 h, hg_16 h, ha_16, hm_180 h, hg_17 h, ha_17, hm_181 h, hg_18 h, ha_18, hm_182 h, hg_19 h, ha_19, hm_183 h, hg_20 h, ha_20, hm_184 h, hs_184, hm_185 h, hs_185, hm_186 h, hs_186, mA_uA, mA_uF, mA_uW, mF_uA, mF_uF, mF_uW, mW_uA, mW_uF, mW_uW, uA_uA, uA_uF, uF_uF, bI0, kv_s, ki_s, kj_s, kd_s, kq_s, kq_n, kq_o, ka_s, kc_r, kc_t, kc0_r, kc0_t, kch_r, kc0h_r, kw_s, kw0_s, kwh_s, kw0h_s, rg_ref, rg_null, rg_rf, ck_t, sel_some, lkn_hd, Option.isSome_some, Bool.true_and, Bool.and_true, okv_i, okv_l, okv_r, okv_n, okv_rf, okv_b, okv_0, okv_1, okv_f, okv_d, c1_i, c1_r, c1_n, c1_rf, c1_f, nI_add, n_mul, n_sub, n_pred, n_eq, n_le, n_lt, n_neN, n_Nne, N_lt, N_le, n_ltN, n_leN, rdI_n, rdJ_n, rdD_n, wrI_n, wrI_z0, wrI_z1, wrI_zb, wrJ_n, wrD_n, aln_s, okn_n, upd_is, upd_ne, Nat.add_zero, Nat.add_sub_cancel, decide_true, decide_false, cond_true, cond_false, if_true, if_false, ite_not, not_true_eq_false, not_false_eq_true, Nat.reduceEqDiff, Nat.reduceAdd, Nat.reduceMul, Nat.reduceSub, Nat.reduceLeDiff, q1, q2, q3]
  have k2 : ∀ N, (∀ k, k ≠ 0 → mA N k = mA (ldM M) k) → ∀ k, 2 ≤ k → mA N k = mA M k := fun N hN k hk => (hN k (by omega)).trans (ldM_A hk)
  cases hs : pSts T n (n + 1) (ld0 M) 0 0 with
  | inl e =>
    rw [hs] at lp
    obtain ⟨⟨c', lp1⟩, z⟩ := lp
    have q300 := m_300_z (d := d + 7) (M := uF M1 157 (nI 0)) h z.z z.c0
    have q295 := m_295_10 (A := A) (M := uF M1 157 (nI 0)) (d := d + 7) h (s := 0) (t := 0) (by decide) (by decide)
    refine ⟨uA (uF M1 157 (nI 0)) 0 (cpyR (mA M1 1) (mA M1 0) 0 0 3100), ⟨st _ (lp1.trans ?_), z.z, z.c0, z.p, fun q hq => ?_⟩, rfl, z.k5.trans rfl, fun k hk => ?_⟩
    · simp (disch := omega) only [x_294_67, x_294_68, x_294_69, x_294_72, x_294_73, x_294_76, x_294_79, x_294_80, x_294_83, x_294_84, x_294_85, x_294_88, x_294_89, x_294_92, x_294_93, x_294_94, x_294_95, hm_c h, hm_148 h, hg_0 h, ha_0, hm_149 h, hg_1 h, ha_1, hm_150 h, hg_2 h, ha_2, hm_151 h, hg_3 h, ha_3, hm_152 h, hg_4 h, ha_4, hm_153 h, hg_5 h, ha_5, hm_154 h, hg_6 h, ha_6, hm_155 h, hs_155, hm_156 h, hg_7 h, ha_7, hm_157 h, hs_157, hm_158 h, hs_158, hm_159 h, hs_159, hm_160 h, hs_160, hm_161 h, hs_161, hm_162 h, hs_162, hm_163 h, hs_163, hm_164 h, hs_164, hm_165 h, hs_165, hm_166 h, hg_8 h, ha_8, hm_167 h, hg_9 h, ha_9, hm_168 h, hg_10 h, ha_10, hm_169 h, hg_11 h, ha_11, hm_170 h, hg_12 h, ha_12, hm_171 h, hg_13 h, ha_13, hm_172 h, hs_172, hm_173 h, hs_173, hm_174 h, hs_174, hm_175 h, hs_175, hm_176 h, hs_176, hm_177 h, hg_14 h, ha_14, hm_178 h, hg_15 h, ha_15, hm_179 h, hg_16 h, ha_16, hm_180 h, hg_17 h, ha_17, hm_181 h, hg_18 h, ha_18, hm_182 h, hg_19 h, ha_19, hm_183 h, hg_20 h, ha_20, hm_184 h, hs_184, hm_185 h, hs_185, hm_186 h, hs_186, mA_uA, mA_uF, mA_uW, mF_uA, mF_uF, mF_uW, mW_uA, mW_uF, mW_uW, uA_uA, uA_uF, uF_uF, bI0, kv_s, ki_s, kj_s, kd_s, kq_s, kq_n, kq_o, ka_s, kc_r, kc_t, kc0_r, kc0_t, kch_r, kc0h_r, kw_s, kw0_s, kwh_s, kw0h_s, rg_ref, rg_null, rg_rf, ck_t, sel_some, lkn_hd, Option.isSome_some, Bool.true_and, Bool.and_true, okv_i, okv_l, okv_r, okv_n, okv_rf, okv_b, okv_0, okv_1, okv_f, okv_d, c1_i, c1_r, c1_n, c1_rf, c1_f, nI_add, n_mul, n_sub, n_pred, n_eq, n_le, n_lt, n_neN, n_Nne, N_lt, N_le, n_ltN, n_leN, rdI_n, rdJ_n, rdD_n, wrI_n, wrI_z0, wrI_z1, wrI_zb, wrJ_n, wrD_n, aln_s, okn_n, upd_is, upd_ne, Nat.add_zero, Nat.add_sub_cancel, decide_true, decide_false, cond_true, cond_false, if_true, if_false, ite_not, not_true_eq_false, not_false_eq_true, Nat.reduceEqDiff, Nat.reduceAdd, Nat.reduceMul, Nat.reduceSub, Nat.reduceLeDiff, q300, q295]
    · rw [mA_uA, if_pos rfl]
      show (if 0 ≤ q ∧ q < 0 + 3100 then mA M1 1 (0 + (q - 0)) else _) = _
      rw [if_pos (by omega), z.kp 1 (by decide), ldM_1]
      show (if 0 ≤ 0 + (q - 0) ∧ 0 + (q - 0) < 0 + 3100 then mA M 0 (0 + (0 + (q - 0) - 0)) else _) = _
      rw [if_pos (by omega)]
      congr 1
      omega
    · rw [mA_uA, if_neg (by omega)]
      exact k2 M1 z.kp k hk
  | inr x =>
    rw [hs] at lp
    obtain ⟨lp1, l0, lb, l3, l4, lk, l5, ln⟩ := lp
    have q300 := m_300_f (d := d + 7) (M := uF M1 157 (nI 0)) h l3
    refine ⟨uF M1 157 (nI 0), ⟨st _ (lp1.trans ?_), l3, l4, l0, lb⟩, rfl, l5, fun k hk => k2 M1 lk k hk⟩
    simp (disch := omega) only [x_294_67, x_294_68, x_294_69, x_294_72, x_294_73, x_294_76, x_294_79, x_294_80, x_294_83, x_294_84, x_294_85, x_294_88, x_294_89, x_294_92, x_294_93, x_294_94, x_294_95, hm_c h, hm_148 h, hg_0 h, ha_0, hm_149 h, hg_1 h, ha_1, hm_150 h, hg_2 h, ha_2, hm_151 h, hg_3 h, ha_3, hm_152 h, hg_4 h, ha_4, hm_153 h, hg_5 h, ha_5, hm_154 h, hg_6 h, ha_6, hm_155 h, hs_155, hm_156 h, hg_7 h, ha_7, hm_157 h, hs_157, hm_158 h, hs_158, hm_159 h, hs_159, hm_160 h, hs_160, hm_161 h, hs_161, hm_162 h, hs_162, hm_163 h, hs_163, hm_164 h, hs_164, hm_165 h, hs_165, hm_166 h, hg_8 h, ha_8, hm_167 h, hg_9 h, ha_9, hm_168 h, hg_10 h, ha_10, hm_169 h, hg_11 h, ha_11, hm_170 h, hg_12 h, ha_12, hm_171 h, hg_13 h, ha_13, hm_172 h, hs_172, hm_173 h, hs_173, hm_174 h, hs_174, hm_175 h, hs_175, hm_176 h, hs_176, hm_177 h, hg_14 h, ha_14, hm_178 h, hg_15 h, ha_15, hm_179 h, hg_16 h, ha_16, hm_180 h, hg_17 h, ha_17, hm_181 h, hg_18 h, ha_18, hm_182 h, hg_19 h, ha_19, hm_183 h, hg_20 h, ha_20, hm_184 h, hs_184, hm_185 h, hs_185, hm_186 h, hs_186, mA_uA, mA_uF, mA_uW, mF_uA, mF_uF, mF_uW, mW_uA, mW_uF, mW_uW, uA_uA, uA_uF, uF_uF, bI0, kv_s, ki_s, kj_s, kd_s, kq_s, kq_n, kq_o, ka_s, kc_r, kc_t, kc0_r, kc0_t, kch_r, kc0h_r, kw_s, kw0_s, kwh_s, kw0h_s, rg_ref, rg_null, rg_rf, ck_t, sel_some, lkn_hd, Option.isSome_some, Bool.true_and, Bool.and_true, okv_i, okv_l, okv_r, okv_n, okv_rf, okv_b, okv_0, okv_1, okv_f, okv_d, c1_i, c1_r, c1_n, c1_rf, c1_f, nI_add, n_mul, n_sub, n_pred, n_eq, n_le, n_lt, n_neN, n_Nne, N_lt, N_le, n_ltN, n_leN, rdI_n, rdJ_n, rdD_n, wrI_n, wrI_z0, wrI_z1, wrI_zb, wrJ_n, wrD_n, aln_s, okn_n, upd_is, upd_ne, Nat.add_zero, Nat.add_sub_cancel, decide_true, decide_false, cond_true, cond_false, if_true, if_false, ite_not, not_true_eq_false, not_false_eq_true, Nat.reduceEqDiff, Nat.reduceAdd, Nat.reduceMul, Nat.reduceSub, Nat.reduceLeDiff, q300]
end
