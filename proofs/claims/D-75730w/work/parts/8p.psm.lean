/-! the model's parser: its small steps; the parser in plain words -/
def cS (S : Nat → Int32) (k : Nat) : Nat := (S k).toNatClampNeg
def gnR (S : Nat → Int32) (x : Nat) : Nat → Int32 := upd (upd S (15 + cS S 8) (nI x)) 8 (nI (cS S 8 + 1))
def rdR (S : Nat → Int32) (a b m t : Nat) : Nat → Int32 := upd (upd (upd (upd (upd S (27 + 4 * cS S 9) (nI a)) (27 + 4 * cS S 9 + 1) (nI b)) (27 + 4 * cS S 9 + 2) (nI m)) (27 + 4 * cS S 9 + 3) (nI t)) 9 (nI (cS S 9 + 1))
def acR (S : Nat → Int32) (a b c : Nat) : Nat → Int32 := upd (upd (upd (upd S (187 + 6 * cS S 10) (S (187 + 6 * cS S 10) + nI a)) (187 + 6 * cS S 10 + 1) (S (187 + 6 * cS S 10 + 1) + nI b)) (187 + 6 * cS S 10 + 2) (S (187 + 6 * cS S 10 + 2) + nI c)) 10 (nI (cS S 10 + 1))
def vhR (S : Nat → Int32) (a : Nat) (b : Int32) : Nat → Int32 := upd (upd (upd (upd S (235 + 3 * cS S 11) (nI a)) (235 + 3 * cS S 11 + 1) b) (235 + 3 * cS S 11 + 2) (nI 0)) 11 (nI (cS S 11 + 1))
abbrev BdS (S : Nat → Int32) : Prop := (S 8 = nI (cS S 8) ∧ cS S 8 ≤ 12) ∧ (S 9 = nI (cS S 9) ∧ cS S 9 ≤ 40) ∧ (S 10 = nI (cS S 10) ∧ cS S 10 ≤ 8) ∧ (S 11 = nI (cS S 11) ∧ cS S 11 ≤ 15)
theorem BdS.g {S : Nat → Int32} (hse1f : BdS S) : S 8 = nI (cS S 8) ∧ cS S 8 ≤ 12 := hse1f.1
theorem BdS.r {S : Nat → Int32} (hse1f : BdS S) : S 9 = nI (cS S 9) ∧ cS S 9 ≤ 40 := hse1f.2.1
theorem BdS.a {S : Nat → Int32} (hse1f : BdS S) : S 10 = nI (cS S 10) ∧ cS S 10 ≤ 8 := hse1f.2.2.1
theorem BdS.v {S : Nat → Int32} (hse1f : BdS S) : S 11 = nI (cS S 11) ∧ cS S 11 ≤ 15 := hse1f.2.2.2
/-- the number of the token at i -/
def vlN (T : Nat → Nat) (n i : Nat) : Nat := mNv (tkD T n i)
/-- whether the token at i is a number from lo on and below hx; otherwise what is wrong, and where -/
def pLk (T : Nat → Nat) (n lo hx i : Nat) : Option (Nat × Nat) := if tkK T n i ≠ 3 then some (1, tkB T n i) else if lo ≤ vlN T n i ∧ vlN T n i < hx then none else some (2, tkB T n i)
abbrev PaR : Type := (Nat × Nat) ⊕ ((Nat → Int32) × Nat)
def pGn (T : Nat → Nat) (n : Nat) (S : Nat → Int32) (i : Nat) : PaR :=
  if cS S 8 ≥ 12 then .inl (3, tkB T n i) else
  match pLk T n 0 100 (tkE T n i) with
  | some e => .inl e
  | none => .inr (gnR S (vlN T n (tkE T n i)), tkE T n (tkE T n i))
def pRd (T : Nat → Nat) (n : Nat) (S : Nat → Int32) (i : Nat) : PaR :=
  if cS S 9 ≥ 40 then .inl (3, tkB T n i) else
  let i1 := tkE T n i
  let i2 := tkE T n i1
  let i3 := tkE T n i2
  let i4 := tkE T n i3
  match pLk T n 0 (cS S 8) i1 with
  | some e => .inl e
  | none => match pLk T n 0 (cS S 8) i2 with
    | some e => .inl e
    | none => if vlN T n i2 ≠ vlN T n i1 ∧ rdF S (nI (vlN T n i1)) (nI (vlN T n i2)) 0 (cS S 9) = nN then
        match pLk T n 1 61 i3 with
        | some e => .inl e
        | none => match pLk T n 0 1000 i4 with
          | some e => .inl e
          | none => .inr (rdR S (vlN T n i1) (vlN T n i2) (vlN T n i3) (vlN T n i4), tkE T n i4)
      else .inl (4, tkB T n i2)
def pAc (T : Nat → Nat) (n : Nat) (S : Nat → Int32) (i : Nat) : PaR :=
  if cS S 10 ≥ 8 then .inl (3, tkB T n i) else
  let i1 := tkE T n i
  let i2 := tkE T n i1
  let i3 := tkE T n i2
  match pLk T n 0 100001 i1 with
  | some e => .inl e
  | none => match pLk T n 0 51 i2 with
    | some e => .inl e
    | none => match pLk T n 0 51 i3 with
      | some e => .inl e
      | none => .inr (acR S (vlN T n i1) (vlN T n i2) (vlN T n i3), tkE T n i3)
def pVh (T : Nat → Nat) (n : Nat) (S : Nat → Int32) (i : Nat) : PaR :=
  if cS S 11 ≥ 15 then .inl (3, tkB T n i) else
  let i1 := tkE T n i
  let i2 := tkE T n i1
  match pLk T n 1 5 i1 with
  | some e => .inl e
  | none => if tkL T n i2 = txB 4 then
      let i3 := tkE T n i2
      match pLk T n 0 (cS S 10) i3 with
      | some e => .inl e
      | none => .inr (vhR S (vlN T n i1) (nI (vlN T n i3)), tkE T n i3)
    else .inr (vhR S (vlN T n i1) nN, i2)
def loV (k : Nat) : Nat := if k = 0 then 1 else if k = 3 then 50 else 0
def hiV (k : Nat) : Nat := if k = 0 then 600 else if k = 1 then 60 else if k = 2 then 20 else if k ≤ 5 then 100 else 999
def pSt (T : Nat → Nat) (n : Nat) (S : Nat → Int32) (i : Nat) : PaR :=
  if tkL T n i ≠ txB 6 then .inl (1, tkB T n i) else
  let i1 := tkE T n i
  let i2 := tkE T n i1
  match pLk T n 0 8 i1 with
  | some e => .inl e
  | none => match pLk T n (loV (vlN T n i1)) (hiV (vlN T n i1) + 1) i2 with
    | some e => .inl e
    | none => .inr (upd S (vlN T n i1) (nI (vlN T n i2)), tkE T n i2)
/-- a statement without its semicolon -/
def pStm (T : Nat → Nat) (n : Nat) (S : Nat → Int32) (i : Nat) : PaR :=
  if tkL T n i = txB 2 then pGn T n S i else if tkL T n i = txB 3 then pRd T n S i else if tkL T n i = txB 4 then pAc T n S i else if tkL T n i = txB 5 then pVh T n S i else pSt T n S i
def pSts (T : Nat → Nat) (n : Nat) : Nat → (Nat → Int32) → Nat → Nat → (Nat × Nat) ⊕ ((Nat → Int32) × Nat)
  | 0, S, _, c => .inr (S, c)
  | f + 1, S, i, c => if tkK T n i = 0 then .inr (S, c) else match pStm T n S i with
    | .inl e => .inl e
    | .inr (S', i') => if tkK T n i' = 4 then pSts T n f S' (tkE T n i') (c + 1) else .inl (1, tkB T n i')
section
variable {A : Hp} {m0 d i n e : Nat} {M : Ms} {T : Nat → Nat} {b c x : Int32}
theorem m_300_f (h : mO A m0) (f : mF M 163 = nI 0) : evG TB (d + 1) 300 [.ref m0] (hM A m0 M) = some (.inl (some (.int (nI 1))), hM A m0 M) := by
  simp (disch := omega) only [e_300, x_300_0, x_300_1, x_300_4, x_300_7, x_300_8, x_300_11, x_300_12, hm_c h, hm_148 h, hg_0 h, ha_0, hm_149 h, hg_1 h, ha_1, hm_150 h, hg_2 h, ha_2, hm_151 h, hg_3 h, ha_3, hm_152 h, hg_4 h, ha_4, hm_153 h, hg_5 h, ha_5, hm_154 h, hg_6 h, ha_6, hm_155 h, hs_155, hm_156 h, hg_7 h, ha_7, hm_157 h, hs_157, hm_158 h, hs_158, hm_159 h, hs_159, hm_160 h, hs_160, hm_161 h, hs_161, hm_162 h, hs_162, hm_163 h, hs_163, hm_164 h, hs_164, hm_165 h, hs_165, hm_166 h, hg_8 h, ha_8, hm_167 h, hg_9 h, ha_9, hm_168 h, hg_10 h, ha_10, hm_169 h, hg_11 h, ha_11, hm_170 h, hg_12 h, ha_12, hm_171 h, hg_13 h, ha_13, hm_172 h, hs_172, hm_173 h, hs_173, hm_174 h, hs_174, hm_175 h, hs_175, hm_176 h, hs_176, hm_177 h, hg_14 h, ha_14, hm_178 h, hg_15 h, ha_15, hm_179 h, hg_16 h, ha_16, hm_180 h, hg_17 h, ha_17, hm_181 h, hg_18 h, ha_18, hm_182 h, hg_19 h, ha_19, hm_183 h, hg_20 h, ha_20, hm_184 h, hs_184, hm_185 h, hs_185, hm_186 h, hs_186, mA_uA, mA_uF, mA_uW, mF_uA, mF_uF, mF_uW, mW_uA, mW_uF, mW_uW, uA_uA, uA_uF, uF_uF, bI0, kv_s, ki_s, kj_s, kd_s, kq_s, kq_n, kq_o, ka_s, kc_r, kc_t, kc0_r, kc0_t, kch_r, kc0h_r, kw_s, kw0_s, kwh_s, kw0h_s, rg_ref, rg_null, rg_rf, ck_t, sel_some, lkn_hd, Option.isSome_some, Bool.true_and, Bool.and_true, okv_i, okv_l, okv_r, okv_n, okv_rf, okv_b, okv_0, okv_1, okv_f, okv_d, c1_i, c1_r, c1_n, c1_rf, c1_f, nI_add, n_mul, n_sub, n_pred, n_eq, n_le, n_lt, n_neN, n_Nne, N_lt, N_le, n_ltN, n_leN, rdI_n, rdJ_n, rdD_n, wrI_n, wrI_z0, wrI_z1, wrI_zb, wrJ_n, wrD_n, aln_s, okn_n, upd_is, upd_ne, Nat.add_zero, Nat.add_sub_cancel, decide_true, decide_false, cond_true, cond_false, if_true, if_false, ite_not, not_true_eq_false, not_false_eq_true, Nat.reduceEqDiff, Nat.reduceAdd, Nat.reduceMul, Nat.reduceSub, Nat.reduceLeDiff, f]
theorem m_300_z (h : mO A m0) (z : mF M 163 = nI e) (h0 : 0 < e ∧ e < 10) : evG TB (d + 1) 300 [.ref m0] (hM A m0 M) = some (.inl (some (.int (nI 0))), hM A m0 M) := by
  have e0 : (e = 0) = False := eq_false (by omega)
  simp (disch := omega) only [e_300, x_300_0, x_300_1, x_300_4, x_300_7, x_300_8, x_300_11, x_300_12, hm_c h, hm_148 h, hg_0 h, ha_0, hm_149 h, hg_1 h, ha_1, hm_150 h, hg_2 h, ha_2, hm_151 h, hg_3 h, ha_3, hm_152 h, hg_4 h, ha_4, hm_153 h, hg_5 h, ha_5, hm_154 h, hg_6 h, ha_6, hm_155 h, hs_155, hm_156 h, hg_7 h, ha_7, hm_157 h, hs_157, hm_158 h, hs_158, hm_159 h, hs_159, hm_160 h, hs_160, hm_161 h, hs_161, hm_162 h, hs_162, hm_163 h, hs_163, hm_164 h, hs_164, hm_165 h, hs_165, hm_166 h, hg_8 h, ha_8, hm_167 h, hg_9 h, ha_9, hm_168 h, hg_10 h, ha_10, hm_169 h, hg_11 h, ha_11, hm_170 h, hg_12 h, ha_12, hm_171 h, hg_13 h, ha_13, hm_172 h, hs_172, hm_173 h, hs_173, hm_174 h, hs_174, hm_175 h, hs_175, hm_176 h, hs_176, hm_177 h, hg_14 h, ha_14, hm_178 h, hg_15 h, ha_15, hm_179 h, hg_16 h, ha_16, hm_180 h, hg_17 h, ha_17, hm_181 h, hg_18 h, ha_18, hm_182 h, hg_19 h, ha_19, hm_183 h, hg_20 h, ha_20, hm_184 h, hs_184, hm_185 h, hs_185, hm_186 h, hs_186, mA_uA, mA_uF, mA_uW, mF_uA, mF_uF, mF_uW, mW_uA, mW_uF, mW_uW, uA_uA, uA_uF, uF_uF, bI0, kv_s, ki_s, kj_s, kd_s, kq_s, kq_n, kq_o, ka_s, kc_r, kc_t, kc0_r, kc0_t, kch_r, kc0h_r, kw_s, kw0_s, kwh_s, kw0h_s, rg_ref, rg_null, rg_rf, ck_t, sel_some, lkn_hd, Option.isSome_some, Bool.true_and, Bool.and_true, okv_i, okv_l, okv_r, okv_n, okv_rf, okv_b, okv_0, okv_1, okv_f, okv_d, c1_i, c1_r, c1_n, c1_rf, c1_f, nI_add, n_mul, n_sub, n_pred, n_eq, n_le, n_lt, n_neN, n_Nne, N_lt, N_le, n_ltN, n_leN, rdI_n, rdJ_n, rdD_n, wrI_n, wrI_z0, wrI_z1, wrI_zb, wrJ_n, wrD_n, aln_s, okn_n, upd_is, upd_ne, Nat.add_zero, Nat.add_sub_cancel, decide_true, decide_false, cond_true, cond_false, if_true, if_false, ite_not, not_true_eq_false, not_false_eq_true, Nat.reduceEqDiff, Nat.reduceAdd, Nat.reduceMul, Nat.reduceSub, Nat.reduceLeDiff, z, e0]
theorem m_304_t {H : Hp} : evG TB (d + 1) 304 [.ref m0, .int (nI 1), .int c] H = some (.inl none, H) := by
  simp (disch := omega) only [e_304, x_304_0, x_304_1, x_304_4, x_304_5, x_304_8, x_304_11, x_304_12, x_304_13, x_304_16, x_304_17, x_304_18, x_304_21, x_304_24, kv_s, ki_s, kj_s, kd_s, kq_s, kq_n, kq_o, ka_s, kc_r, kc_t, kc0_r, kc0_t, kch_r, kc0h_r, kw_s, kw0_s, kwh_s, kw0h_s, rg_ref, rg_null, rg_rf, ck_t, sel_some, lkn_hd, Option.isSome_some, Bool.true_and, Bool.and_true, okv_i, okv_l, okv_r, okv_n, okv_rf, okv_b, okv_0, okv_1, okv_f, okv_d, c1_i, c1_r, c1_n, c1_rf, c1_f, nI_add, n_mul, n_sub, n_pred, n_eq, n_le, n_lt, n_neN, n_Nne, N_lt, N_le, n_ltN, n_leN, rdI_n, rdJ_n, rdD_n, wrI_n, wrI_z0, wrI_z1, wrI_zb, wrJ_n, wrD_n, aln_s, okn_n, upd_is, upd_ne, Nat.add_zero, Nat.add_sub_cancel, decide_true, decide_false, cond_true, cond_false, if_true, if_false, ite_not, not_true_eq_false, not_false_eq_true, Nat.reduceEqDiff, Nat.reduceAdd, Nat.reduceMul, Nat.reduceSub, Nat.reduceLeDiff]
theorem m_304_z (h : mO A m0) (z : mF M 163 = nI e) (h0 : 0 < e ∧ e < 10) : evG TB (d + 1) 304 [.ref m0, .int b, .int c] (hM A m0 M) = some (.inl none, hM A m0 M) := by
  have e0 : (e = 0) = False := eq_false (by omega)
  rcases pc (b = nI 0) with h1 | h1
  · simp (disch := omega) only [e_304, x_304_0, x_304_1, x_304_4, x_304_5, x_304_8, x_304_11, x_304_12, x_304_13, x_304_16, x_304_17, x_304_18, x_304_21, x_304_24, hm_c h, hm_148 h, hg_0 h, ha_0, hm_149 h, hg_1 h, ha_1, hm_150 h, hg_2 h, ha_2, hm_151 h, hg_3 h, ha_3, hm_152 h, hg_4 h, ha_4, hm_153 h, hg_5 h, ha_5, hm_154 h, hg_6 h, ha_6, hm_155 h, hs_155, hm_156 h, hg_7 h, ha_7, hm_157 h, hs_157, hm_158 h, hs_158, hm_159 h, hs_159, hm_160 h, hs_160, hm_161 h, hs_161, hm_162 h, hs_162, hm_163 h, hs_163, hm_164 h, hs_164, hm_165 h, hs_165, hm_166 h, hg_8 h, ha_8, hm_167 h, hg_9 h, ha_9, hm_168 h, hg_10 h, ha_10, hm_169 h, hg_11 h, ha_11, hm_170 h, hg_12 h, ha_12, hm_171 h, hg_13 h, ha_13, hm_172 h, hs_172, hm_173 h, hs_173, hm_174 h, hs_174, hm_175 h, hs_175, hm_176 h, hs_176, hm_177 h, hg_14 h, ha_14, hm_178 h, hg_15 h, ha_15, hm_179 h, hg_16 h, ha_16, hm_180 h, hg_17 h, ha_17, hm_181 h, hg_18 h, ha_18, hm_182 h, hg_19 h, ha_19, hm_183 h, hg_20 h, ha_20, hm_184 h, hs_184, hm_185 h, hs_185, hm_186 h, hs_186, mA_uA, mA_uF, mA_uW, mF_uA, mF_uF, mF_uW, mW_uA, mW_uF, mW_uW, uA_uA, uA_uF, uF_uF, bI0, kv_s, ki_s, kj_s, kd_s, kq_s, kq_n, kq_o, ka_s, kc_r, kc_t, kc0_r, kc0_t, kch_r, kc0h_r, kw_s, kw0_s, kwh_s, kw0h_s, rg_ref, rg_null, rg_rf, ck_t, sel_some, lkn_hd, Option.isSome_some, Bool.true_and, Bool.and_true, okv_i, okv_l, okv_r, okv_n, okv_rf, okv_b, okv_0, okv_1, okv_f, okv_d, c1_i, c1_r, c1_n, c1_rf, c1_f, nI_add, n_mul, n_sub, n_pred, n_eq, n_le, n_lt, n_neN, n_Nne, N_lt, N_le, n_ltN, n_leN, rdI_n, rdJ_n, rdD_n, wrI_n, wrI_z0, wrI_z1, wrI_zb, wrJ_n, wrD_n, aln_s, okn_n, upd_is, upd_ne, Nat.add_zero, Nat.add_sub_cancel, decide_true, decide_false, cond_true, cond_false, if_true, if_false, ite_not, not_true_eq_false, not_false_eq_true, Nat.reduceEqDiff, Nat.reduceAdd, Nat.reduceMul, Nat.reduceSub, Nat.reduceLeDiff, z, e0, h1]
  · simp (disch := omega) only [e_304, x_304_0, x_304_1, x_304_4, x_304_5, x_304_8, x_304_11, x_304_12, x_304_13, x_304_16, x_304_17, x_304_18, x_304_21, x_304_24, hm_c h, hm_148 h, hg_0 h, ha_0, hm_149 h, hg_1 h, ha_1, hm_150 h, hg_2 h, ha_2, hm_151 h, hg_3 h, ha_3, hm_152 h, hg_4 h, ha_4, hm_153 h, hg_5 h, ha_5, hm_154 h, hg_6 h, ha_6, hm_155 h, hs_155, hm_156 h, hg_7 h, ha_7, hm_157 h, hs_157, hm_158 h, hs_158, hm_159 h, hs_159, hm_160 h, hs_160, hm_161 h, hs_161, hm_162 h, hs_162, hm_163 h, hs_163, hm_164 h, hs_164, hm_165 h, hs_165, hm_166 h, hg_8 h, ha_8, hm_167 h, hg_9 h, ha_9, hm_168 h, hg_10 h, ha_10, hm_169 h, hg_11 h, ha_11, hm_170 h, hg_12 h, ha_12, hm_171 h, hg_13 h, ha_13, hm_172 h, hs_172, hm_173 h, hs_173, hm_174 h, hs_174, hm_175 h, hs_175, hm_176 h, hs_176, hm_177 h, hg_14 h, ha_14, hm_178 h, hg_15 h, ha_15, hm_179 h, hg_16 h, ha_16, hm_180 h, hg_17 h, ha_17, hm_181 h, hg_18 h, ha_18, hm_182 h, hg_19 h, ha_19, hm_183 h, hg_20 h, ha_20, hm_184 h, hs_184, hm_185 h, hs_185, hm_186 h, hs_186, mA_uA, mA_uF, mA_uW, mF_uA, mF_uF, mF_uW, mW_uA, mW_uF, mW_uW, uA_uA, uA_uF, uF_uF, bI0, kv_s, ki_s, kj_s, kd_s, kq_s, kq_n, kq_o, ka_s, kc_r, kc_t, kc0_r, kc0_t, kch_r, kc0h_r, kw_s, kw0_s, kwh_s, kw0h_s, rg_ref, rg_null, rg_rf, ck_t, sel_some, lkn_hd, Option.isSome_some, Bool.true_and, Bool.and_true, okv_i, okv_l, okv_r, okv_n, okv_rf, okv_b, okv_0, okv_1, okv_f, okv_d, c1_i, c1_r, c1_n, c1_rf, c1_f, nI_add, n_mul, n_sub, n_pred, n_eq, n_le, n_lt, n_neN, n_Nne, N_lt, N_le, n_ltN, n_leN, rdI_n, rdJ_n, rdD_n, wrI_n, wrI_z0, wrI_z1, wrI_zb, wrJ_n, wrD_n, aln_s, okn_n, upd_is, upd_ne, Nat.add_zero, Nat.add_sub_cancel, decide_true, decide_false, cond_true, cond_false, if_true, if_false, ite_not, not_true_eq_false, not_false_eq_true, Nat.reduceEqDiff, Nat.reduceAdd, Nat.reduceMul, Nat.reduceSub, Nat.reduceLeDiff, h1]
def erM (M : Ms) (c : Nat) : Ms := uF (uF M 163 (nI c)) 164 (mF M 159)
theorem m_304_f (h : mO A m0) (f : mF M 163 = nI 0) {c : Nat} : evG TB (d + 1) 304 [.ref m0, .int (nI 0), .int (nI c)] (hM A m0 M) = some (.inl none, hM A m0 (erM M c)) := by
  unfold erM
  simp (disch := omega) only [e_304, x_304_0, x_304_1, x_304_4, x_304_5, x_304_8, x_304_11, x_304_12, x_304_13, x_304_16, x_304_17, x_304_18, x_304_21, x_304_24, hm_c h, hm_148 h, hg_0 h, ha_0, hm_149 h, hg_1 h, ha_1, hm_150 h, hg_2 h, ha_2, hm_151 h, hg_3 h, ha_3, hm_152 h, hg_4 h, ha_4, hm_153 h, hg_5 h, ha_5, hm_154 h, hg_6 h, ha_6, hm_155 h, hs_155, hm_156 h, hg_7 h, ha_7, hm_157 h, hs_157, hm_158 h, hs_158, hm_159 h, hs_159, hm_160 h, hs_160, hm_161 h, hs_161, hm_162 h, hs_162, hm_163 h, hs_163, hm_164 h, hs_164, hm_165 h, hs_165, hm_166 h, hg_8 h, ha_8, hm_167 h, hg_9 h, ha_9, hm_168 h, hg_10 h, ha_10, hm_169 h, hg_11 h, ha_11, hm_170 h, hg_12 h, ha_12, hm_171 h, hg_13 h, ha_13, hm_172 h, hs_172, hm_173 h, hs_173, hm_174 h, hs_174, hm_175 h, hs_175, hm_176 h, hs_176, hm_177 h, hg_14 h, ha_14, hm_178 h, hg_15 h, ha_15, hm_179 h, hg_16 h, ha_16, hm_180 h, hg_17 h, ha_17, hm_181 h, hg_18 h, ha_18, hm_182 h, hg_19 h, ha_19, hm_183 h, hg_20 h, ha_20, hm_184 h, hs_184, hm_185 h, hs_185, hm_186 h, hs_186, mA_uA, mA_uF, mA_uW, mF_uA, mF_uF, mF_uW, mW_uA, mW_uF, mW_uW, uA_uA, uA_uF, uF_uF, bI0, kv_s, ki_s, kj_s, kd_s, kq_s, kq_n, kq_o, ka_s, kc_r, kc_t, kc0_r, kc0_t, kch_r, kc0h_r, kw_s, kw0_s, kwh_s, kw0h_s, rg_ref, rg_null, rg_rf, ck_t, sel_some, lkn_hd, Option.isSome_some, Bool.true_and, Bool.and_true, okv_i, okv_l, okv_r, okv_n, okv_rf, okv_b, okv_0, okv_1, okv_f, okv_d, c1_i, c1_r, c1_n, c1_rf, c1_f, nI_add, n_mul, n_sub, n_pred, n_eq, n_le, n_lt, n_neN, n_Nne, N_lt, N_le, n_ltN, n_leN, rdI_n, rdJ_n, rdD_n, wrI_n, wrI_z0, wrI_z1, wrI_zb, wrJ_n, wrD_n, aln_s, okn_n, upd_is, upd_ne, Nat.add_zero, Nat.add_sub_cancel, decide_true, decide_false, cond_true, cond_false, if_true, if_false, ite_not, not_true_eq_false, not_false_eq_true, Nat.reduceEqDiff, Nat.reduceAdd, Nat.reduceMul, Nat.reduceSub, Nat.reduceLeDiff, f]
theorem m_305_f (h : mO A m0) (f : mF M 163 = nI 0) (t : TxM M T n) (hp : mF M 158 = nI i) (hi : i ≤ n) : evG TB (d + 5) 305 [.ref m0] (hM A m0 M) = some (.inl none, hM A m0 (tkM M T n i)) := by
  have q := m_296 (d := d) h t hp hi
  simp (disch := omega) only [e_305, x_305_0, x_305_1, x_305_4, x_305_7, x_305_8, x_305_11, hm_c h, hm_148 h, hg_0 h, ha_0, hm_149 h, hg_1 h, ha_1, hm_150 h, hg_2 h, ha_2, hm_151 h, hg_3 h, ha_3, hm_152 h, hg_4 h, ha_4, hm_153 h, hg_5 h, ha_5, hm_154 h, hg_6 h, ha_6, hm_155 h, hs_155, hm_156 h, hg_7 h, ha_7, hm_157 h, hs_157, hm_158 h, hs_158, hm_159 h, hs_159, hm_160 h, hs_160, hm_161 h, hs_161, hm_162 h, hs_162, hm_163 h, hs_163, hm_164 h, hs_164, hm_165 h, hs_165, hm_166 h, hg_8 h, ha_8, hm_167 h, hg_9 h, ha_9, hm_168 h, hg_10 h, ha_10, hm_169 h, hg_11 h, ha_11, hm_170 h, hg_12 h, ha_12, hm_171 h, hg_13 h, ha_13, hm_172 h, hs_172, hm_173 h, hs_173, hm_174 h, hs_174, hm_175 h, hs_175, hm_176 h, hs_176, hm_177 h, hg_14 h, ha_14, hm_178 h, hg_15 h, ha_15, hm_179 h, hg_16 h, ha_16, hm_180 h, hg_17 h, ha_17, hm_181 h, hg_18 h, ha_18, hm_182 h, hg_19 h, ha_19, hm_183 h, hg_20 h, ha_20, hm_184 h, hs_184, hm_185 h, hs_185, hm_186 h, hs_186, mA_uA, mA_uF, mA_uW, mF_uA, mF_uF, mF_uW, mW_uA, mW_uF, mW_uW, uA_uA, uA_uF, uF_uF, bI0, kv_s, ki_s, kj_s, kd_s, kq_s, kq_n, kq_o, ka_s, kc_r, kc_t, kc0_r, kc0_t, kch_r, kc0h_r, kw_s, kw0_s, kwh_s, kw0h_s, rg_ref, rg_null, rg_rf, ck_t, sel_some, lkn_hd, Option.isSome_some, Bool.true_and, Bool.and_true, okv_i, okv_l, okv_r, okv_n, okv_rf, okv_b, okv_0, okv_1, okv_f, okv_d, c1_i, c1_r, c1_n, c1_rf, c1_f, nI_add, n_mul, n_sub, n_pred, n_eq, n_le, n_lt, n_neN, n_Nne, N_lt, N_le, n_ltN, n_leN, rdI_n, rdJ_n, rdD_n, wrI_n, wrI_z0, wrI_z1, wrI_zb, wrJ_n, wrD_n, aln_s, okn_n, upd_is, upd_ne, Nat.add_zero, Nat.add_sub_cancel, decide_true, decide_false, cond_true, cond_false, if_true, if_false, ite_not, not_true_eq_false, not_false_eq_true, Nat.reduceEqDiff, Nat.reduceAdd, Nat.reduceMul, Nat.reduceSub, Nat.reduceLeDiff, m_300_f h f, q]
theorem m_305_z (h : mO A m0) (z : mF M 163 = nI e) (h0 : 0 < e ∧ e < 10) : evG TB (d + 2) 305 [.ref m0] (hM A m0 M) = some (.inl none, hM A m0 M) := by
  have q := m_300_z (d := d) h z h0
  simp (disch := omega) only [e_305, x_305_0, x_305_1, x_305_4, x_305_7, x_305_8, x_305_11, hm_c h, hm_148 h, hg_0 h, ha_0, hm_149 h, hg_1 h, ha_1, hm_150 h, hg_2 h, ha_2, hm_151 h, hg_3 h, ha_3, hm_152 h, hg_4 h, ha_4, hm_153 h, hg_5 h, ha_5, hm_154 h, hg_6 h, ha_6, hm_155 h, hs_155, hm_156 h, hg_7 h, ha_7, hm_157 h, hs_157, hm_158 h, hs_158, hm_159 h, hs_159, hm_160 h, hs_160, hm_161 h, hs_161, hm_162 h, hs_162, hm_163 h, hs_163, hm_164 h, hs_164, hm_165 h, hs_165, hm_166 h, hg_8 h, ha_8, hm_167 h, hg_9 h, ha_9, hm_168 h, hg_10 h, ha_10, hm_169 h, hg_11 h, ha_11, hm_170 h, hg_12 h, ha_12, hm_171 h, hg_13 h, ha_13, hm_172 h, hs_172, hm_173 h, hs_173, hm_174 h, hs_174, hm_175 h, hs_175, hm_176 h, hs_176, hm_177 h, hg_14 h, ha_14, hm_178 h, hg_15 h, ha_15, hm_179 h, hg_16 h, ha_16, hm_180 h, hg_17 h, ha_17, hm_181 h, hg_18 h, ha_18, hm_182 h, hg_19 h, ha_19, hm_183 h, hg_20 h, ha_20, hm_184 h, hs_184, hm_185 h, hs_185, hm_186 h, hs_186, mA_uA, mA_uF, mA_uW, mF_uA, mF_uF, mF_uW, mW_uA, mW_uF, mW_uW, uA_uA, uA_uF, uF_uF, bI0, kv_s, ki_s, kj_s, kd_s, kq_s, kq_n, kq_o, ka_s, kc_r, kc_t, kc0_r, kc0_t, kch_r, kc0h_r, kw_s, kw0_s, kwh_s, kw0h_s, rg_ref, rg_null, rg_rf, ck_t, sel_some, lkn_hd, Option.isSome_some, Bool.true_and, Bool.and_true, okv_i, okv_l, okv_r, okv_n, okv_rf, okv_b, okv_0, okv_1, okv_f, okv_d, c1_i, c1_r, c1_n, c1_rf, c1_f, nI_add, n_mul, n_sub, n_pred, n_eq, n_le, n_lt, n_neN, n_Nne, N_lt, N_le, n_ltN, n_leN, rdI_n, rdJ_n, rdD_n, wrI_n, wrI_z0, wrI_z1, wrI_zb, wrJ_n, wrD_n, aln_s, okn_n, upd_is, upd_ne, Nat.add_zero, Nat.add_sub_cancel, decide_true, decide_false, cond_true, cond_false, if_true, if_false, ite_not, not_true_eq_false, not_false_eq_true, Nat.reduceEqDiff, Nat.reduceAdd, Nat.reduceMul, Nat.reduceSub, Nat.reduceLeDiff, q]
theorem m_307_z (h : mO A m0) (z : mF M 163 = nI e) (h0 : 0 < e ∧ e < 10) {lo hi : Int32} : evG TB (d + 2) 307 [.ref m0, .int lo, .int hi] (hM A m0 M) = some (.inl none, hM A m0 M) := by
  have q := fun b c => m_304_z (d := d) (b := b) (c := c) h z h0
  rcases pc (mF M 160 = nI 3) with h1 | h1 <;> simp (disch := omega) only [e_307, x_307_0, x_307_1, x_307_2, x_307_5, x_307_6, x_307_9, x_307_10, x_307_13, x_307_14, x_307_15, x_307_18, x_307_19, x_307_20, x_307_23, x_307_24, x_307_25, x_307_28, x_307_29, x_307_32, hm_c h, hm_148 h, hg_0 h, ha_0, hm_149 h, hg_1 h, ha_1, hm_150 h, hg_2 h, ha_2, hm_151 h, hg_3 h, ha_3, hm_152 h, hg_4 h, ha_4, hm_153 h, hg_5 h, ha_5, hm_154 h, hg_6 h, ha_6, hm_155 h, hs_155, hm_156 h, hg_7 h, ha_7, hm_157 h, hs_157, hm_158 h, hs_158, hm_159 h, hs_159, hm_160 h, hs_160, hm_161 h, hs_161, hm_162 h, hs_162, hm_163 h, hs_163, hm_164 h, hs_164, hm_165 h, hs_165, hm_166 h, hg_8 h, ha_8, hm_167 h, hg_9 h, ha_9, hm_168 h, hg_10 h, ha_10, hm_169 h, hg_11 h, ha_11, hm_170 h, hg_12 h, ha_12, hm_171 h, hg_13 h, ha_13, hm_172 h, hs_172, hm_173 h, hs_173, hm_174 h, hs_174, hm_175 h, hs_175, hm_176 h, hs_176, hm_177 h, hg_14 h, ha_14, hm_178 h, hg_15 h, ha_15, hm_179 h, hg_16 h, ha_16, hm_180 h, hg_17 h, ha_17, hm_181 h, hg_18 h, ha_18, hm_182 h, hg_19 h, ha_19, hm_183 h, hg_20 h, ha_20, hm_184 h, hs_184, hm_185 h, hs_185, hm_186 h, hs_186, mA_uA, mA_uF, mA_uW, mF_uA, mF_uF, mF_uW, mW_uA, mW_uF, mW_uW, uA_uA, uA_uF, uF_uF, bI0, kv_s, ki_s, kj_s, kd_s, kq_s, kq_n, kq_o, ka_s, kc_r, kc_t, kc0_r, kc0_t, kch_r, kc0h_r, kw_s, kw0_s, kwh_s, kw0h_s, rg_ref, rg_null, rg_rf, ck_t, sel_some, lkn_hd, Option.isSome_some, Bool.true_and, Bool.and_true, okv_i, okv_l, okv_r, okv_n, okv_rf, okv_b, okv_0, okv_1, okv_f, okv_d, c1_i, c1_r, c1_n, c1_rf, c1_f, nI_add, n_mul, n_sub, n_pred, n_eq, n_le, n_lt, n_neN, n_Nne, N_lt, N_le, n_ltN, n_leN, rdI_n, rdJ_n, rdD_n, wrI_n, wrI_z0, wrI_z1, wrI_zb, wrJ_n, wrD_n, aln_s, okn_n, upd_is, upd_ne, Nat.add_zero, Nat.add_sub_cancel, decide_true, decide_false, cond_true, cond_false, if_true, if_false, ite_not, not_true_eq_false, not_false_eq_true, Nat.reduceEqDiff, Nat.reduceAdd, Nat.reduceMul, Nat.reduceSub, Nat.reduceLeDiff, m_293, q, h1]
theorem m_306_z (h : mO A m0) (z : mF M 163 = nI e) (h0 : 0 < e ∧ e < 10) {lo hi : Int32} : evG TB (d + 3) 306 [.ref m0, .int lo, .int hi] (hM A m0 M) = some (.inl (some (.int (mF M 162))), hM A m0 M) := by
  have q := m_307_z (d := d) (lo := lo) (hi := hi) h z h0
  have q2 := m_305_z (d := d) h z h0
  simp (disch := omega) only [e_306, x_306_0, x_306_1, x_306_2, x_306_3, x_306_6, x_306_7, x_306_10, x_306_11, x_306_12, x_306_15, x_306_16, hm_c h, hm_148 h, hg_0 h, ha_0, hm_149 h, hg_1 h, ha_1, hm_150 h, hg_2 h, ha_2, hm_151 h, hg_3 h, ha_3, hm_152 h, hg_4 h, ha_4, hm_153 h, hg_5 h, ha_5, hm_154 h, hg_6 h, ha_6, hm_155 h, hs_155, hm_156 h, hg_7 h, ha_7, hm_157 h, hs_157, hm_158 h, hs_158, hm_159 h, hs_159, hm_160 h, hs_160, hm_161 h, hs_161, hm_162 h, hs_162, hm_163 h, hs_163, hm_164 h, hs_164, hm_165 h, hs_165, hm_166 h, hg_8 h, ha_8, hm_167 h, hg_9 h, ha_9, hm_168 h, hg_10 h, ha_10, hm_169 h, hg_11 h, ha_11, hm_170 h, hg_12 h, ha_12, hm_171 h, hg_13 h, ha_13, hm_172 h, hs_172, hm_173 h, hs_173, hm_174 h, hs_174, hm_175 h, hs_175, hm_176 h, hs_176, hm_177 h, hg_14 h, ha_14, hm_178 h, hg_15 h, ha_15, hm_179 h, hg_16 h, ha_16, hm_180 h, hg_17 h, ha_17, hm_181 h, hg_18 h, ha_18, hm_182 h, hg_19 h, ha_19, hm_183 h, hg_20 h, ha_20, hm_184 h, hs_184, hm_185 h, hs_185, hm_186 h, hs_186, mA_uA, mA_uF, mA_uW, mF_uA, mF_uF, mF_uW, mW_uA, mW_uF, mW_uW, uA_uA, uA_uF, uF_uF, bI0, kv_s, ki_s, kj_s, kd_s, kq_s, kq_n, kq_o, ka_s, kc_r, kc_t, kc0_r, kc0_t, kch_r, kc0h_r, kw_s, kw0_s, kwh_s, kw0h_s, rg_ref, rg_null, rg_rf, ck_t, sel_some, lkn_hd, Option.isSome_some, Bool.true_and, Bool.and_true, okv_i, okv_l, okv_r, okv_n, okv_rf, okv_b, okv_0, okv_1, okv_f, okv_d, c1_i, c1_r, c1_n, c1_rf, c1_f, nI_add, n_mul, n_sub, n_pred, n_eq, n_le, n_lt, n_neN, n_Nne, N_lt, N_le, n_ltN, n_leN, rdI_n, rdJ_n, rdD_n, wrI_n, wrI_z0, wrI_z1, wrI_zb, wrJ_n, wrD_n, aln_s, okn_n, upd_is, upd_ne, Nat.add_zero, Nat.add_sub_cancel, decide_true, decide_false, cond_true, cond_false, if_true, if_false, ite_not, not_true_eq_false, not_false_eq_true, Nat.reduceEqDiff, Nat.reduceAdd, Nat.reduceMul, Nat.reduceSub, Nat.reduceLeDiff, q, q2]
theorem vlN_lt : vlN T n i < 1000000000 := by
  unfold vlN mNv
  have key : ∀ (l : List Nat) (v : Nat), (∀ x, x ∈ l → x ≤ 57) → v < 1000000000 → l.foldl (fun v x => if 10000000 < v then v else 10 * v + x - 48) v < 1000000000 := by
    intro l
    induction l with
    | nil => intro v _ h; exact h
    | cons x t ih =>
      intro v hx hv
      rw [List.foldl_cons]
      have h1 := hx x (by simp)
      refine ih _ (fun y hy => hx y (by simp [hy])) ?_
      split <;> omega
  refine key _ 0 (fun x hx => ?_) (by decide)
  have := run_in _ _ x hx
  unfold dgP at this
  obtain ⟨_, z2⟩ := Bool.and_eq_true_iff.mp this
  exact of_decide_eq_true z2
theorem tkK_le : tkK T n i ≤ 4 := by
  unfold tkK
  (repeat' split) <;> decide
theorem rng_n {v lo hx : Nat} (hv : v < 1000000000) (hl : lo < 1000) (hh : hx < 1000000) : (decide (nI lo ≤ nI v) && decide (nI v ≤ nI hx - nI 1)) = decide (lo ≤ v ∧ v < hx) := by
  cases hx with
  | zero =>
    have e : nI 0 - nI 1 = nN := by decide
    rw [e, decide_eq_false (show ¬ (lo ≤ v ∧ v < 0) by omega)]
    simp (disch := omega) only [n_leN, decide_false, Bool.and_false]
  | succ k =>
    simp (disch := omega) only [n_sub, n_le, Nat.add_sub_cancel]
    by_cases h : lo ≤ v ∧ v < k + 1
    · rw [decide_eq_true h, decide_eq_true h.1, decide_eq_true (show v ≤ k by omega)]; rfl
    · rw [decide_eq_false h]
      by_cases h1 : lo ≤ v
      · rw [decide_eq_false (show ¬ v ≤ k by omega), Bool.and_false]
      · rw [decide_eq_false h1, Bool.false_and]
theorem erM_163 {c : Nat} : mF (erM M c) 163 = nI c := rfl
theorem erM_164 {c : Nat} : mF (erM M c) 164 = mF M 159 := rfl
theorem m_307 (h : mO A m0) (f : mF M 163 = nI 0) (tk : TkI M T n i) {lo hx : Nat} {hi : Int32} (hl : lo < 1000) (hh : hx < 1000000) (ehi : hi = nI hx - nI 1) : evG TB (d + 2) 307 [.ref m0, .int (nI lo), .int hi] (hM A m0 M) = some (.inl none, hM A m0 (match pLk T n lo hx i with
    | none => M
    | some e => erM M e.1)) := by
  have k4 := tkK_le (T := T) (n := n) (i := i)
  have l160 := tk.kd
  have l162 := tk.nu
  have rg := rng_n (v := vlN T n i) (lo := lo) (hx := hx) vlN_lt hl hh
  rw [← ehi] at rg
  unfold vlN at rg
  unfold pLk
  rcases pc (tkK T n i = 3) with h1 | h1
  · rw [if_neg (fun z => z (of_eq_true h1))]
    by_cases h2 : lo ≤ vlN T n i ∧ vlN T n i < hx
    · rw [if_pos h2]
      unfold vlN at h2
      rw [decide_eq_true h2] at rg
      have e2 := m_293 (A := hM A m0 M) (d := d) (a := nI (mNv (tkD T n i))) (b := nI lo) (c := hi)
      rw [rg, bI_t] at e2
      have q := m_304_t (d := d) (m0 := m0) (c := nI 2) (H := hM A m0 M)
      have q1 := m_304_t (d := d) (m0 := m0) (c := nI 1) (H := hM A m0 M)
      simp (disch := omega) only [e_307, x_307_0, x_307_1, x_307_2, x_307_5, x_307_6, x_307_9, x_307_10, x_307_13, x_307_14, x_307_15, x_307_18, x_307_19, x_307_20, x_307_23, x_307_24, x_307_25, x_307_28, x_307_29, x_307_32, hm_c h, hm_148 h, hg_0 h, ha_0, hm_149 h, hg_1 h, ha_1, hm_150 h, hg_2 h, ha_2, hm_151 h, hg_3 h, ha_3, hm_152 h, hg_4 h, ha_4, hm_153 h, hg_5 h, ha_5, hm_154 h, hg_6 h, ha_6, hm_155 h, hs_155, hm_156 h, hg_7 h, ha_7, hm_157 h, hs_157, hm_158 h, hs_158, hm_159 h, hs_159, hm_160 h, hs_160, hm_161 h, hs_161, hm_162 h, hs_162, hm_163 h, hs_163, hm_164 h, hs_164, hm_165 h, hs_165, hm_166 h, hg_8 h, ha_8, hm_167 h, hg_9 h, ha_9, hm_168 h, hg_10 h, ha_10, hm_169 h, hg_11 h, ha_11, hm_170 h, hg_12 h, ha_12, hm_171 h, hg_13 h, ha_13, hm_172 h, hs_172, hm_173 h, hs_173, hm_174 h, hs_174, hm_175 h, hs_175, hm_176 h, hs_176, hm_177 h, hg_14 h, ha_14, hm_178 h, hg_15 h, ha_15, hm_179 h, hg_16 h, ha_16, hm_180 h, hg_17 h, ha_17, hm_181 h, hg_18 h, ha_18, hm_182 h, hg_19 h, ha_19, hm_183 h, hg_20 h, ha_20, hm_184 h, hs_184, hm_185 h, hs_185, hm_186 h, hs_186, mA_uA, mA_uF, mA_uW, mF_uA, mF_uF, mF_uW, mW_uA, mW_uF, mW_uW, uA_uA, uA_uF, uF_uF, bI0, kv_s, ki_s, kj_s, kd_s, kq_s, kq_n, kq_o, ka_s, kc_r, kc_t, kc0_r, kc0_t, kch_r, kc0h_r, kw_s, kw0_s, kwh_s, kw0h_s, rg_ref, rg_null, rg_rf, ck_t, sel_some, lkn_hd, Option.isSome_some, Bool.true_and, Bool.and_true, okv_i, okv_l, okv_r, okv_n, okv_rf, okv_b, okv_0, okv_1, okv_f, okv_d, c1_i, c1_r, c1_n, c1_rf, c1_f, nI_add, n_mul, n_sub, n_pred, n_eq, n_le, n_lt, n_neN, n_Nne, N_lt, N_le, n_ltN, n_leN, rdI_n, rdJ_n, rdD_n, wrI_n, wrI_z0, wrI_z1, wrI_zb, wrJ_n, wrD_n, aln_s, okn_n, upd_is, upd_ne, Nat.add_zero, Nat.add_sub_cancel, decide_true, decide_false, cond_true, cond_false, if_true, if_false, ite_not, not_true_eq_false, not_false_eq_true, Nat.reduceEqDiff, Nat.reduceAdd, Nat.reduceMul, Nat.reduceSub, Nat.reduceLeDiff, e2, l160, l162, h1, q, q1]
    · rw [if_neg h2]
      unfold vlN at h2
      rw [decide_eq_false h2] at rg
      have e2 := m_293 (A := hM A m0 M) (d := d) (a := nI (mNv (tkD T n i))) (b := nI lo) (c := hi)
      rw [rg, bI_f] at e2
      have q := m_304_f (d := d) (c := 2) h f
      have q1 := m_304_t (d := d) (m0 := m0) (c := nI 1) (H := hM A m0 M)
      simp (disch := omega) only [e_307, x_307_0, x_307_1, x_307_2, x_307_5, x_307_6, x_307_9, x_307_10, x_307_13, x_307_14, x_307_15, x_307_18, x_307_19, x_307_20, x_307_23, x_307_24, x_307_25, x_307_28, x_307_29, x_307_32, hm_c h, hm_148 h, hg_0 h, ha_0, hm_149 h, hg_1 h, ha_1, hm_150 h, hg_2 h, ha_2, hm_151 h, hg_3 h, ha_3, hm_152 h, hg_4 h, ha_4, hm_153 h, hg_5 h, ha_5, hm_154 h, hg_6 h, ha_6, hm_155 h, hs_155, hm_156 h, hg_7 h, ha_7, hm_157 h, hs_157, hm_158 h, hs_158, hm_159 h, hs_159, hm_160 h, hs_160, hm_161 h, hs_161, hm_162 h, hs_162, hm_163 h, hs_163, hm_164 h, hs_164, hm_165 h, hs_165, hm_166 h, hg_8 h, ha_8, hm_167 h, hg_9 h, ha_9, hm_168 h, hg_10 h, ha_10, hm_169 h, hg_11 h, ha_11, hm_170 h, hg_12 h, ha_12, hm_171 h, hg_13 h, ha_13, hm_172 h, hs_172, hm_173 h, hs_173, hm_174 h, hs_174, hm_175 h, hs_175, hm_176 h, hs_176, hm_177 h, hg_14 h, ha_14, hm_178 h, hg_15 h, ha_15, hm_179 h, hg_16 h, ha_16, hm_180 h, hg_17 h, ha_17, hm_181 h, hg_18 h, ha_18, hm_182 h, hg_19 h, ha_19, hm_183 h, hg_20 h, ha_20, hm_184 h, hs_184, hm_185 h, hs_185, hm_186 h, hs_186, mA_uA, mA_uF, mA_uW, mF_uA, mF_uF, mF_uW, mW_uA, mW_uF, mW_uW, uA_uA, uA_uF, uF_uF, bI0, kv_s, ki_s, kj_s, kd_s, kq_s, kq_n, kq_o, ka_s, kc_r, kc_t, kc0_r, kc0_t, kch_r, kc0h_r, kw_s, kw0_s, kwh_s, kw0h_s, rg_ref, rg_null, rg_rf, ck_t, sel_some, lkn_hd, Option.isSome_some, Bool.true_and, Bool.and_true, okv_i, okv_l, okv_r, okv_n, okv_rf, okv_b, okv_0, okv_1, okv_f, okv_d, c1_i, c1_r, c1_n, c1_rf, c1_f, nI_add, n_mul, n_sub, n_pred, n_eq, n_le, n_lt, n_neN, n_Nne, N_lt, N_le, n_ltN, n_leN, rdI_n, rdJ_n, rdD_n, wrI_n, wrI_z0, wrI_z1, wrI_zb, wrJ_n, wrD_n, aln_s, okn_n, upd_is, upd_ne, Nat.add_zero, Nat.add_sub_cancel, decide_true, decide_false, cond_true, cond_false, if_true, if_false, ite_not, not_true_eq_false, not_false_eq_true, Nat.reduceEqDiff, Nat.reduceAdd, Nat.reduceMul, Nat.reduceSub, Nat.reduceLeDiff, e2, l160, l162, h1, q, q1]
  · rw [if_pos (of_eq_false h1)]
    have q1 := m_304_f (d := d) (c := 1) h f
    have l162' : mF (erM M 1) 162 = nI (mNv (tkD T n i)) := l162
    have q := fun b => m_304_z (d := d) (M := erM M 1) (e := 1) (b := b) (c := nI 2) h erM_163 (by decide)
    simp (disch := omega) only [e_307, x_307_0, x_307_1, x_307_2, x_307_5, x_307_6, x_307_9, x_307_10, x_307_13, x_307_14, x_307_15, x_307_18, x_307_19, x_307_20, x_307_23, x_307_24, x_307_25, x_307_28, x_307_29, x_307_32, hm_c h, hm_148 h, hg_0 h, ha_0, hm_149 h, hg_1 h, ha_1, hm_150 h, hg_2 h, ha_2, hm_151 h, hg_3 h, ha_3, hm_152 h, hg_4 h, ha_4, hm_153 h, hg_5 h, ha_5, hm_154 h, hg_6 h, ha_6, hm_155 h, hs_155, hm_156 h, hg_7 h, ha_7, hm_157 h, hs_157, hm_158 h, hs_158, hm_159 h, hs_159, hm_160 h, hs_160, hm_161 h, hs_161, hm_162 h, hs_162, hm_163 h, hs_163, hm_164 h, hs_164, hm_165 h, hs_165, hm_166 h, hg_8 h, ha_8, hm_167 h, hg_9 h, ha_9, hm_168 h, hg_10 h, ha_10, hm_169 h, hg_11 h, ha_11, hm_170 h, hg_12 h, ha_12, hm_171 h, hg_13 h, ha_13, hm_172 h, hs_172, hm_173 h, hs_173, hm_174 h, hs_174, hm_175 h, hs_175, hm_176 h, hs_176, hm_177 h, hg_14 h, ha_14, hm_178 h, hg_15 h, ha_15, hm_179 h, hg_16 h, ha_16, hm_180 h, hg_17 h, ha_17, hm_181 h, hg_18 h, ha_18, hm_182 h, hg_19 h, ha_19, hm_183 h, hg_20 h, ha_20, hm_184 h, hs_184, hm_185 h, hs_185, hm_186 h, hs_186, mA_uA, mA_uF, mA_uW, mF_uA, mF_uF, mF_uW, mW_uA, mW_uF, mW_uW, uA_uA, uA_uF, uF_uF, bI0, kv_s, ki_s, kj_s, kd_s, kq_s, kq_n, kq_o, ka_s, kc_r, kc_t, kc0_r, kc0_t, kch_r, kc0h_r, kw_s, kw0_s, kwh_s, kw0h_s, rg_ref, rg_null, rg_rf, ck_t, sel_some, lkn_hd, Option.isSome_some, Bool.true_and, Bool.and_true, okv_i, okv_l, okv_r, okv_n, okv_rf, okv_b, okv_0, okv_1, okv_f, okv_d, c1_i, c1_r, c1_n, c1_rf, c1_f, nI_add, n_mul, n_sub, n_pred, n_eq, n_le, n_lt, n_neN, n_Nne, N_lt, N_le, n_ltN, n_leN, rdI_n, rdJ_n, rdD_n, wrI_n, wrI_z0, wrI_z1, wrI_zb, wrJ_n, wrD_n, aln_s, okn_n, upd_is, upd_ne, Nat.add_zero, Nat.add_sub_cancel, decide_true, decide_false, cond_true, cond_false, if_true, if_false, ite_not, not_true_eq_false, not_false_eq_true, Nat.reduceEqDiff, Nat.reduceAdd, Nat.reduceMul, Nat.reduceSub, Nat.reduceLeDiff, m_293, l160, l162, l162', h1, q1, q]
/-- a number taken -/
theorem m_306 (h : mO A m0) (f : mF M 163 = nI 0) (t : TxM M T n) (tk : TkI M T n i) (hn : tkE T n i ≤ n) {lo hx : Nat} {hi : Int32} (hl : lo < 1000) (hh : hx < 1000000) (ehi : hi = nI hx - nI 1) : evG TB (d + 6) 306 [.ref m0, .int (nI lo), .int hi] (hM A m0 M) = some (.inl (some (.int (nI (vlN T n i)))), hM A m0 (match pLk T n lo hx i with
    | none => tkM M T n (tkE T n i)
    | some e => erM M e.1)) := by
  have q := m_307 (d := d + 3) h f tk hl hh ehi
  have l162 := tk.nu
  cases hp : pLk T n lo hx i with
  | none =>
    rw [hp] at q
    have q2 := m_305_f (d := d) h f t tk.en hn
    simp (disch := omega) only [e_306, x_306_0, x_306_1, x_306_2, x_306_3, x_306_6, x_306_7, x_306_10, x_306_11, x_306_12, x_306_15, x_306_16, hm_c h, hm_148 h, hg_0 h, ha_0, hm_149 h, hg_1 h, ha_1, hm_150 h, hg_2 h, ha_2, hm_151 h, hg_3 h, ha_3, hm_152 h, hg_4 h, ha_4, hm_153 h, hg_5 h, ha_5, hm_154 h, hg_6 h, ha_6, hm_155 h, hs_155, hm_156 h, hg_7 h, ha_7, hm_157 h, hs_157, hm_158 h, hs_158, hm_159 h, hs_159, hm_160 h, hs_160, hm_161 h, hs_161, hm_162 h, hs_162, hm_163 h, hs_163, hm_164 h, hs_164, hm_165 h, hs_165, hm_166 h, hg_8 h, ha_8, hm_167 h, hg_9 h, ha_9, hm_168 h, hg_10 h, ha_10, hm_169 h, hg_11 h, ha_11, hm_170 h, hg_12 h, ha_12, hm_171 h, hg_13 h, ha_13, hm_172 h, hs_172, hm_173 h, hs_173, hm_174 h, hs_174, hm_175 h, hs_175, hm_176 h, hs_176, hm_177 h, hg_14 h, ha_14, hm_178 h, hg_15 h, ha_15, hm_179 h, hg_16 h, ha_16, hm_180 h, hg_17 h, ha_17, hm_181 h, hg_18 h, ha_18, hm_182 h, hg_19 h, ha_19, hm_183 h, hg_20 h, ha_20, hm_184 h, hs_184, hm_185 h, hs_185, hm_186 h, hs_186, mA_uA, mA_uF, mA_uW, mF_uA, mF_uF, mF_uW, mW_uA, mW_uF, mW_uW, uA_uA, uA_uF, uF_uF, bI0, kv_s, ki_s, kj_s, kd_s, kq_s, kq_n, kq_o, ka_s, kc_r, kc_t, kc0_r, kc0_t, kch_r, kc0h_r, kw_s, kw0_s, kwh_s, kw0h_s, rg_ref, rg_null, rg_rf, ck_t, sel_some, lkn_hd, Option.isSome_some, Bool.true_and, Bool.and_true, okv_i, okv_l, okv_r, okv_n, okv_rf, okv_b, okv_0, okv_1, okv_f, okv_d, c1_i, c1_r, c1_n, c1_rf, c1_f, nI_add, n_mul, n_sub, n_pred, n_eq, n_le, n_lt, n_neN, n_Nne, N_lt, N_le, n_ltN, n_leN, rdI_n, rdJ_n, rdD_n, wrI_n, wrI_z0, wrI_z1, wrI_zb, wrJ_n, wrD_n, aln_s, okn_n, upd_is, upd_ne, Nat.add_zero, Nat.add_sub_cancel, decide_true, decide_false, cond_true, cond_false, if_true, if_false, ite_not, not_true_eq_false, not_false_eq_true, Nat.reduceEqDiff, Nat.reduceAdd, Nat.reduceMul, Nat.reduceSub, Nat.reduceLeDiff, q, q2, l162]
    rfl
  | some e =>
    rw [hp] at q
    have h0 : 0 < e.1 ∧ e.1 < 10 := by
      unfold pLk at hp
      (repeat' split at hp) <;> cases hp <;> simp
    have q2 := m_305_z (d := d + 3) (M := erM M e.1) h erM_163 h0
    have l162' : mF (erM M e.1) 162 = nI (mNv (tkD T n i)) := l162
    simp (disch := omega) only [e_306, x_306_0, x_306_1, x_306_2, x_306_3, x_306_6, x_306_7, x_306_10, x_306_11, x_306_12, x_306_15, x_306_16, hm_c h, hm_148 h, hg_0 h, ha_0, hm_149 h, hg_1 h, ha_1, hm_150 h, hg_2 h, ha_2, hm_151 h, hg_3 h, ha_3, hm_152 h, hg_4 h, ha_4, hm_153 h, hg_5 h, ha_5, hm_154 h, hg_6 h, ha_6, hm_155 h, hs_155, hm_156 h, hg_7 h, ha_7, hm_157 h, hs_157, hm_158 h, hs_158, hm_159 h, hs_159, hm_160 h, hs_160, hm_161 h, hs_161, hm_162 h, hs_162, hm_163 h, hs_163, hm_164 h, hs_164, hm_165 h, hs_165, hm_166 h, hg_8 h, ha_8, hm_167 h, hg_9 h, ha_9, hm_168 h, hg_10 h, ha_10, hm_169 h, hg_11 h, ha_11, hm_170 h, hg_12 h, ha_12, hm_171 h, hg_13 h, ha_13, hm_172 h, hs_172, hm_173 h, hs_173, hm_174 h, hs_174, hm_175 h, hs_175, hm_176 h, hs_176, hm_177 h, hg_14 h, ha_14, hm_178 h, hg_15 h, ha_15, hm_179 h, hg_16 h, ha_16, hm_180 h, hg_17 h, ha_17, hm_181 h, hg_18 h, ha_18, hm_182 h, hg_19 h, ha_19, hm_183 h, hg_20 h, ha_20, hm_184 h, hs_184, hm_185 h, hs_185, hm_186 h, hs_186, mA_uA, mA_uF, mA_uW, mF_uA, mF_uF, mF_uW, mW_uA, mW_uF, mW_uW, uA_uA, uA_uF, uF_uF, bI0, kv_s, ki_s, kj_s, kd_s, kq_s, kq_n, kq_o, ka_s, kc_r, kc_t, kc0_r, kc0_t, kch_r, kc0h_r, kw_s, kw0_s, kwh_s, kw0h_s, rg_ref, rg_null, rg_rf, ck_t, sel_some, lkn_hd, Option.isSome_some, Bool.true_and, Bool.and_true, okv_i, okv_l, okv_r, okv_n, okv_rf, okv_b, okv_0, okv_1, okv_f, okv_d, c1_i, c1_r, c1_n, c1_rf, c1_f, nI_add, n_mul, n_sub, n_pred, n_eq, n_le, n_lt, n_neN, n_Nne, N_lt, N_le, n_ltN, n_leN, rdI_n, rdJ_n, rdD_n, wrI_n, wrI_z0, wrI_z1, wrI_zb, wrJ_n, wrD_n, aln_s, okn_n, upd_is, upd_ne, Nat.add_zero, Nat.add_sub_cancel, decide_true, decide_false, cond_true, cond_false, if_true, if_false, ite_not, not_true_eq_false, not_false_eq_true, Nat.reduceEqDiff, Nat.reduceAdd, Nat.reduceMul, Nat.reduceSub, Nat.reduceLeDiff, q, q2, l162']
    rfl
theorem tkE_le (hi : i ≤ n) : tkE T n i ≤ n := by
  have h1 := run_len (T := T) (n := n) spP (n - i) i
  have hb : tkB T n i ≤ n := by unfold tkB runA; omega
  have h2 := run_len (T := T) (n := n) leP (n - tkB T n i) (tkB T n i)
  have h3 := run_len (T := T) (n := n) dgP (n - tkB T n i) (tkB T n i)
  unfold tkE
  have h4 : tkK T n i ≠ 0 → tkB T n i < n := fun z => by
    unfold tkK at z
    by_cases q : n ≤ tkB T n i
    · rw [if_pos q] at z; exact absurd rfl z
    · omega
  unfold tkL tkD runA
  split
  · omega
  · split
    · omega
    · split
      · omega
      · have := h4 (by assumption)
        omega
end
