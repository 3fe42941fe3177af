/-! the model's questions about routes: route, routeGantry, leastToll, by the best way whatever stood there before -/
/-- what route answers -/
def rtV (a : Ac) (w : Nat) : Int32 := if a.1 = far then nN else if w = 0 then a.1 else if w = 1 then a.2.1 else if w = 2 then a.2.2.1 else a.2.2.2.1
def ltV (a b : Nat) (x : Int32) : Int32 := if a = b then nI 0 else if x = far then nN else x
theorem BtOK.fr {G to : Nat} {fr : Int32} {a b : Ac} (h : BtOK G to fr a b) : (a.1 = far) = (b.1 = far) := by
  rcases h.2.2 with ⟨x1, x2, -, -⟩ | ⟨x1, -, -, -, r, f, -⟩
  · rw [x1, x2]
  · rw [x1]
theorem FdOK.nf {G to : Nat} {fr : Int32} {a : Ac} {r : Nat} (h : FdOK G to fr a r) : ¬ a.1 = far := by
  obtain ⟨c, e, l⟩ := h.co
  rw [e]
  exact far_ne (by omega)
theorem BtOK.found {G to : Nat} {fr : Int32} {a b : Ac} (h : BtOK G to fr a b) (hf : ¬ a.1 = far) : a.1 = b.1 ∧ a.2.1 = b.2.1 ∧ a.2.2.1 = b.2.2.1 ∧ a.2.2.2.1 = b.2.2.2.1 ∧ ∃ r, FdOK G to fr b r ∧ ∀ j, j ≤ r → a.2.2.2.2.2 j = b.2.2.2.2.2 j := by
  rcases h.2.2 with ⟨x1, -, -, -⟩ | q
  · exact absurd x1 hf
  · exact q
section
variable {A : Hp} {m0 d : Nat} {M : Ms}
theorem m_344 (h : mO A m0) {G R a b e sl w : Nat} (hS : NetOK (mA M 0) G R) (hG : mA M 0 8 = nI G) (hR : mA M 0 9 = nI R) (hsl : mA M 0 2 = nI sl) (hsl2 : sl ≤ 20) (ha : a < G) (hb : b < G) (hab : a ≠ b) (he : e ≤ 600) (hw : w < 4) :
    ∃ M' : Ms, evG TB (d + 4) 344 [.ref m0, .int (nI a), .int (nI b), .int (nI e), .int (nI w)] (hM A m0 M) = some (.inl (some (.int (rtV (bst (mA M 0) G R (nI a) b (nI e)) w))), hM A m0 M') ∧ Fs (uF M 155 (nI 0)) M' := by
  have hG2 := hS.G12
  have hR2 := hS.R40
  obtain ⟨M', e1, f1, a1⟩ := m_345 (d := d) (M := uF M 155 (nI 0)) (fr := nI a) (el := nI e) h hG hG2 hR hR2 hb
  refine ⟨M', ?_, f1⟩
  have bo := best_ok (to := b) (fr := nI a) hS he hsl hsl2 (acM M)
  have e0 : (a = b) = False := eq_false hab
  have a1 : acM M' = best (mA M 0) G R (nI a) b (nI e) (acM M) := a1
  rw [← a1] at bo
  obtain ⟨c1, c2, c3, c4, c5, -⟩ := acM_1 (M := M') rfl
  have hq := m_323 (d := d + 1) (M := uF M 155 (nI 0)) h (x := nI a) hG
  have hq2 := m_323 (d := d + 1) (M := uF M 155 (nI 0)) h (x := nI b) hG
  rw [inB_n ha (by omega), bI_t] at hq
  rw [inB_n hb (by omega), bI_t] at hq2
  have w4 : w ≤ 3 := by omega
  have hb1 := bo.fr
  rcases pc (mF M' 172 = far) with h1 | h1
  · have h1' : mF M' 172 = nI 1000000000 := of_eq_true h1
    have h2 : (acM M').1 = far := of_eq_true h1
    rw [hb1] at h2
    unfold rtV
    rw [if_pos h2]
    simp (disch := omega) only [e_344, x_344_0, x_344_1, x_344_2, x_344_5, x_344_6, x_344_7, x_344_10, x_344_13, x_344_14, x_344_15, x_344_18, x_344_21, x_344_22, x_344_23, x_344_26, x_344_27, x_344_28, x_344_29, x_344_32, x_344_33, x_344_34, x_344_37, x_344_40, x_344_43, x_344_45, x_344_46, x_344_47, x_344_50, x_344_53, x_344_54, x_344_55, x_344_58, x_344_59, x_344_60, x_344_61, x_344_62, x_344_63, x_344_66, x_344_67, x_344_70, x_344_73, x_344_76, x_344_77, x_344_78, x_344_80, x_344_83, x_344_84, x_344_87, x_344_90, x_344_92, x_344_93, x_344_96, x_344_97, x_344_100, x_344_103, x_344_105, x_344_106, x_344_109, x_344_110, x_344_113, x_344_116, x_344_117, x_344_120, hq, hq2, m_293, yle (Nat.zero_le e), yle he, yle (Nat.zero_le w), yle w4, bI_t, e_291, x_291_0, x_291_1, x_291_2, x_291_5, x_291_6, e1, hm_c h, hm_148 h, hg_0 h, ha_0, hm_149 h, hg_1 h, ha_1, hm_150 h, hg_2 h, ha_2, hm_151 h, hg_3 h, ha_3, hm_152 h, hg_4 h, ha_4, hm_153 h, hg_5 h, ha_5, hm_154 h, hg_6 h, ha_6, hm_155 h, hs_155, hm_156 h, hg_7 h, ha_7, hm_157 h, hs_157, hm_158 h, hs_158, hm_159 h, hs_159, hm_160 h, hs_160, hm_161 h, hs_161, hm_162 h, hs_162, hm_163 h, hs_163, hm_164 h, hs_164, hm_165 h, hs_165, hm_166 h, hg_8 h, ha_8, hm_167 h, hg_9 h, ha_9, hm_168 h, hg_10 h, ha_10, hm_169 h, hg_11 h, ha_11, hm_170 h, hg_12 h, ha_12, hm_171 h, hg_13 h, ha_13, hm_172 h, hs_172, hm_173 h, hs_173, hm_174 h, hs_174, hm_175 h, hs_175, hm_176 h, hs_176, hm_177 h, hg_14 h, ha_14, hm_178 h, hg_15 h, ha_15, hm_179 h, hg_16 h, ha_16, hm_180 h, hg_17 h, ha_17, hm_181 h, hg_18 h, ha_18, hm_182 h, hg_19 h, ha_19, hm_183 h, hg_20 h, ha_20, hm_184 h, hs_184, hm_185 h, hs_185, hm_186 h, hs_186, mA_uA, mA_uF, mA_uW, mF_uA, mF_uF, mF_uW, mW_uA, mW_uF, mW_uW, uA_uA, uA_uF, uF_uF, bI0, kv_s, ki_s, kj_s, kd_s, kq_s, kq_n, kq_o, ka_s, kc_r, kc_t, kc0_r, kc0_t, kch_r, kc0h_r, kw_s, kw0_s, kwh_s, kw0h_s, rg_ref, rg_null, rg_rf, ck_t, sel_some, lkn_hd, Option.isSome_some, Bool.true_and, Bool.and_true, okv_i, okv_l, okv_r, okv_n, okv_rf, okv_b, okv_0, okv_1, okv_f, okv_d, c1_i, c1_r, c1_n, c1_rf, c1_f, nI_add, n_mul, n_sub, n_pred, n_eq, n_le, n_lt, n_neN, n_Nne, N_lt, N_le, n_ltN, n_leN, rdI_n, rdJ_n, rdD_n, wrI_n, wrI_z0, wrI_z1, wrI_zb, wrJ_n, wrD_n, aln_s, okn_n, upd_is, upd_ne, Nat.add_zero, Nat.add_sub_cancel, decide_true, decide_false, cond_true, cond_false, if_true, if_false, ite_not, not_true_eq_false, not_false_eq_true, Nat.reduceEqDiff, Nat.reduceAdd, Nat.reduceMul, Nat.reduceSub, Nat.reduceLeDiff, e0, h1']
  · have h1' : (mF M' 172 = nI 1000000000) = False := h1
    have h2 : ¬ (acM M').1 = far := of_eq_false h1
    have hfd := bo.found h2
    rw [hb1] at h2
    unfold rtV
    rw [if_neg h2, ← hfd.1, ← hfd.2.1, ← hfd.2.2.1, ← hfd.2.2.2.1]
    have hw : w = 0 ∨ w = 1 ∨ w = 2 ∨ w = 3 := by omega
    rcases hw with rfl | rfl | rfl | rfl <;> simp (disch := omega) only [e_344, x_344_0, x_344_1, x_344_2, x_344_5, x_344_6, x_344_7, x_344_10, x_344_13, x_344_14, x_344_15, x_344_18, x_344_21, x_344_22, x_344_23, x_344_26, x_344_27, x_344_28, x_344_29, x_344_32, x_344_33, x_344_34, x_344_37, x_344_40, x_344_43, x_344_45, x_344_46, x_344_47, x_344_50, x_344_53, x_344_54, x_344_55, x_344_58, x_344_59, x_344_60, x_344_61, x_344_62, x_344_63, x_344_66, x_344_67, x_344_70, x_344_73, x_344_76, x_344_77, x_344_78, x_344_80, x_344_83, x_344_84, x_344_87, x_344_90, x_344_92, x_344_93, x_344_96, x_344_97, x_344_100, x_344_103, x_344_105, x_344_106, x_344_109, x_344_110, x_344_113, x_344_116, x_344_117, x_344_120, hq, hq2, m_293, yle (Nat.zero_le e), yle he, bI_t, e_291, x_291_0, x_291_1, x_291_2, x_291_5, x_291_6, e1, hm_c h, hm_148 h, hg_0 h, ha_0, hm_149 h, hg_1 h, ha_1, hm_150 h, hg_2 h, ha_2, hm_151 h, hg_3 h, ha_3, hm_152 h, hg_4 h, ha_4, hm_153 h, hg_5 h, ha_5, hm_154 h, hg_6 h, ha_6, hm_155 h, hs_155, hm_156 h, hg_7 h, ha_7, hm_157 h, hs_157, hm_158 h, hs_158, hm_159 h, hs_159, hm_160 h, hs_160, hm_161 h, hs_161, hm_162 h, hs_162, hm_163 h, hs_163, hm_164 h, hs_164, hm_165 h, hs_165, hm_166 h, hg_8 h, ha_8, hm_167 h, hg_9 h, ha_9, hm_168 h, hg_10 h, ha_10, hm_169 h, hg_11 h, ha_11, hm_170 h, hg_12 h, ha_12, hm_171 h, hg_13 h, ha_13, hm_172 h, hs_172, hm_173 h, hs_173, hm_174 h, hs_174, hm_175 h, hs_175, hm_176 h, hs_176, hm_177 h, hg_14 h, ha_14, hm_178 h, hg_15 h, ha_15, hm_179 h, hg_16 h, ha_16, hm_180 h, hg_17 h, ha_17, hm_181 h, hg_18 h, ha_18, hm_182 h, hg_19 h, ha_19, hm_183 h, hg_20 h, ha_20, hm_184 h, hs_184, hm_185 h, hs_185, hm_186 h, hs_186, mA_uA, mA_uF, mA_uW, mF_uA, mF_uF, mF_uW, mW_uA, mW_uF, mW_uW, uA_uA, uA_uF, uF_uF, bI0, kv_s, ki_s, kj_s, kd_s, kq_s, kq_n, kq_o, ka_s, kc_r, kc_t, kc0_r, kc0_t, kch_r, kc0h_r, kw_s, kw0_s, kwh_s, kw0h_s, rg_ref, rg_null, rg_rf, ck_t, sel_some, lkn_hd, Option.isSome_some, Bool.true_and, Bool.and_true, okv_i, okv_l, okv_r, okv_n, okv_rf, okv_b, okv_0, okv_1, okv_f, okv_d, c1_i, c1_r, c1_n, c1_rf, c1_f, nI_add, n_mul, n_sub, n_pred, n_eq, n_le, n_lt, n_neN, n_Nne, N_lt, N_le, n_ltN, n_leN, rdI_n, rdJ_n, rdD_n, wrI_n, wrI_z0, wrI_z1, wrI_zb, wrJ_n, wrD_n, aln_s, okn_n, upd_is, upd_ne, Nat.add_zero, Nat.add_sub_cancel, decide_true, decide_false, cond_true, cond_false, if_true, if_false, ite_not, not_true_eq_false, not_false_eq_true, Nat.reduceEqDiff, Nat.reduceAdd, Nat.reduceMul, Nat.reduceSub, Nat.reduceLeDiff, e0, h1', acM]
theorem m_348 (h : mO A m0) {G R a b e sl w : Nat} (hS : NetOK (mA M 0) G R) (hG : mA M 0 8 = nI G) (hR : mA M 0 9 = nI R) (hsl : mA M 0 2 = nI sl) (hsl2 : sl ≤ 20) (ha : a < G) (hb : b < G) (hab : a ≠ b) (he : e ≤ 600) (hw : w < 2147483648) :
    ∃ M' : Ms, evG TB (d + 4) 348 [.ref m0, .int (nI a), .int (nI b), .int (nI e), .int (nI w)] (hM A m0 M) = some (.inl (some (.int (if (bst (mA M 0) G R (nI a) b (nI e)).1 = far then nN else if (bst (mA M 0) G R (nI a) b (nI e)).2.1 < nI w then nN else (bst (mA M 0) G R (nI a) b (nI e)).2.2.2.2.2 w))), hM A m0 M') ∧ Fs (uF M 155 (nI 0)) M' := by
  have hG2 := hS.G12
  have hR2 := hS.R40
  obtain ⟨M', e1, f1, a1⟩ := m_345 (d := d) (M := uF M 155 (nI 0)) (fr := nI a) (el := nI e) h hG hG2 hR hR2 hb
  refine ⟨M', ?_, f1⟩
  have bo := best_ok (to := b) (fr := nI a) hS he hsl hsl2 (acM M)
  have e0 : (a = b) = False := eq_false hab
  have a1 : acM M' = best (mA M 0) G R (nI a) b (nI e) (acM M) := a1
  rw [← a1] at bo
  have hq := m_323 (d := d + 1) (M := uF M 155 (nI 0)) h (x := nI a) hG
  have hq2 := m_323 (d := d + 1) (M := uF M 155 (nI 0)) h (x := nI b) hG
  rw [inB_n ha (by omega), bI_t] at hq
  rw [inB_n hb (by omega), bI_t] at hq2
  have hb1 := bo.fr
  rcases pc (mF M' 172 = far) with h1 | h1
  · have h1' : mF M' 172 = nI 1000000000 := of_eq_true h1
    have h2 : (acM M').1 = far := of_eq_true h1
    rw [hb1] at h2
    rw [if_pos h2]
    simp (disch := omega) only [e_348, x_348_0, x_348_1, x_348_2, x_348_5, x_348_6, x_348_7, x_348_10, x_348_13, x_348_14, x_348_15, x_348_18, x_348_21, x_348_22, x_348_23, x_348_26, x_348_27, x_348_28, x_348_29, x_348_32, x_348_33, x_348_34, x_348_37, x_348_40, x_348_43, x_348_45, x_348_48, x_348_49, x_348_50, x_348_53, x_348_54, x_348_55, x_348_56, x_348_57, x_348_58, x_348_61, x_348_62, x_348_65, x_348_68, x_348_71, x_348_73, x_348_74, x_348_77, x_348_80, x_348_81, x_348_84, x_348_85, x_348_88, x_348_90, x_348_91, hq, hq2, m_293, yle (Nat.zero_le e), yle he, yle (Nat.zero_le w), nlt (Nat.zero_le w), bI_t, e_291, x_291_0, x_291_1, x_291_2, x_291_5, x_291_6, e1, hm_c h, hm_148 h, hg_0 h, ha_0, hm_149 h, hg_1 h, ha_1, hm_150 h, hg_2 h, ha_2, hm_151 h, hg_3 h, ha_3, hm_152 h, hg_4 h, ha_4, hm_153 h, hg_5 h, ha_5, hm_154 h, hg_6 h, ha_6, hm_155 h, hs_155, hm_156 h, hg_7 h, ha_7, hm_157 h, hs_157, hm_158 h, hs_158, hm_159 h, hs_159, hm_160 h, hs_160, hm_161 h, hs_161, hm_162 h, hs_162, hm_163 h, hs_163, hm_164 h, hs_164, hm_165 h, hs_165, hm_166 h, hg_8 h, ha_8, hm_167 h, hg_9 h, ha_9, hm_168 h, hg_10 h, ha_10, hm_169 h, hg_11 h, ha_11, hm_170 h, hg_12 h, ha_12, hm_171 h, hg_13 h, ha_13, hm_172 h, hs_172, hm_173 h, hs_173, hm_174 h, hs_174, hm_175 h, hs_175, hm_176 h, hs_176, hm_177 h, hg_14 h, ha_14, hm_178 h, hg_15 h, ha_15, hm_179 h, hg_16 h, ha_16, hm_180 h, hg_17 h, ha_17, hm_181 h, hg_18 h, ha_18, hm_182 h, hg_19 h, ha_19, hm_183 h, hg_20 h, ha_20, hm_184 h, hs_184, hm_185 h, hs_185, hm_186 h, hs_186, mA_uA, mA_uF, mA_uW, mF_uA, mF_uF, mF_uW, mW_uA, mW_uF, mW_uW, uA_uA, uA_uF, uF_uF, bI0, kv_s, ki_s, kj_s, kd_s, kq_s, kq_n, kq_o, ka_s, kc_r, kc_t, kc0_r, kc0_t, kch_r, kc0h_r, kw_s, kw0_s, kwh_s, kw0h_s, rg_ref, rg_null, rg_rf, ck_t, sel_some, lkn_hd, Option.isSome_some, Bool.true_and, Bool.and_true, okv_i, okv_l, okv_r, okv_n, okv_rf, okv_b, okv_0, okv_1, okv_f, okv_d, c1_i, c1_r, c1_n, c1_rf, c1_f, nI_add, n_mul, n_sub, n_pred, n_eq, n_le, n_lt, n_neN, n_Nne, N_lt, N_le, n_ltN, n_leN, rdI_n, rdJ_n, rdD_n, wrI_n, wrI_z0, wrI_z1, wrI_zb, wrJ_n, wrD_n, aln_s, okn_n, upd_is, upd_ne, Nat.add_zero, Nat.add_sub_cancel, decide_true, decide_false, cond_true, cond_false, if_true, if_false, ite_not, not_true_eq_false, not_false_eq_true, Nat.reduceEqDiff, Nat.reduceAdd, Nat.reduceMul, Nat.reduceSub, Nat.reduceLeDiff, e0, h1']
  · have h1' : (mF M' 172 = nI 1000000000) = False := h1
    have h2 : ¬ (acM M').1 = far := of_eq_false h1
    obtain ⟨x1, x2, x3, x4, r, fd, wy⟩ := bo.found h2
    rw [hb1] at h2
    rw [if_neg h2]
    have x2' : mF M' 173 = nI r := (show (acM M').2.1 = nI r from x2.trans fd.rd)
    have r6 := fd.r6
    rw [fd.rd]
    rcases pc (r < w) with h3 | h3
    · rw [if_pos (show nI r < nI w from (nI_ltI (by omega) hw).mpr (of_eq_true h3))]
      simp (disch := omega) only [e_348, x_348_0, x_348_1, x_348_2, x_348_5, x_348_6, x_348_7, x_348_10, x_348_13, x_348_14, x_348_15, x_348_18, x_348_21, x_348_22, x_348_23, x_348_26, x_348_27, x_348_28, x_348_29, x_348_32, x_348_33, x_348_34, x_348_37, x_348_40, x_348_43, x_348_45, x_348_48, x_348_49, x_348_50, x_348_53, x_348_54, x_348_55, x_348_56, x_348_57, x_348_58, x_348_61, x_348_62, x_348_65, x_348_68, x_348_71, x_348_73, x_348_74, x_348_77, x_348_80, x_348_81, x_348_84, x_348_85, x_348_88, x_348_90, x_348_91, hq, hq2, m_293, yle (Nat.zero_le e), yle he, yle (Nat.zero_le w), nlt (Nat.zero_le w), bI_t, e_291, x_291_0, x_291_1, x_291_2, x_291_5, x_291_6, e1, hm_c h, hm_148 h, hg_0 h, ha_0, hm_149 h, hg_1 h, ha_1, hm_150 h, hg_2 h, ha_2, hm_151 h, hg_3 h, ha_3, hm_152 h, hg_4 h, ha_4, hm_153 h, hg_5 h, ha_5, hm_154 h, hg_6 h, ha_6, hm_155 h, hs_155, hm_156 h, hg_7 h, ha_7, hm_157 h, hs_157, hm_158 h, hs_158, hm_159 h, hs_159, hm_160 h, hs_160, hm_161 h, hs_161, hm_162 h, hs_162, hm_163 h, hs_163, hm_164 h, hs_164, hm_165 h, hs_165, hm_166 h, hg_8 h, ha_8, hm_167 h, hg_9 h, ha_9, hm_168 h, hg_10 h, ha_10, hm_169 h, hg_11 h, ha_11, hm_170 h, hg_12 h, ha_12, hm_171 h, hg_13 h, ha_13, hm_172 h, hs_172, hm_173 h, hs_173, hm_174 h, hs_174, hm_175 h, hs_175, hm_176 h, hs_176, hm_177 h, hg_14 h, ha_14, hm_178 h, hg_15 h, ha_15, hm_179 h, hg_16 h, ha_16, hm_180 h, hg_17 h, ha_17, hm_181 h, hg_18 h, ha_18, hm_182 h, hg_19 h, ha_19, hm_183 h, hg_20 h, ha_20, hm_184 h, hs_184, hm_185 h, hs_185, hm_186 h, hs_186, mA_uA, mA_uF, mA_uW, mF_uA, mF_uF, mF_uW, mW_uA, mW_uF, mW_uW, uA_uA, uA_uF, uF_uF, bI0, kv_s, ki_s, kj_s, kd_s, kq_s, kq_n, kq_o, ka_s, kc_r, kc_t, kc0_r, kc0_t, kch_r, kc0h_r, kw_s, kw0_s, kwh_s, kw0h_s, rg_ref, rg_null, rg_rf, ck_t, sel_some, lkn_hd, Option.isSome_some, Bool.true_and, Bool.and_true, okv_i, okv_l, okv_r, okv_n, okv_rf, okv_b, okv_0, okv_1, okv_f, okv_d, c1_i, c1_r, c1_n, c1_rf, c1_f, nI_add, n_mul, n_sub, n_pred, n_eq, n_le, n_lt, n_neN, n_Nne, N_lt, N_le, n_ltN, n_leN, rdI_n, rdJ_n, rdD_n, wrI_n, wrI_z0, wrI_z1, wrI_zb, wrJ_n, wrD_n, aln_s, okn_n, upd_is, upd_ne, Nat.add_zero, Nat.add_sub_cancel, decide_true, decide_false, cond_true, cond_false, if_true, if_false, ite_not, not_true_eq_false, not_false_eq_true, Nat.reduceEqDiff, Nat.reduceAdd, Nat.reduceMul, Nat.reduceSub, Nat.reduceLeDiff, e0, h1', x2', h3, nle (of_eq_true h3)]
    · have h4 : w ≤ r := Nat.not_lt.mp (of_eq_false h3)
      rw [if_neg (show ¬ nI r < nI w from fun q => of_eq_false h3 ((nI_ltI (by omega) hw).mp q))]
      have h5 : mA M' 13 w = (bst (mA M 0) G R (nI a) b (nI e)).2.2.2.2.2 w := wy w h4
      rw [← h5]
      simp (disch := omega) only [e_348, x_348_0, x_348_1, x_348_2, x_348_5, x_348_6, x_348_7, x_348_10, x_348_13, x_348_14, x_348_15, x_348_18, x_348_21, x_348_22, x_348_23, x_348_26, x_348_27, x_348_28, x_348_29, x_348_32, x_348_33, x_348_34, x_348_37, x_348_40, x_348_43, x_348_45, x_348_48, x_348_49, x_348_50, x_348_53, x_348_54, x_348_55, x_348_56, x_348_57, x_348_58, x_348_61, x_348_62, x_348_65, x_348_68, x_348_71, x_348_73, x_348_74, x_348_77, x_348_80, x_348_81, x_348_84, x_348_85, x_348_88, x_348_90, x_348_91, hq, hq2, m_293, yle (Nat.zero_le e), yle he, yle (Nat.zero_le w), nlt (Nat.zero_le w), yle h4, bI_t, e_291, x_291_0, x_291_1, x_291_2, x_291_5, x_291_6, e1, hm_c h, hm_148 h, hg_0 h, ha_0, hm_149 h, hg_1 h, ha_1, hm_150 h, hg_2 h, ha_2, hm_151 h, hg_3 h, ha_3, hm_152 h, hg_4 h, ha_4, hm_153 h, hg_5 h, ha_5, hm_154 h, hg_6 h, ha_6, hm_155 h, hs_155, hm_156 h, hg_7 h, ha_7, hm_157 h, hs_157, hm_158 h, hs_158, hm_159 h, hs_159, hm_160 h, hs_160, hm_161 h, hs_161, hm_162 h, hs_162, hm_163 h, hs_163, hm_164 h, hs_164, hm_165 h, hs_165, hm_166 h, hg_8 h, ha_8, hm_167 h, hg_9 h, ha_9, hm_168 h, hg_10 h, ha_10, hm_169 h, hg_11 h, ha_11, hm_170 h, hg_12 h, ha_12, hm_171 h, hg_13 h, ha_13, hm_172 h, hs_172, hm_173 h, hs_173, hm_174 h, hs_174, hm_175 h, hs_175, hm_176 h, hs_176, hm_177 h, hg_14 h, ha_14, hm_178 h, hg_15 h, ha_15, hm_179 h, hg_16 h, ha_16, hm_180 h, hg_17 h, ha_17, hm_181 h, hg_18 h, ha_18, hm_182 h, hg_19 h, ha_19, hm_183 h, hg_20 h, ha_20, hm_184 h, hs_184, hm_185 h, hs_185, hm_186 h, hs_186, mA_uA, mA_uF, mA_uW, mF_uA, mF_uF, mF_uW, mW_uA, mW_uF, mW_uW, uA_uA, uA_uF, uF_uF, bI0, kv_s, ki_s, kj_s, kd_s, kq_s, kq_n, kq_o, ka_s, kc_r, kc_t, kc0_r, kc0_t, kch_r, kc0h_r, kw_s, kw0_s, kwh_s, kw0h_s, rg_ref, rg_null, rg_rf, ck_t, sel_some, lkn_hd, Option.isSome_some, Bool.true_and, Bool.and_true, okv_i, okv_l, okv_r, okv_n, okv_rf, okv_b, okv_0, okv_1, okv_f, okv_d, c1_i, c1_r, c1_n, c1_rf, c1_f, nI_add, n_mul, n_sub, n_pred, n_eq, n_le, n_lt, n_neN, n_Nne, N_lt, N_le, n_ltN, n_leN, rdI_n, rdJ_n, rdD_n, wrI_n, wrI_z0, wrI_z1, wrI_zb, wrJ_n, wrD_n, aln_s, okn_n, upd_is, upd_ne, Nat.add_zero, Nat.add_sub_cancel, decide_true, decide_false, cond_true, cond_false, if_true, if_false, ite_not, not_true_eq_false, not_false_eq_true, Nat.reduceEqDiff, Nat.reduceAdd, Nat.reduceMul, Nat.reduceSub, Nat.reduceLeDiff, e0, h1', x2', h3]
theorem m_350b (h : mO A m0) {G R a b sl : Nat} (hS : NetOK (mA M 0) G R) (hG : mA M 0 8 = nI G) (hR : mA M 0 9 = nI R) (hsl : mA M 0 2 = nI sl) (hsl2 : sl ≤ 20) (ha : a < G) (hb : b < G) :
    ∃ M' : Ms, evG TB (d + 4) 350 [.ref m0, .int (nI a), .int (nI b)] (hM A m0 M) = some (.inl (some (.int (ltV a b (bst (mA M 0) G R (nI a) b (nI 0)).2.2.2.2.1))), hM A m0 M') ∧ Fs M M' := by
  obtain ⟨M', e, f⟩ := m_350 (d := d) (M := M) h hG hS.G12 hR hS.R40 ha hb
  refine ⟨M', ?_, f⟩
  have bo := best_ok (to := b) (fr := nI a) (e := 0) hS (by omega) hsl hsl2 (acM M)
  rw [bo.1] at e
  exact e
theorem m_349 (h : mO A m0) {G R a b sl : Nat} (hS : NetOK (mA M 0) G R) (hG : mA M 0 8 = nI G) (hR : mA M 0 9 = nI R) (hsl : mA M 0 2 = nI sl) (hsl2 : sl ≤ 20) (ha : a < G) (hb : b < G) :
    ∃ M' : Ms, evG TB (d + 5) 349 [.ref m0, .int (nI a), .int (nI b)] (hM A m0 M) = some (.inl (some (.int (ltV a b (bst (mA M 0) G R (nI a) b (nI 0)).2.2.2.2.1))), hM A m0 M') ∧ Fs (uF M 155 (nI 0)) M' := by
  have hG2 := hS.G12
  have hR2 := hS.R40
  obtain ⟨M', e1, f1⟩ := m_350b (d := d) (M := uF M 155 (nI 0)) (a := a) (b := b) h hS hG hR hsl hsl2 ha hb
  refine ⟨M', ?_, f1⟩
  have hq := m_323 (d := d + 2) (M := uF M 155 (nI 0)) h (x := nI a) hG
  have hq2 := m_323 (d := d + 2) (M := uF M 155 (nI 0)) h (x := nI b) hG
  rw [inB_n ha (by omega), bI_t] at hq
  rw [inB_n hb (by omega), bI_t] at hq2
  simp (disch := omega) only [e_349, x_349_0, x_349_1, x_349_2, x_349_5, x_349_6, x_349_7, x_349_10, x_349_13, x_349_14, x_349_15, x_349_18, x_349_21, x_349_22, x_349_23, x_349_24, x_349_27, x_349_30, x_349_31, x_349_32, x_349_35, hq, hq2, bI_t, e_291, x_291_0, x_291_1, x_291_2, x_291_5, x_291_6, e1, hm_c h, hm_148 h, hg_0 h, ha_0, hm_149 h, hg_1 h, ha_1, hm_150 h, hg_2 h, ha_2, hm_151 h, hg_3 h, ha_3, hm_152 h, hg_4 h, ha_4, hm_153 h, hg_5 h, ha_5, hm_154 h, hg_6 h, ha_6, hm_155 h, hs_155, hm_156 h, hg_7 h, ha_7, hm_157 h, hs_157, hm_158 h, hs_158, hm_159 h, hs_159, hm_160 h, hs_160, hm_161 h, hs_161, hm_162 h, hs_162, hm_163 h, hs_163, hm_164 h, hs_164, hm_165 h, hs_165, hm_166 h, hg_8 h, ha_8, hm_167 h, hg_9 h, ha_9, hm_168 h, hg_10 h, ha_10, hm_169 h, hg_11 h, ha_11, hm_170 h, hg_12 h, ha_12, hm_171 h, hg_13 h, ha_13, hm_172 h, hs_172, hm_173 h, hs_173, hm_174 h, hs_174, hm_175 h, hs_175, hm_176 h, hs_176, hm_177 h, hg_14 h, ha_14, hm_178 h, hg_15 h, ha_15, hm_179 h, hg_16 h, ha_16, hm_180 h, hg_17 h, ha_17, hm_181 h, hg_18 h, ha_18, hm_182 h, hg_19 h, ha_19, hm_183 h, hg_20 h, ha_20, hm_184 h, hs_184, hm_185 h, hs_185, hm_186 h, hs_186, mA_uA, mA_uF, mA_uW, mF_uA, mF_uF, mF_uW, mW_uA, mW_uF, mW_uW, uA_uA, uA_uF, uF_uF, bI0, kv_s, ki_s, kj_s, kd_s, kq_s, kq_n, kq_o, ka_s, kc_r, kc_t, kc0_r, kc0_t, kch_r, kc0h_r, kw_s, kw0_s, kwh_s, kw0h_s, rg_ref, rg_null, rg_rf, ck_t, sel_some, lkn_hd, Option.isSome_some, Bool.true_and, Bool.and_true, okv_i, okv_l, okv_r, okv_n, okv_rf, okv_b, okv_0, okv_1, okv_f, okv_d, c1_i, c1_r, c1_n, c1_rf, c1_f, nI_add, n_mul, n_sub, n_pred, n_eq, n_le, n_lt, n_neN, n_Nne, N_lt, N_le, n_ltN, n_leN, rdI_n, rdJ_n, rdD_n, wrI_n, wrI_z0, wrI_z1, wrI_zb, wrJ_n, wrD_n, aln_s, okn_n, upd_is, upd_ne, Nat.add_zero, Nat.add_sub_cancel, decide_true, decide_false, cond_true, cond_false, if_true, if_false, ite_not, not_true_eq_false, not_false_eq_true, Nat.reduceEqDiff, Nat.reduceAdd, Nat.reduceMul, Nat.reduceSub, Nat.reduceLeDiff]
end
