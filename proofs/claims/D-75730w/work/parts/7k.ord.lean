/-! the model lays the order of a vehicle's reads -/
/-- a row holds a list -/
def RwL (f : Nat → Int32) (l : List Nat) : Prop := ∀ i x, l[i]? = some x → f i = nI x
/-- r put into a row from place a down, what is later shifted up -/
def shD (S : Nat → Int32) (r : Nat) : (Nat → Int32) → Nat → (Nat → Int32)
  | f, 0 => upd f 0 (nI r)
  | f, a + 1 => if S (280 + 7 * r + 2) < S (280 + 7 * (f a).toNatClampNeg + 2) then shD S r (upd f (a + 1) (f a)) a else upd f (a + 1) (nI r)
theorem shD_L {S : Nat → Int32} {r R : Nat} (hR : R ≤ 120) : ∀ (a : Nat) (f : Nat → Int32) (l1 l2 : List Nat), l1.length = a → (∀ x, x ∈ l1 → x < R) → RwL f l1 → (∀ i x, l2[i]? = some x → f (a + 1 + i) = nI x) → SrtT S l1 → (∀ x, x ∈ l2 → S (280 + 7 * r + 2) < S (280 + 7 * x + 2)) → RwL (shD S r f a) (insK S r (l1 ++ l2)) := by
  intro a
  induction a with
  | zero =>
    intro f l1 l2 h1 _ hf h2 hs h3
    have : l1 = [] := List.length_eq_zero_iff.mp h1
    subst this
    rw [insK_split (fun x hx => by cases hx) h3]
    intro i x hx
    unfold shD
    cases i with
    | zero =>
      have hx : some r = some x := hx
      cases hx
      exact upd_is rfl
    | succ i =>
      have hx : l2[i]? = some x := hx
      rw [upd_ne (by omega)]
      have := h2 i x hx
      rw [show 0 + 1 + i = i + 1 by omega] at this
      exact this
  | succ a ih =>
    intro f l1 l2 h1 hm hf h2 hs h3
    obtain ⟨l0, y, rfl⟩ : ∃ l0 y, l1 = l0 ++ [y] := by
      have hne : l1 ≠ [] := fun q => by rw [q] at h1; cases h1
      exact ⟨l1.dropLast, l1.getLast hne, (List.dropLast_concat_getLast hne).symm⟩
    have h0 : l0.length = a := by simp at h1; exact h1
    have hy : y < R := hm y (by simp)
    have hfa : f a = nI y := hf a y (by rw [List.getElem?_append_right (by omega)]; simp [h0])
    unfold shD
    rw [hfa, n_cl (by omega)]
    by_cases q : S (280 + 7 * r + 2) < S (280 + 7 * y + 2)
    · rw [if_pos q, List.append_assoc]
      have hs0 : SrtT S l0 := (List.pairwise_append.mp hs).1
      refine ih (upd f (a + 1) (nI y)) l0 ([y] ++ l2) h0 (fun x hx => hm x (by simp [hx])) (fun i x hx => ?_) (fun i x hx => ?_) hs0 (fun x hx => ?_)
      · have hi : i < l0.length := by
          rcases Nat.lt_or_ge i l0.length with h | h
          · exact h
          · rw [List.getElem?_eq_none h] at hx; cases hx
        rw [upd_ne (by omega)]
        exact hf i x (by rw [List.getElem?_append_left hi]; exact hx)
      · cases i with
        | zero =>
          have hx : some y = some x := hx
          cases hx
          exact upd_is rfl
        | succ i =>
          have hx : l2[i]? = some x := hx
          rw [upd_ne (by omega)]
          have := h2 i x hx
          rw [show a + 1 + 1 + i = a + 1 + (i + 1) by omega] at this
          exact this
      · rcases List.mem_cons.mp (show x ∈ y :: l2 from hx) with rfl | hx
        · exact q
        · exact h3 x hx
    · rw [if_neg q]
      rw [insK_split (fun x hx => ?_) h3]
      · intro i x hx
        rw [List.getElem?_append] at hx
        simp only [List.length_append, List.length_cons, List.length_nil, h0] at hx
        by_cases hi : i < a + (0 + 1)
        · rw [if_pos hi] at hx
          rw [upd_ne (by omega)]
          exact hf i x hx
        · rw [if_neg hi] at hx
          obtain ⟨j, rfl⟩ : ∃ j, i = a + 1 + j := ⟨i - (a + 1), by omega⟩
          rw [show a + 1 + j - (a + (0 + 1)) = j by omega] at hx
          cases j with
          | zero =>
            have hx : some r = some x := hx
            cases hx
            exact upd_is rfl
          | succ j =>
            have hx : l2[j]? = some x := hx
            rw [upd_ne (by omega)]
            have := h2 j x hx
            rw [show a + 1 + 1 + j = a + 1 + (j + 1) by omega] at this
            exact this
      · rcases List.mem_append.mp hx with hx | hx
        · have := (List.pairwise_append.mp hs).2.2 x hx y (by simp)
          exact fun q2 => q (Int32.lt_of_lt_of_le q2 (Int32.not_lt.mp this))
        · have : x = y := by simpa using hx
          rw [this]
          exact q
section
variable {A : Hp} {m0 d : Nat} {M : Ms}
theorem m_365_in (h : mO A m0) {R : Nat} (hR2 : R ≤ 120) {v : Int32} {r n : Nat} (hr : r < R) (hn : n < 120) : ∀ (a : Nat) (N : Ms), a ≤ n → mF N 184 = nI n → (∀ i, i < a → ∃ x, x < R ∧ mA N 14 i = nI x) →
    ∃ j, exG TB (d + 1) 365 46 [some (.ref m0), some (.int v), some (.int (nI r)), some (.int (nI a))] [] (hM A m0 N) = exG TB (d + 1) 365 7 [some (.ref m0), some (.int v), some (.int (nI (r + 1))), j] [] (hM A m0 (uF (uA N 14 (shD (mA N 0) r (mA N 14) a)) 184 (nI (n + 1)))) := by
  intro a
  induction a with
  | zero =>
    intro N _ h1 _
    refine ⟨some (.int (nI 0)), x_365_46.trans ?_⟩
    unfold shD
    simp (disch := omega) only [x_365_0, x_365_1, x_365_2, x_365_5, x_365_6, x_365_8, x_365_9, x_365_12, x_365_14, x_365_15, x_365_18, x_365_19, x_365_20, x_365_21, x_365_24, x_365_25, x_365_28, x_365_29, x_365_30, x_365_31, x_365_34, x_365_35, x_365_38, x_365_41, x_365_42, x_365_45, x_365_47, x_365_50, x_365_51, x_365_52, x_365_55, x_365_56, x_365_57, x_365_58, x_365_59, x_365_60, x_365_63, x_365_64, x_365_65, x_365_66, x_365_69, x_365_72, x_365_73, x_365_76, x_365_77, x_365_78, x_365_81, x_365_82, x_365_83, x_365_84, x_365_85, x_365_86, x_365_89, x_365_92, x_365_93, x_365_96, x_365_97, x_365_98, x_365_99, x_365_100, x_365_101, x_365_104, x_365_105, x_365_106, x_365_109, x_365_112, x_365_115, e_331, x_331_0, x_331_1, x_331_4, x_331_7, x_331_9, x_331_10, x_331_11, x_331_12, x_331_13, x_331_14, x_331_15, hm_c h, hm_148 h, hg_0 h, ha_0, hm_149 h, hg_1 h, ha_1, hm_150 h, hg_2 h, ha_2, hm_151 h, hg_3 h, ha_3, hm_152 h, hg_4 h, ha_4, hm_153 h, hg_5 h, ha_5, hm_154 h, hg_6 h, ha_6, hm_155 h, hs_155, hm_156 h, hg_7 h, ha_7, hm_157 h, hs_157, hm_158 h, hs_158, hm_159 h, hs_159, hm_160 h, hs_160, hm_161 h, hs_161, hm_162 h, hs_162, hm_163 h, hs_163, hm_164 h, hs_164, hm_165 h, hs_165, hm_166 h, hg_8 h, ha_8, hm_167 h, hg_9 h, ha_9, hm_168 h, hg_10 h, ha_10, hm_169 h, hg_11 h, ha_11, hm_170 h, hg_12 h, ha_12, hm_171 h, hg_13 h, ha_13, hm_172 h, hs_172, hm_173 h, hs_173, hm_174 h, hs_174, hm_175 h, hs_175, hm_176 h, hs_176, hm_177 h, hg_14 h, ha_14, hm_178 h, hg_15 h, ha_15, hm_179 h, hg_16 h, ha_16, hm_180 h, hg_17 h, ha_17, hm_181 h, hg_18 h, ha_18, hm_182 h, hg_19 h, ha_19, hm_183 h, hg_20 h, ha_20, hm_184 h, hs_184, hm_185 h, hs_185, hm_186 h, hs_186, mA_uA, mA_uF, mA_uW, mF_uA, mF_uF, mF_uW, mW_uA, mW_uF, mW_uW, uA_uA, uA_uF, uF_uF, bI0, kv_s, ki_s, kj_s, kd_s, kq_s, kq_n, kq_o, ka_s, kc_r, kc_t, kc0_r, kc0_t, kch_r, kc0h_r, kw_s, kw0_s, kwh_s, kw0h_s, rg_ref, rg_null, rg_rf, ck_t, sel_some, lkn_hd, Option.isSome_some, Bool.true_and, Bool.and_true, okv_i, okv_l, okv_r, okv_n, okv_rf, okv_b, okv_0, okv_1, okv_f, okv_d, c1_i, c1_r, c1_n, c1_rf, c1_f, nI_add, n_mul, n_sub, n_pred, n_eq, n_le, n_lt, n_neN, n_Nne, N_lt, N_le, n_ltN, n_leN, rdI_n, rdJ_n, rdD_n, wrI_n, wrI_z0, wrI_z1, wrI_zb, wrJ_n, wrD_n, aln_s, okn_n, upd_is, upd_ne, Nat.add_zero, Nat.add_sub_cancel, decide_true, decide_false, cond_true, cond_false, if_true, if_false, ite_not, not_true_eq_false, not_false_eq_true, Nat.reduceEqDiff, Nat.reduceAdd, Nat.reduceMul, Nat.reduceSub, Nat.reduceLeDiff, h1, yle (Nat.le_refl 0)]
  | succ a ih =>
    intro N ha h1 hm
    obtain ⟨x, hx, ex⟩ := hm a (by omega)
    rcases pc (mA N 0 (280 + 7 * r + 2) < mA N 0 (280 + 7 * x + 2)) with h2 | h2
    · have h3 : (mA N 0 (280 + 7 * x + 2) ≤ mA N 0 (280 + 7 * r + 2)) = False := eq_false (Int32.not_le.mpr (of_eq_true h2))
      obtain ⟨j, e⟩ := ih (uA N 14 (upd (mA N 14) (a + 1) (mA N 14 a))) (by omega) h1 (fun i hi => by
        obtain ⟨y, hy, ey⟩ := hm i (by omega)
        exact ⟨y, hy, by rw [mA_uA, if_pos rfl, upd_ne (by omega)]; exact ey⟩)
      refine ⟨j, x_365_46.trans ?_⟩
      unfold shD
      rw [ex, n_cl (by omega), if_pos (of_eq_true h2)]
      simp (disch := omega) only [uA_uA, mA_uA, Nat.reduceEqDiff, if_true, if_false, ex] at e
      simp (disch := omega) only [x_365_0, x_365_1, x_365_2, x_365_5, x_365_6, x_365_8, x_365_9, x_365_12, x_365_14, x_365_15, x_365_18, x_365_19, x_365_20, x_365_21, x_365_24, x_365_25, x_365_28, x_365_29, x_365_30, x_365_31, x_365_34, x_365_35, x_365_38, x_365_41, x_365_42, x_365_45, x_365_47, x_365_50, x_365_51, x_365_52, x_365_55, x_365_56, x_365_57, x_365_58, x_365_59, x_365_60, x_365_63, x_365_64, x_365_65, x_365_66, x_365_69, x_365_72, x_365_73, x_365_76, x_365_77, x_365_78, x_365_81, x_365_82, x_365_83, x_365_84, x_365_85, x_365_86, x_365_89, x_365_92, x_365_93, x_365_96, x_365_97, x_365_98, x_365_99, x_365_100, x_365_101, x_365_104, x_365_105, x_365_106, x_365_109, x_365_112, x_365_115, e_331, x_331_0, x_331_1, x_331_4, x_331_7, x_331_9, x_331_10, x_331_11, x_331_12, x_331_13, x_331_14, x_331_15, hm_c h, hm_148 h, hg_0 h, ha_0, hm_149 h, hg_1 h, ha_1, hm_150 h, hg_2 h, ha_2, hm_151 h, hg_3 h, ha_3, hm_152 h, hg_4 h, ha_4, hm_153 h, hg_5 h, ha_5, hm_154 h, hg_6 h, ha_6, hm_155 h, hs_155, hm_156 h, hg_7 h, ha_7, hm_157 h, hs_157, hm_158 h, hs_158, hm_159 h, hs_159, hm_160 h, hs_160, hm_161 h, hs_161, hm_162 h, hs_162, hm_163 h, hs_163, hm_164 h, hs_164, hm_165 h, hs_165, hm_166 h, hg_8 h, ha_8, hm_167 h, hg_9 h, ha_9, hm_168 h, hg_10 h, ha_10, hm_169 h, hg_11 h, ha_11, hm_170 h, hg_12 h, ha_12, hm_171 h, hg_13 h, ha_13, hm_172 h, hs_172, hm_173 h, hs_173, hm_174 h, hs_174, hm_175 h, hs_175, hm_176 h, hs_176, hm_177 h, hg_14 h, ha_14, hm_178 h, hg_15 h, ha_15, hm_179 h, hg_16 h, ha_16, hm_180 h, hg_17 h, ha_17, hm_181 h, hg_18 h, ha_18, hm_182 h, hg_19 h, ha_19, hm_183 h, hg_20 h, ha_20, hm_184 h, hs_184, hm_185 h, hs_185, hm_186 h, hs_186, mA_uA, mA_uF, mA_uW, mF_uA, mF_uF, mF_uW, mW_uA, mW_uF, mW_uW, uA_uA, uA_uF, uF_uF, bI0, kv_s, ki_s, kj_s, kd_s, kq_s, kq_n, kq_o, ka_s, kc_r, kc_t, kc0_r, kc0_t, kch_r, kc0h_r, kw_s, kw0_s, kwh_s, kw0h_s, rg_ref, rg_null, rg_rf, ck_t, sel_some, lkn_hd, Option.isSome_some, Bool.true_and, Bool.and_true, okv_i, okv_l, okv_r, okv_n, okv_rf, okv_b, okv_0, okv_1, okv_f, okv_d, c1_i, c1_r, c1_n, c1_rf, c1_f, nI_add, n_mul, n_sub, n_pred, n_eq, n_le, n_lt, n_neN, n_Nne, N_lt, N_le, n_ltN, n_leN, rdI_n, rdJ_n, rdD_n, wrI_n, wrI_z0, wrI_z1, wrI_zb, wrJ_n, wrD_n, aln_s, okn_n, upd_is, upd_ne, Nat.add_zero, Nat.add_sub_cancel, decide_true, decide_false, cond_true, cond_false, if_true, if_false, ite_not, not_true_eq_false, not_false_eq_true, Nat.reduceEqDiff, Nat.reduceAdd, Nat.reduceMul, Nat.reduceSub, Nat.reduceLeDiff, h1, ex, h3, nle (Nat.succ_pos a), e]
    · have h3 : (mA N 0 (280 + 7 * x + 2) ≤ mA N 0 (280 + 7 * r + 2)) = True := eq_true (Int32.not_lt.mp (of_eq_false h2))
      refine ⟨some (.int (nI (a + 1))), x_365_46.trans ?_⟩
      unfold shD
      rw [ex, n_cl (by omega), if_neg (of_eq_false h2)]
      simp (disch := omega) only [x_365_0, x_365_1, x_365_2, x_365_5, x_365_6, x_365_8, x_365_9, x_365_12, x_365_14, x_365_15, x_365_18, x_365_19, x_365_20, x_365_21, x_365_24, x_365_25, x_365_28, x_365_29, x_365_30, x_365_31, x_365_34, x_365_35, x_365_38, x_365_41, x_365_42, x_365_45, x_365_47, x_365_50, x_365_51, x_365_52, x_365_55, x_365_56, x_365_57, x_365_58, x_365_59, x_365_60, x_365_63, x_365_64, x_365_65, x_365_66, x_365_69, x_365_72, x_365_73, x_365_76, x_365_77, x_365_78, x_365_81, x_365_82, x_365_83, x_365_84, x_365_85, x_365_86, x_365_89, x_365_92, x_365_93, x_365_96, x_365_97, x_365_98, x_365_99, x_365_100, x_365_101, x_365_104, x_365_105, x_365_106, x_365_109, x_365_112, x_365_115, e_331, x_331_0, x_331_1, x_331_4, x_331_7, x_331_9, x_331_10, x_331_11, x_331_12, x_331_13, x_331_14, x_331_15, hm_c h, hm_148 h, hg_0 h, ha_0, hm_149 h, hg_1 h, ha_1, hm_150 h, hg_2 h, ha_2, hm_151 h, hg_3 h, ha_3, hm_152 h, hg_4 h, ha_4, hm_153 h, hg_5 h, ha_5, hm_154 h, hg_6 h, ha_6, hm_155 h, hs_155, hm_156 h, hg_7 h, ha_7, hm_157 h, hs_157, hm_158 h, hs_158, hm_159 h, hs_159, hm_160 h, hs_160, hm_161 h, hs_161, hm_162 h, hs_162, hm_163 h, hs_163, hm_164 h, hs_164, hm_165 h, hs_165, hm_166 h, hg_8 h, ha_8, hm_167 h, hg_9 h, ha_9, hm_168 h, hg_10 h, ha_10, hm_169 h, hg_11 h, ha_11, hm_170 h, hg_12 h, ha_12, hm_171 h, hg_13 h, ha_13, hm_172 h, hs_172, hm_173 h, hs_173, hm_174 h, hs_174, hm_175 h, hs_175, hm_176 h, hs_176, hm_177 h, hg_14 h, ha_14, hm_178 h, hg_15 h, ha_15, hm_179 h, hg_16 h, ha_16, hm_180 h, hg_17 h, ha_17, hm_181 h, hg_18 h, ha_18, hm_182 h, hg_19 h, ha_19, hm_183 h, hg_20 h, ha_20, hm_184 h, hs_184, hm_185 h, hs_185, hm_186 h, hs_186, mA_uA, mA_uF, mA_uW, mF_uA, mF_uF, mF_uW, mW_uA, mW_uF, mW_uW, uA_uA, uA_uF, uF_uF, bI0, kv_s, ki_s, kj_s, kd_s, kq_s, kq_n, kq_o, ka_s, kc_r, kc_t, kc0_r, kc0_t, kch_r, kc0h_r, kw_s, kw0_s, kwh_s, kw0h_s, rg_ref, rg_null, rg_rf, ck_t, sel_some, lkn_hd, Option.isSome_some, Bool.true_and, Bool.and_true, okv_i, okv_l, okv_r, okv_n, okv_rf, okv_b, okv_0, okv_1, okv_f, okv_d, c1_i, c1_r, c1_n, c1_rf, c1_f, nI_add, n_mul, n_sub, n_pred, n_eq, n_le, n_lt, n_neN, n_Nne, N_lt, N_le, n_ltN, n_leN, rdI_n, rdJ_n, rdD_n, wrI_n, wrI_z0, wrI_z1, wrI_zb, wrJ_n, wrD_n, aln_s, okn_n, upd_is, upd_ne, Nat.add_zero, Nat.add_sub_cancel, decide_true, decide_false, cond_true, cond_false, if_true, if_false, ite_not, not_true_eq_false, not_false_eq_true, Nat.reduceEqDiff, Nat.reduceAdd, Nat.reduceMul, Nat.reduceSub, Nat.reduceLeDiff, h1, ex, h3, nle (Nat.succ_pos a)]
/-- what laying an order keeps -/
def Fo (M M' : Ms) : Prop := (∀ k, k ≠ 14 → mA M' k = mA M k) ∧ (∀ f, f ≠ 184 → mF M' f = mF M f) ∧ mW M' = mW M
theorem m_365 (h : mO A m0) {R : Nat} (hR : mA M 0 12 = nI R) (hR2 : R ≤ 120) {v : Int32} :
    ∃ M' : Ms, evG TB (d + 2) 365 [.ref m0, .int v] (hM A m0 M) = some (.inl none, hM A m0 M') ∧ Fo M M' ∧ mF M' 184 = nI (ordL (mA M 0) v R).length ∧ RwL (mA M' 14) (ordL (mA M 0) v R) := by
  have key : ∀ k i, i + k = R → ∀ (N : Ms) (j : Option Value), Fo M N → mF N 184 = nI (ordL (mA M 0) v i).length → RwL (mA N 14) (ordL (mA M 0) v i) →
      ∃ M' : Ms, exG TB (d + 1) 365 7 [some (.ref m0), some (.int v), some (.int (nI i)), j] [] (hM A m0 N) = some (.inl none, hM A m0 M') ∧ Fo M M' ∧ mF M' 184 = nI (ordL (mA M 0) v R).length ∧ RwL (mA M' 14) (ordL (mA M 0) v R) := by
    intro k
    induction k with
    | zero =>
      intro i e N j f h1 h2
      have e : i = R := e
      subst e
      refine ⟨N, x_365_7.trans ?_, f, h1, h2⟩
      have hR' : mA N 0 12 = nI i := by rw [f.1 0 (by omega)]; exact hR
      simp (disch := omega) only [x_365_0, x_365_1, x_365_2, x_365_5, x_365_6, x_365_8, x_365_9, x_365_12, x_365_14, x_365_15, x_365_18, x_365_19, x_365_20, x_365_21, x_365_24, x_365_25, x_365_28, x_365_29, x_365_30, x_365_31, x_365_34, x_365_35, x_365_38, x_365_41, x_365_42, x_365_45, x_365_47, x_365_50, x_365_51, x_365_52, x_365_55, x_365_56, x_365_57, x_365_58, x_365_59, x_365_60, x_365_63, x_365_64, x_365_65, x_365_66, x_365_69, x_365_72, x_365_73, x_365_76, x_365_77, x_365_78, x_365_81, x_365_82, x_365_83, x_365_84, x_365_85, x_365_86, x_365_89, x_365_92, x_365_93, x_365_96, x_365_97, x_365_98, x_365_99, x_365_100, x_365_101, x_365_104, x_365_105, x_365_106, x_365_109, x_365_112, x_365_115, hm_c h, hm_148 h, hg_0 h, ha_0, hm_149 h, hg_1 h, ha_1, hm_150 h, hg_2 h, ha_2, hm_151 h, hg_3 h, ha_3, hm_152 h, hg_4 h, ha_4, hm_153 h, hg_5 h, ha_5, hm_154 h, hg_6 h, ha_6, hm_155 h, hs_155, hm_156 h, hg_7 h, ha_7, hm_157 h, hs_157, hm_158 h, hs_158, hm_159 h, hs_159, hm_160 h, hs_160, hm_161 h, hs_161, hm_162 h, hs_162, hm_163 h, hs_163, hm_164 h, hs_164, hm_165 h, hs_165, hm_166 h, hg_8 h, ha_8, hm_167 h, hg_9 h, ha_9, hm_168 h, hg_10 h, ha_10, hm_169 h, hg_11 h, ha_11, hm_170 h, hg_12 h, ha_12, hm_171 h, hg_13 h, ha_13, hm_172 h, hs_172, hm_173 h, hs_173, hm_174 h, hs_174, hm_175 h, hs_175, hm_176 h, hs_176, hm_177 h, hg_14 h, ha_14, hm_178 h, hg_15 h, ha_15, hm_179 h, hg_16 h, ha_16, hm_180 h, hg_17 h, ha_17, hm_181 h, hg_18 h, ha_18, hm_182 h, hg_19 h, ha_19, hm_183 h, hg_20 h, ha_20, hm_184 h, hs_184, hm_185 h, hs_185, hm_186 h, hs_186, mA_uA, mA_uF, mA_uW, mF_uA, mF_uF, mF_uW, mW_uA, mW_uF, mW_uW, uA_uA, uA_uF, uF_uF, bI0, kv_s, ki_s, kj_s, kd_s, kq_s, kq_n, kq_o, ka_s, kc_r, kc_t, kc0_r, kc0_t, kch_r, kc0h_r, kw_s, kw0_s, kwh_s, kw0h_s, rg_ref, rg_null, rg_rf, ck_t, sel_some, lkn_hd, Option.isSome_some, Bool.true_and, Bool.and_true, okv_i, okv_l, okv_r, okv_n, okv_rf, okv_b, okv_0, okv_1, okv_f, okv_d, c1_i, c1_r, c1_n, c1_rf, c1_f, nI_add, n_mul, n_sub, n_pred, n_eq, n_le, n_lt, n_neN, n_Nne, N_lt, N_le, n_ltN, n_leN, rdI_n, rdJ_n, rdD_n, wrI_n, wrI_z0, wrI_z1, wrI_zb, wrJ_n, wrD_n, aln_s, okn_n, upd_is, upd_ne, Nat.add_zero, Nat.add_sub_cancel, decide_true, decide_false, cond_true, cond_false, if_true, if_false, ite_not, not_true_eq_false, not_false_eq_true, Nat.reduceEqDiff, Nat.reduceAdd, Nat.reduceMul, Nat.reduceSub, Nat.reduceLeDiff, hR', yle (Nat.le_refl i)]
    | succ k ih =>
      intro i e N j f h1 h2
      have hi : i < R := by omega
      have e0 : mA N 0 = mA M 0 := f.1 0 (by omega)
      have hR' : mA N 0 12 = nI R := by rw [e0]; exact hR
      have ok := ordL_ok' (mA M 0) v i
      have ll := ok.len
      rcases pc (mA M 0 (280 + 7 * i) = v) with q1 | q1
      · rcases pc (mA M 0 (280 + 7 * i + 5) = nI 1) with q2 | q2
        · obtain ⟨j', e1⟩ := m_365_in (d := d) (A := A) (v := v) (r := i) (n := (ordL (mA M 0) v i).length) h hR2 hi (by omega) (ordL (mA M 0) v i).length N (Nat.le_refl _) h1 (fun q hq => by
            have := List.getElem?_eq_getElem hq
            exact ⟨_, Nat.lt_trans ((ok.mem _).mp (List.getElem_mem hq)).1 hi, h2 q _ this⟩)
          rw [e0] at e1
          have hs : ordL (mA M 0) v (i + 1) = insK (mA M 0) i (ordL (mA M 0) v i) := by rw [ordL_succ, if_pos ⟨of_eq_true q1, of_eq_true q2⟩]
          obtain ⟨M', e2, f2, g1, g2⟩ := ih (i + 1) (by omega) (uF (uA N 14 (shD (mA M 0) i (mA N 14) (ordL (mA M 0) v i).length)) 184 (nI ((ordL (mA M 0) v i).length + 1))) j'
            ⟨fun q hq => by rw [mA_uF, mA_uA, if_neg hq]; exact f.1 q hq, fun q hq => by rw [mF_uF, if_neg hq]; exact f.2.1 q hq, f.2.2⟩
            (by rw [mF_uF, if_pos rfl, hs, insK_length]) (by
              rw [hs, mA_uF, mA_uA, if_pos rfl]
              have := shD_L (S := mA M 0) (r := i) hR2 (ordL (mA M 0) v i).length (mA N 14) (ordL (mA M 0) v i) [] rfl (fun x hx => Nat.lt_trans ((ok.mem x).mp hx).1 hi) h2 (fun q x hx => by cases hx) ok.srt (fun x hx => by cases hx)
              rw [List.append_nil] at this
              exact this)
          refine ⟨M', (x_365_7.trans ?_), f2, g1, g2⟩
          rw [← e2, ← e1]
          simp (disch := omega) only [x_365_8, x_365_9, x_365_12, x_365_14, x_365_15, x_365_18, x_365_19, x_365_20, x_365_21, x_365_24, x_365_25, x_365_28, x_365_29, x_365_30, x_365_31, x_365_34, x_365_35, x_365_38, x_365_41, x_365_42, x_365_45, e_331, x_331_0, x_331_1, x_331_4, x_331_7, x_331_9, x_331_10, x_331_11, x_331_12, x_331_13, x_331_14, x_331_15, hm_c h, hm_148 h, hg_0 h, ha_0, hm_149 h, hg_1 h, ha_1, hm_150 h, hg_2 h, ha_2, hm_151 h, hg_3 h, ha_3, hm_152 h, hg_4 h, ha_4, hm_153 h, hg_5 h, ha_5, hm_154 h, hg_6 h, ha_6, hm_155 h, hs_155, hm_156 h, hg_7 h, ha_7, hm_157 h, hs_157, hm_158 h, hs_158, hm_159 h, hs_159, hm_160 h, hs_160, hm_161 h, hs_161, hm_162 h, hs_162, hm_163 h, hs_163, hm_164 h, hs_164, hm_165 h, hs_165, hm_166 h, hg_8 h, ha_8, hm_167 h, hg_9 h, ha_9, hm_168 h, hg_10 h, ha_10, hm_169 h, hg_11 h, ha_11, hm_170 h, hg_12 h, ha_12, hm_171 h, hg_13 h, ha_13, hm_172 h, hs_172, hm_173 h, hs_173, hm_174 h, hs_174, hm_175 h, hs_175, hm_176 h, hs_176, hm_177 h, hg_14 h, ha_14, hm_178 h, hg_15 h, ha_15, hm_179 h, hg_16 h, ha_16, hm_180 h, hg_17 h, ha_17, hm_181 h, hg_18 h, ha_18, hm_182 h, hg_19 h, ha_19, hm_183 h, hg_20 h, ha_20, hm_184 h, hs_184, hm_185 h, hs_185, hm_186 h, hs_186, mA_uA, mA_uF, mA_uW, mF_uA, mF_uF, mF_uW, mW_uA, mW_uF, mW_uW, uA_uA, uA_uF, uF_uF, bI0, kv_s, ki_s, kj_s, kd_s, kq_s, kq_n, kq_o, ka_s, kc_r, kc_t, kc0_r, kc0_t, kch_r, kc0h_r, kw_s, kw0_s, kwh_s, kw0h_s, rg_ref, rg_null, rg_rf, ck_t, sel_some, lkn_hd, Option.isSome_some, Bool.true_and, Bool.and_true, okv_i, okv_l, okv_r, okv_n, okv_rf, okv_b, okv_0, okv_1, okv_f, okv_d, c1_i, c1_r, c1_n, c1_rf, c1_f, nI_add, n_mul, n_sub, n_pred, n_eq, n_le, n_lt, n_neN, n_Nne, N_lt, N_le, n_ltN, n_leN, rdI_n, rdJ_n, rdD_n, wrI_n, wrI_z0, wrI_z1, wrI_zb, wrJ_n, wrD_n, aln_s, okn_n, upd_is, upd_ne, Nat.add_zero, Nat.add_sub_cancel, decide_true, decide_false, cond_true, cond_false, if_true, if_false, ite_not, not_true_eq_false, not_false_eq_true, Nat.reduceEqDiff, Nat.reduceAdd, Nat.reduceMul, Nat.reduceSub, Nat.reduceLeDiff, hR, e0, nle hi, q1, q2, h1]
        · obtain ⟨M', e2, f2, g1, g2⟩ := ih (i + 1) (by omega) N j f (by rw [ordL_succ, if_neg (fun q => of_eq_false q2 q.2)]; exact h1) (by rw [ordL_succ, if_neg (fun q => of_eq_false q2 q.2)]; exact h2)
          refine ⟨M', (x_365_7.trans ?_), f2, g1, g2⟩
          rw [← e2]
          simp (disch := omega) only [x_365_0, x_365_1, x_365_2, x_365_5, x_365_6, x_365_8, x_365_9, x_365_12, x_365_14, x_365_15, x_365_18, x_365_19, x_365_20, x_365_21, x_365_24, x_365_25, x_365_28, x_365_29, x_365_30, x_365_31, x_365_34, x_365_35, x_365_38, x_365_41, x_365_42, x_365_45, x_365_47, x_365_50, x_365_51, x_365_52, x_365_55, x_365_56, x_365_57, x_365_58, x_365_59, x_365_60, x_365_63, x_365_64, x_365_65, x_365_66, x_365_69, x_365_72, x_365_73, x_365_76, x_365_77, x_365_78, x_365_81, x_365_82, x_365_83, x_365_84, x_365_85, x_365_86, x_365_89, x_365_92, x_365_93, x_365_96, x_365_97, x_365_98, x_365_99, x_365_100, x_365_101, x_365_104, x_365_105, x_365_106, x_365_109, x_365_112, x_365_115, e_331, x_331_0, x_331_1, x_331_4, x_331_7, x_331_9, x_331_10, x_331_11, x_331_12, x_331_13, x_331_14, x_331_15, hm_c h, hm_148 h, hg_0 h, ha_0, hm_149 h, hg_1 h, ha_1, hm_150 h, hg_2 h, ha_2, hm_151 h, hg_3 h, ha_3, hm_152 h, hg_4 h, ha_4, hm_153 h, hg_5 h, ha_5, hm_154 h, hg_6 h, ha_6, hm_155 h, hs_155, hm_156 h, hg_7 h, ha_7, hm_157 h, hs_157, hm_158 h, hs_158, hm_159 h, hs_159, hm_160 h, hs_160, hm_161 h, hs_161, hm_162 h, hs_162, hm_163 h, hs_163, hm_164 h, hs_164, hm_165 h, hs_165, hm_166 h, hg_8 h, ha_8, hm_167 h, hg_9 h, ha_9, hm_168 h, hg_10 h, ha_10, hm_169 h, hg_11 h, ha_11, hm_170 h, hg_12 h, ha_12, hm_171 h, hg_13 h, ha_13, hm_172 h, hs_172, hm_173 h, hs_173, hm_174 h, hs_174, hm_175 h, hs_175, hm_176 h, hs_176, hm_177 h, hg_14 h, ha_14, hm_178 h, hg_15 h, ha_15, hm_179 h, hg_16 h, ha_16, hm_180 h, hg_17 h, ha_17, hm_181 h, hg_18 h, ha_18, hm_182 h, hg_19 h, ha_19, hm_183 h, hg_20 h, ha_20, hm_184 h, hs_184, hm_185 h, hs_185, hm_186 h, hs_186, mA_uA, mA_uF, mA_uW, mF_uA, mF_uF, mF_uW, mW_uA, mW_uF, mW_uW, uA_uA, uA_uF, uF_uF, bI0, kv_s, ki_s, kj_s, kd_s, kq_s, kq_n, kq_o, ka_s, kc_r, kc_t, kc0_r, kc0_t, kch_r, kc0h_r, kw_s, kw0_s, kwh_s, kw0h_s, rg_ref, rg_null, rg_rf, ck_t, sel_some, lkn_hd, Option.isSome_some, Bool.true_and, Bool.and_true, okv_i, okv_l, okv_r, okv_n, okv_rf, okv_b, okv_0, okv_1, okv_f, okv_d, c1_i, c1_r, c1_n, c1_rf, c1_f, nI_add, n_mul, n_sub, n_pred, n_eq, n_le, n_lt, n_neN, n_Nne, N_lt, N_le, n_ltN, n_leN, rdI_n, rdJ_n, rdD_n, wrI_n, wrI_z0, wrI_z1, wrI_zb, wrJ_n, wrD_n, aln_s, okn_n, upd_is, upd_ne, Nat.add_zero, Nat.add_sub_cancel, decide_true, decide_false, cond_true, cond_false, if_true, if_false, ite_not, not_true_eq_false, not_false_eq_true, Nat.reduceEqDiff, Nat.reduceAdd, Nat.reduceMul, Nat.reduceSub, Nat.reduceLeDiff, hR, e0, nle hi, q1, q2]
      · obtain ⟨M', e2, f2, g1, g2⟩ := ih (i + 1) (by omega) N j f (by rw [ordL_succ, if_neg (fun q => of_eq_false q1 q.1)]; exact h1) (by rw [ordL_succ, if_neg (fun q => of_eq_false q1 q.1)]; exact h2)
        refine ⟨M', (x_365_7.trans ?_), f2, g1, g2⟩
        rw [← e2]
        simp (disch := omega) only [x_365_0, x_365_1, x_365_2, x_365_5, x_365_6, x_365_8, x_365_9, x_365_12, x_365_14, x_365_15, x_365_18, x_365_19, x_365_20, x_365_21, x_365_24, x_365_25, x_365_28, x_365_29, x_365_30, x_365_31, x_365_34, x_365_35, x_365_38, x_365_41, x_365_42, x_365_45, x_365_47, x_365_50, x_365_51, x_365_52, x_365_55, x_365_56, x_365_57, x_365_58, x_365_59, x_365_60, x_365_63, x_365_64, x_365_65, x_365_66, x_365_69, x_365_72, x_365_73, x_365_76, x_365_77, x_365_78, x_365_81, x_365_82, x_365_83, x_365_84, x_365_85, x_365_86, x_365_89, x_365_92, x_365_93, x_365_96, x_365_97, x_365_98, x_365_99, x_365_100, x_365_101, x_365_104, x_365_105, x_365_106, x_365_109, x_365_112, x_365_115, e_331, x_331_0, x_331_1, x_331_4, x_331_7, x_331_9, x_331_10, x_331_11, x_331_12, x_331_13, x_331_14, x_331_15, hm_c h, hm_148 h, hg_0 h, ha_0, hm_149 h, hg_1 h, ha_1, hm_150 h, hg_2 h, ha_2, hm_151 h, hg_3 h, ha_3, hm_152 h, hg_4 h, ha_4, hm_153 h, hg_5 h, ha_5, hm_154 h, hg_6 h, ha_6, hm_155 h, hs_155, hm_156 h, hg_7 h, ha_7, hm_157 h, hs_157, hm_158 h, hs_158, hm_159 h, hs_159, hm_160 h, hs_160, hm_161 h, hs_161, hm_162 h, hs_162, hm_163 h, hs_163, hm_164 h, hs_164, hm_165 h, hs_165, hm_166 h, hg_8 h, ha_8, hm_167 h, hg_9 h, ha_9, hm_168 h, hg_10 h, ha_10, hm_169 h, hg_11 h, ha_11, hm_170 h, hg_12 h, ha_12, hm_171 h, hg_13 h, ha_13, hm_172 h, hs_172, hm_173 h, hs_173, hm_174 h, hs_174, hm_175 h, hs_175, hm_176 h, hs_176, hm_177 h, hg_14 h, ha_14, hm_178 h, hg_15 h, ha_15, hm_179 h, hg_16 h, ha_16, hm_180 h, hg_17 h, ha_17, hm_181 h, hg_18 h, ha_18, hm_182 h, hg_19 h, ha_19, hm_183 h, hg_20 h, ha_20, hm_184 h, hs_184, hm_185 h, hs_185, hm_186 h, hs_186, mA_uA, mA_uF, mA_uW, mF_uA, mF_uF, mF_uW, mW_uA, mW_uF, mW_uW, uA_uA, uA_uF, uF_uF, bI0, kv_s, ki_s, kj_s, kd_s, kq_s, kq_n, kq_o, ka_s, kc_r, kc_t, kc0_r, kc0_t, kch_r, kc0h_r, kw_s, kw0_s, kwh_s, kw0h_s, rg_ref, rg_null, rg_rf, ck_t, sel_some, lkn_hd, Option.isSome_some, Bool.true_and, Bool.and_true, okv_i, okv_l, okv_r, okv_n, okv_rf, okv_b, okv_0, okv_1, okv_f, okv_d, c1_i, c1_r, c1_n, c1_rf, c1_f, nI_add, n_mul, n_sub, n_pred, n_eq, n_le, n_lt, n_neN, n_Nne, N_lt, N_le, n_ltN, n_leN, rdI_n, rdJ_n, rdD_n, wrI_n, wrI_z0, wrI_z1, wrI_zb, wrJ_n, wrD_n, aln_s, okn_n, upd_is, upd_ne, Nat.add_zero, Nat.add_sub_cancel, decide_true, decide_false, cond_true, cond_false, if_true, if_false, ite_not, not_true_eq_false, not_false_eq_true, Nat.reduceEqDiff, Nat.reduceAdd, Nat.reduceMul, Nat.reduceSub, Nat.reduceLeDiff, hR, e0, nle hi, q1]
  obtain ⟨M', e2, f2, g1, g2⟩ := key R 0 (by omega) (uF M 184 (nI 0)) none ⟨fun _ _ => rfl, fun q hq => by rw [mF_uF, if_neg hq], rfl⟩ (by rw [mF_uF, if_pos rfl]; rfl) (fun q x hx => by cases hx)
  refine ⟨M', ?_, f2, g1, g2⟩
  rw [← e2]
  simp (disch := omega) only [e_365, x_365_0, x_365_1, x_365_2, x_365_5, x_365_6, hm_c h, hm_148 h, hg_0 h, ha_0, hm_149 h, hg_1 h, ha_1, hm_150 h, hg_2 h, ha_2, hm_151 h, hg_3 h, ha_3, hm_152 h, hg_4 h, ha_4, hm_153 h, hg_5 h, ha_5, hm_154 h, hg_6 h, ha_6, hm_155 h, hs_155, hm_156 h, hg_7 h, ha_7, hm_157 h, hs_157, hm_158 h, hs_158, hm_159 h, hs_159, hm_160 h, hs_160, hm_161 h, hs_161, hm_162 h, hs_162, hm_163 h, hs_163, hm_164 h, hs_164, hm_165 h, hs_165, hm_166 h, hg_8 h, ha_8, hm_167 h, hg_9 h, ha_9, hm_168 h, hg_10 h, ha_10, hm_169 h, hg_11 h, ha_11, hm_170 h, hg_12 h, ha_12, hm_171 h, hg_13 h, ha_13, hm_172 h, hs_172, hm_173 h, hs_173, hm_174 h, hs_174, hm_175 h, hs_175, hm_176 h, hs_176, hm_177 h, hg_14 h, ha_14, hm_178 h, hg_15 h, ha_15, hm_179 h, hg_16 h, ha_16, hm_180 h, hg_17 h, ha_17, hm_181 h, hg_18 h, ha_18, hm_182 h, hg_19 h, ha_19, hm_183 h, hg_20 h, ha_20, hm_184 h, hs_184, hm_185 h, hs_185, hm_186 h, hs_186, mA_uA, mA_uF, mA_uW, mF_uA, mF_uF, mF_uW, mW_uA, mW_uF, mW_uW, uA_uA, uA_uF, uF_uF, bI0, kv_s, ki_s, kj_s, kd_s, kq_s, kq_n, kq_o, ka_s, kc_r, kc_t, kc0_r, kc0_t, kch_r, kc0h_r, kw_s, kw0_s, kwh_s, kw0h_s, rg_ref, rg_null, rg_rf, ck_t, sel_some, lkn_hd, Option.isSome_some, Bool.true_and, Bool.and_true, okv_i, okv_l, okv_r, okv_n, okv_rf, okv_b, okv_0, okv_1, okv_f, okv_d, c1_i, c1_r, c1_n, c1_rf, c1_f, nI_add, n_mul, n_sub, n_pred, n_eq, n_le, n_lt, n_neN, n_Nne, N_lt, N_le, n_ltN, n_leN, rdI_n, rdJ_n, rdD_n, wrI_n, wrI_z0, wrI_z1, wrI_zb, wrJ_n, wrD_n, aln_s, okn_n, upd_is, upd_ne, Nat.add_zero, Nat.add_sub_cancel, decide_true, decide_false, cond_true, cond_false, if_true, if_false, ite_not, not_true_eq_false, not_false_eq_true, Nat.reduceEqDiff, Nat.reduceAdd, Nat.reduceMul, Nat.reduceSub, Nat.reduceLeDiff]
end
