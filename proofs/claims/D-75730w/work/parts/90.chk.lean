/-! the component: checks, exceptions, labels -/
theorem i64_le {x y : Int32} : (x.toInt64 ≤ y.toInt64) = (x ≤ y) := by
  rw [Int64.le_iff_toInt_le, Int32.le_iff_toInt_le, Int32.toInt_toInt64, Int32.toInt_toInt64]
theorem lcm0 {a b : Int64} : (lg_cmp a b < nI 0) = (a < b) := by
  have h := lg_cmp_ge a b
  have e : nI 0 = (0 : Int32) := rfl
  rw [e]
  have : (lg_cmp a b < 0) ↔ ¬ (0 ≤ lg_cmp a b) := Int32.not_le.symm
  rw [propext this, propext h]
  exact propext Int64.not_le
theorem lcmp {a b : Int64} : (nI 0 < lg_cmp a b) = (b < a) := by
  have e : nI 0 = (0 : Int32) := rfl
  rw [e]
  unfold lg_cmp
  by_cases h1 : a > b
  · rw [if_pos h1, eq_true (show b < a from h1)]
    exact eq_true (by decide)
  · rw [if_neg h1, eq_false (show ¬ b < a from h1)]
    by_cases h2 : a = b
    · rw [if_pos h2]; exact eq_false (by decide)
    · rw [if_neg h2]; exact eq_false (by decide)
/-- the heap with an exception more -/
def xH (A : Hp) (E : Nat) : Hp := newo A E 6 (fun _ => none)
section
variable {A : Hp} {w : Lb} {d : Nat} {x lo hi : Int32} {a b c : Int64} {X : Nat → Prop}
theorem m_165g : evG TB (d + 1) 165 [.long a, .long b, .long c] A = some (.inl (some (.int (bI (decide (b ≤ a) && decide (a ≤ c))))), A) := by
  by_cases h1 : a < b
  · have h2 : ¬ b ≤ a := Int64.not_le.mpr h1
    rw [decide_eq_false h2, Bool.false_and, bI_f]
    simp (disch := omega) only [e_165, x_165_0, x_165_1, x_165_2, x_165_3, x_165_6, x_165_7, x_165_9, x_165_10, x_165_13, x_165_14, x_165_17, x_165_18, kv_s, ki_s, kj_s, kd_s, kq_s, kq_n, kq_o, ka_s, kc_r, kc_t, kc0_r, kc0_t, kch_r, kc0h_r, kw_s, kw0_s, kwh_s, kw0h_s, rg_ref, rg_null, rg_rf, ck_t, sel_some, lkn_hd, Option.isSome_some, Bool.true_and, Bool.and_true, okv_i, okv_l, okv_r, okv_n, okv_rf, okv_b, okv_0, okv_1, okv_f, okv_d, c1_i, c1_r, c1_n, c1_rf, c1_f, nI_add, n_mul, n_sub, n_pred, n_eq, n_le, n_lt, n_neN, n_Nne, N_lt, N_le, n_ltN, n_leN, rdI_n, rdJ_n, rdD_n, wrI_n, wrI_z0, wrI_z1, wrI_zb, wrJ_n, wrD_n, aln_s, okn_n, upd_is, upd_ne, Nat.add_zero, Nat.add_sub_cancel, decide_true, decide_false, cond_true, cond_false, if_true, if_false, ite_not, not_true_eq_false, not_false_eq_true, Nat.reduceEqDiff, Nat.reduceAdd, Nat.reduceMul, Nat.reduceSub, Nat.reduceLeDiff, lcm0, eq_true h1]
  · have h2 : b ≤ a := Int64.not_lt.mp h1
    rw [decide_eq_true h2, Bool.true_and]
    by_cases h3 : c < a
    · rw [decide_eq_false (Int64.not_le.mpr h3), bI_f]
      simp (disch := omega) only [e_165, x_165_0, x_165_1, x_165_2, x_165_3, x_165_6, x_165_7, x_165_9, x_165_10, x_165_13, x_165_14, x_165_17, x_165_18, kv_s, ki_s, kj_s, kd_s, kq_s, kq_n, kq_o, ka_s, kc_r, kc_t, kc0_r, kc0_t, kch_r, kc0h_r, kw_s, kw0_s, kwh_s, kw0h_s, rg_ref, rg_null, rg_rf, ck_t, sel_some, lkn_hd, Option.isSome_some, Bool.true_and, Bool.and_true, okv_i, okv_l, okv_r, okv_n, okv_rf, okv_b, okv_0, okv_1, okv_f, okv_d, c1_i, c1_r, c1_n, c1_rf, c1_f, nI_add, n_mul, n_sub, n_pred, n_eq, n_le, n_lt, n_neN, n_Nne, N_lt, N_le, n_ltN, n_leN, rdI_n, rdJ_n, rdD_n, wrI_n, wrI_z0, wrI_z1, wrI_zb, wrJ_n, wrD_n, aln_s, okn_n, upd_is, upd_ne, Nat.add_zero, Nat.add_sub_cancel, decide_true, decide_false, cond_true, cond_false, if_true, if_false, ite_not, not_true_eq_false, not_false_eq_true, Nat.reduceEqDiff, Nat.reduceAdd, Nat.reduceMul, Nat.reduceSub, Nat.reduceLeDiff, lcm0, lcmp, eq_false h1, eq_true h3]
    · rw [decide_eq_true (Int64.not_lt.mp h3), bI_t]
      simp (disch := omega) only [e_165, x_165_0, x_165_1, x_165_2, x_165_3, x_165_6, x_165_7, x_165_9, x_165_10, x_165_13, x_165_14, x_165_17, x_165_18, kv_s, ki_s, kj_s, kd_s, kq_s, kq_n, kq_o, ka_s, kc_r, kc_t, kc0_r, kc0_t, kch_r, kc0h_r, kw_s, kw0_s, kwh_s, kw0h_s, rg_ref, rg_null, rg_rf, ck_t, sel_some, lkn_hd, Option.isSome_some, Bool.true_and, Bool.and_true, okv_i, okv_l, okv_r, okv_n, okv_rf, okv_b, okv_0, okv_1, okv_f, okv_d, c1_i, c1_r, c1_n, c1_rf, c1_f, nI_add, n_mul, n_sub, n_pred, n_eq, n_le, n_lt, n_neN, n_Nne, N_lt, N_le, n_ltN, n_leN, rdI_n, rdJ_n, rdD_n, wrI_n, wrI_z0, wrI_z1, wrI_zb, wrJ_n, wrD_n, aln_s, okn_n, upd_is, upd_ne, Nat.add_zero, Nat.add_sub_cancel, decide_true, decide_false, cond_true, cond_false, if_true, if_false, ite_not, not_true_eq_false, not_false_eq_true, Nat.reduceEqDiff, Nat.reduceAdd, Nat.reduceMul, Nat.reduceSub, Nat.reduceLeDiff, lcm0, lcmp, eq_false h1, eq_false h3]
theorem m_165 (hb : b = lo.toInt64) (hc : c = hi.toInt64) : evG TB (d + 1) 165 [.long x.toInt64, .long b, .long c] A = some (.inl (some (.int (bI (decide (lo ≤ x) && decide (x ≤ hi))))), A) := by
  have e1 : decide (lo.toInt64 ≤ x.toInt64) = decide (lo ≤ x) := decide_eq_decide.mpr (iff_of_eq i64_le)
  have e2 : decide (x.toInt64 ≤ hi.toInt64) = decide (x ≤ hi) := decide_eq_decide.mpr (iff_of_eq i64_le)
  rw [m_165g, hb, hc, e1, e2]
theorem xH_fr {E l : Nat} : Fr A w (xH A E) (upL w (nx A) l) X 1 6 := Fr.nwo
theorem m_172t : evG TB (d + 1) 172 [.int (nI 1)] A = some (.inl none, A) := by
  simp (disch := omega) only [e_172, x_172_0, x_172_1, x_172_4, x_172_7, x_172_12, kv_s, ki_s, kj_s, kd_s, kq_s, kq_n, kq_o, ka_s, kc_r, kc_t, kc0_r, kc0_t, kch_r, kc0h_r, kw_s, kw0_s, kwh_s, kw0h_s, rg_ref, rg_null, rg_rf, ck_t, sel_some, lkn_hd, Option.isSome_some, Bool.true_and, Bool.and_true, okv_i, okv_l, okv_r, okv_n, okv_rf, okv_b, okv_0, okv_1, okv_f, okv_d, c1_i, c1_r, c1_n, c1_rf, c1_f, nI_add, n_mul, n_sub, n_pred, n_eq, n_le, n_lt, n_neN, n_Nne, N_lt, N_le, n_ltN, n_leN, rdI_n, rdJ_n, rdD_n, wrI_n, wrI_z0, wrI_z1, wrI_zb, wrJ_n, wrD_n, aln_s, okn_n, upd_is, upd_ne, Nat.add_zero, Nat.add_sub_cancel, decide_true, decide_false, cond_true, cond_false, if_true, if_false, ite_not, not_true_eq_false, not_false_eq_true, Nat.reduceEqDiff, Nat.reduceAdd, Nat.reduceMul, Nat.reduceSub, Nat.reduceLeDiff]
theorem m_172f : evG TB (d + 1) 172 [.int (nI 0)] A = some (.inr (32, nx A), xH A 32) := by
  simp (disch := omega) only [e_172, x_172_0, x_172_1, x_172_4, x_172_7, x_172_12, kv_s, ki_s, kj_s, kd_s, kq_s, kq_n, kq_o, ka_s, kc_r, kc_t, kc0_r, kc0_t, kch_r, kc0h_r, kw_s, kw0_s, kwh_s, kw0h_s, rg_ref, rg_null, rg_rf, ck_t, sel_some, lkn_hd, Option.isSome_some, Bool.true_and, Bool.and_true, okv_i, okv_l, okv_r, okv_n, okv_rf, okv_b, okv_0, okv_1, okv_f, okv_d, c1_i, c1_r, c1_n, c1_rf, c1_f, nI_add, n_mul, n_sub, n_pred, n_eq, n_le, n_lt, n_neN, n_Nne, N_lt, N_le, n_ltN, n_leN, rdI_n, rdJ_n, rdD_n, wrI_n, wrI_z0, wrI_z1, wrI_zb, wrJ_n, wrD_n, aln_s, okn_n, upd_is, upd_ne, Nat.add_zero, Nat.add_sub_cancel, decide_true, decide_false, cond_true, cond_false, if_true, if_false, ite_not, not_true_eq_false, not_false_eq_true, Nat.reduceEqDiff, Nat.reduceAdd, Nat.reduceMul, Nat.reduceSub, Nat.reduceLeDiff]
  rfl
theorem m_170t : evG TB (d + 1) 170 [.int (nI 1)] A = some (.inl none, A) := by
  simp (disch := omega) only [e_170, x_170_0, x_170_1, x_170_4, x_170_7, x_170_12, kv_s, ki_s, kj_s, kd_s, kq_s, kq_n, kq_o, ka_s, kc_r, kc_t, kc0_r, kc0_t, kch_r, kc0h_r, kw_s, kw0_s, kwh_s, kw0h_s, rg_ref, rg_null, rg_rf, ck_t, sel_some, lkn_hd, Option.isSome_some, Bool.true_and, Bool.and_true, okv_i, okv_l, okv_r, okv_n, okv_rf, okv_b, okv_0, okv_1, okv_f, okv_d, c1_i, c1_r, c1_n, c1_rf, c1_f, nI_add, n_mul, n_sub, n_pred, n_eq, n_le, n_lt, n_neN, n_Nne, N_lt, N_le, n_ltN, n_leN, rdI_n, rdJ_n, rdD_n, wrI_n, wrI_z0, wrI_z1, wrI_zb, wrJ_n, wrD_n, aln_s, okn_n, upd_is, upd_ne, Nat.add_zero, Nat.add_sub_cancel, decide_true, decide_false, cond_true, cond_false, if_true, if_false, ite_not, not_true_eq_false, not_false_eq_true, Nat.reduceEqDiff, Nat.reduceAdd, Nat.reduceMul, Nat.reduceSub, Nat.reduceLeDiff]
theorem m_170f : evG TB (d + 1) 170 [.int (nI 0)] A = some (.inr (33, nx A), xH A 33) := by
  simp (disch := omega) only [e_170, x_170_0, x_170_1, x_170_4, x_170_7, x_170_12, kv_s, ki_s, kj_s, kd_s, kq_s, kq_n, kq_o, ka_s, kc_r, kc_t, kc0_r, kc0_t, kch_r, kc0h_r, kw_s, kw0_s, kwh_s, kw0h_s, rg_ref, rg_null, rg_rf, ck_t, sel_some, lkn_hd, Option.isSome_some, Bool.true_and, Bool.and_true, okv_i, okv_l, okv_r, okv_n, okv_rf, okv_b, okv_0, okv_1, okv_f, okv_d, c1_i, c1_r, c1_n, c1_rf, c1_f, nI_add, n_mul, n_sub, n_pred, n_eq, n_le, n_lt, n_neN, n_Nne, N_lt, N_le, n_ltN, n_leN, rdI_n, rdJ_n, rdD_n, wrI_n, wrI_z0, wrI_z1, wrI_zb, wrJ_n, wrD_n, aln_s, okn_n, upd_is, upd_ne, Nat.add_zero, Nat.add_sub_cancel, decide_true, decide_false, cond_true, cond_false, if_true, if_false, ite_not, not_true_eq_false, not_false_eq_true, Nat.reduceEqDiff, Nat.reduceAdd, Nat.reduceMul, Nat.reduceSub, Nat.reduceLeDiff]
  rfl
theorem m_176t : evG TB (d + 1) 176 [.int (nI 1)] A = some (.inl none, A) := by
  simp (disch := omega) only [e_176, x_176_0, x_176_1, x_176_4, x_176_7, x_176_12, kv_s, ki_s, kj_s, kd_s, kq_s, kq_n, kq_o, ka_s, kc_r, kc_t, kc0_r, kc0_t, kch_r, kc0h_r, kw_s, kw0_s, kwh_s, kw0h_s, rg_ref, rg_null, rg_rf, ck_t, sel_some, lkn_hd, Option.isSome_some, Bool.true_and, Bool.and_true, okv_i, okv_l, okv_r, okv_n, okv_rf, okv_b, okv_0, okv_1, okv_f, okv_d, c1_i, c1_r, c1_n, c1_rf, c1_f, nI_add, n_mul, n_sub, n_pred, n_eq, n_le, n_lt, n_neN, n_Nne, N_lt, N_le, n_ltN, n_leN, rdI_n, rdJ_n, rdD_n, wrI_n, wrI_z0, wrI_z1, wrI_zb, wrJ_n, wrD_n, aln_s, okn_n, upd_is, upd_ne, Nat.add_zero, Nat.add_sub_cancel, decide_true, decide_false, cond_true, cond_false, if_true, if_false, ite_not, not_true_eq_false, not_false_eq_true, Nat.reduceEqDiff, Nat.reduceAdd, Nat.reduceMul, Nat.reduceSub, Nat.reduceLeDiff]
theorem m_176f : evG TB (d + 1) 176 [.int (nI 0)] A = some (.inr (31, nx A), xH A 31) := by
  simp (disch := omega) only [e_176, x_176_0, x_176_1, x_176_4, x_176_7, x_176_12, kv_s, ki_s, kj_s, kd_s, kq_s, kq_n, kq_o, ka_s, kc_r, kc_t, kc0_r, kc0_t, kch_r, kc0h_r, kw_s, kw0_s, kwh_s, kw0h_s, rg_ref, rg_null, rg_rf, ck_t, sel_some, lkn_hd, Option.isSome_some, Bool.true_and, Bool.and_true, okv_i, okv_l, okv_r, okv_n, okv_rf, okv_b, okv_0, okv_1, okv_f, okv_d, c1_i, c1_r, c1_n, c1_rf, c1_f, nI_add, n_mul, n_sub, n_pred, n_eq, n_le, n_lt, n_neN, n_Nne, N_lt, N_le, n_ltN, n_leN, rdI_n, rdJ_n, rdD_n, wrI_n, wrI_z0, wrI_z1, wrI_zb, wrJ_n, wrD_n, aln_s, okn_n, upd_is, upd_ne, Nat.add_zero, Nat.add_sub_cancel, decide_true, decide_false, cond_true, cond_false, if_true, if_false, ite_not, not_true_eq_false, not_false_eq_true, Nat.reduceEqDiff, Nat.reduceAdd, Nat.reduceMul, Nat.reduceSub, Nat.reduceLeDiff]
  rfl
end
