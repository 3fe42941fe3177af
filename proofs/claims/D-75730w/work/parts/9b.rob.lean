/-! the component's routes: what Route and Cheapest take, what they have found -/
def rtI (g : Nat → Int32) (mi ms : Int32) : Int32 := ms + g 2 * absI (g 1 - mi)
def tkR : Tk := fun r mi tl ms g => if g 1 * nI 100 < mi * g 3 then (false, g) else if ¬ g 0 = nN ∧ (g 4 < rtI g mi ms ∨ (rtI g mi ms = g 4 ∧ g 0 ≤ nI r)) then (false, g) else (true, upd (upd (upd g 4 (rtI g mi ms)) 5 mi) 6 tl)
def tkC : Tk := fun _ _ tl _ g => if ¬ g 0 = nN ∧ g 7 ≤ tl then (false, g) else (true, upd g 7 tl)
section
variable {A A' : Hp} {w w' : Lb} {X : Nat → Prop} {y ci n q to a1 a2 b d c s G R u h r t e sl a st : Nat} {K : Nat → Prop} {f1 f2 g f1' f2' : Nat → Int32} {S : Nat → Int32} {tk : Tk} {mi tl ms mc mh x el : Int32}
theorem tkR_ok : TkS 15 (fun k => k < 7) tkR := by
  intro A w y q to a1 a2 f1 f2 g d r mi tl ms h hr
  have g0 : gf A y 81 = some (.int (g 0)) := h.gs 0 (by decide)
  have g1 : gf A y 82 = some (.int (g 1)) := h.gs 1 (by decide)
  have g2 : gf A y 83 = some (.int (g 2)) := h.gs 2 (by decide)
  have g3 : gf A y 84 = some (.int (g 3)) := h.gs 3 (by decide)
  have g4 : gf A y 85 = some (.int (g 4)) := h.gs 4 (by decide)
  have g5 : gf A y 86 = some (.int (g 5)) := h.gs 5 (by decide)
  have g6 : gf A y 87 = some (.int (g 6)) := h.gs 6 (by decide)
  have q230 := m_230 (d := d) h
  have hc := h.c
  have its : ms + g 2 * absI (g 1 - mi) = rtI g mi ms := rfl
  rw [if_pos rfl]
  by_cases c1 : g 1 * nI 100 < mi * g 3
  · have e : tkR r mi tl ms g = (false, g) := if_pos c1
    rw [e]
    refine ⟨A, ?_, h, Fr.rf⟩
    have c1' := eq_true c1
    simp (disch := first | omega | (simp (disch := omega) only [nx_setf, nx_seta, nx_newo, nx_newa]; omega)) only [e_232, x_232_0, x_232_2, x_232_3, x_232_6, x_232_7, x_232_10, x_232_11, x_232_12, x_232_15, x_232_16, x_232_17, x_232_19, x_232_20, x_232_21, x_232_24, x_232_25, x_232_26, x_232_29, x_232_31, x_232_32, x_232_35, x_232_36, x_232_39, x_232_40, x_232_42, x_232_44, x_232_47, x_232_48, x_232_51, x_232_54, x_232_56, x_232_57, x_232_60, x_232_63, x_232_65, x_232_66, x_232_69, x_232_72, x_232_73, x_232_74, x_232_77, x_232_80, x_232_81, x_232_82, x_232_83, x_232_85, x_232_88, x_232_89, x_232_90, x_232_93, x_232_94, x_232_95, x_232_98, x_232_99, kv_s, ki_s, kj_s, kd_s, kq_s, kq_n, kq_o, ka_s, kc_r, kc_t, kc0_r, kc0_t, kch_r, kc0h_r, kw_s, kw0_s, kwh_s, kw0h_s, rg_ref, rg_null, rg_rf, ck_t, sel_some, lkn_hd, Option.isSome_some, Bool.true_and, Bool.and_true, okv_i, okv_l, okv_r, okv_n, okv_rf, okv_b, okv_0, okv_1, okv_f, okv_d, c1_i, c1_r, c1_n, c1_rf, c1_f, nI_add, n_mul, n_sub, n_pred, n_eq, n_le, n_lt, n_neN, n_Nne, N_lt, N_le, n_ltN, n_leN, rdI_n, rdJ_n, rdD_n, wrI_n, wrI_z0, wrI_z1, wrI_zb, wrJ_n, wrD_n, aln_s, okn_n, upd_is, upd_ne, Nat.add_zero, Nat.add_sub_cancel, decide_true, decide_false, cond_true, cond_false, if_true, if_false, ite_not, not_true_eq_false, not_false_eq_true, Nat.reduceEqDiff, Nat.reduceAdd, Nat.reduceMul, Nat.reduceSub, Nat.reduceLeDiff, g1, g2, g3, m_8, c1', bI_f]
  · have c1' := eq_false c1
    by_cases c2 : ¬ g 0 = nN ∧ (g 4 < rtI g mi ms ∨ (rtI g mi ms = g 4 ∧ g 0 ≤ nI r))
    · have e : tkR r mi tl ms g = (false, g) := (if_neg c1).trans (if_pos c2)
      rw [e]
      refine ⟨A, ?_, h, Fr.rf⟩
      obtain ⟨z0, z1⟩ := c2
      have q230' := q230
      rw [decide_eq_true z0, bI_t] at q230'
      by_cases c3 : g 4 < rtI g mi ms
      · have c3' := eq_true c3
        simp (disch := first | omega | (simp (disch := omega) only [nx_setf, nx_seta, nx_newo, nx_newa]; omega)) only [e_232, x_232_0, x_232_2, x_232_3, x_232_6, x_232_7, x_232_10, x_232_11, x_232_12, x_232_15, x_232_16, x_232_17, x_232_19, x_232_20, x_232_21, x_232_24, x_232_25, x_232_26, x_232_29, x_232_31, x_232_32, x_232_35, x_232_36, x_232_39, x_232_40, x_232_42, x_232_44, x_232_47, x_232_48, x_232_51, x_232_54, x_232_56, x_232_57, x_232_60, x_232_63, x_232_65, x_232_66, x_232_69, x_232_72, x_232_73, x_232_74, x_232_77, x_232_80, x_232_81, x_232_82, x_232_83, x_232_85, x_232_88, x_232_89, x_232_90, x_232_93, x_232_94, x_232_95, x_232_98, x_232_99, kv_s, ki_s, kj_s, kd_s, kq_s, kq_n, kq_o, ka_s, kc_r, kc_t, kc0_r, kc0_t, kch_r, kc0h_r, kw_s, kw0_s, kwh_s, kw0h_s, rg_ref, rg_null, rg_rf, ck_t, sel_some, lkn_hd, Option.isSome_some, Bool.true_and, Bool.and_true, okv_i, okv_l, okv_r, okv_n, okv_rf, okv_b, okv_0, okv_1, okv_f, okv_d, c1_i, c1_r, c1_n, c1_rf, c1_f, nI_add, n_mul, n_sub, n_pred, n_eq, n_le, n_lt, n_neN, n_Nne, N_lt, N_le, n_ltN, n_leN, rdI_n, rdJ_n, rdD_n, wrI_n, wrI_z0, wrI_z1, wrI_zb, wrJ_n, wrD_n, aln_s, okn_n, upd_is, upd_ne, Nat.add_zero, Nat.add_sub_cancel, decide_true, decide_false, cond_true, cond_false, if_true, if_false, ite_not, not_true_eq_false, not_false_eq_true, Nat.reduceEqDiff, Nat.reduceAdd, Nat.reduceMul, Nat.reduceSub, Nat.reduceLeDiff, g1, g2, g3, g4, m_8, c1', bI_f, hc, q230', its, c3']
      · have c3' := eq_false c3
        obtain ⟨z2, z3⟩ := z1.resolve_left c3
        have z2' := eq_true z2
        have z3' : (nI r < g 0) = False := eq_false (Int32.not_lt.mpr z3)
        simp (disch := first | omega | (simp (disch := omega) only [nx_setf, nx_seta, nx_newo, nx_newa]; omega)) only [e_232, x_232_0, x_232_2, x_232_3, x_232_6, x_232_7, x_232_10, x_232_11, x_232_12, x_232_15, x_232_16, x_232_17, x_232_19, x_232_20, x_232_21, x_232_24, x_232_25, x_232_26, x_232_29, x_232_31, x_232_32, x_232_35, x_232_36, x_232_39, x_232_40, x_232_42, x_232_44, x_232_47, x_232_48, x_232_51, x_232_54, x_232_56, x_232_57, x_232_60, x_232_63, x_232_65, x_232_66, x_232_69, x_232_72, x_232_73, x_232_74, x_232_77, x_232_80, x_232_81, x_232_82, x_232_83, x_232_85, x_232_88, x_232_89, x_232_90, x_232_93, x_232_94, x_232_95, x_232_98, x_232_99, kv_s, ki_s, kj_s, kd_s, kq_s, kq_n, kq_o, ka_s, kc_r, kc_t, kc0_r, kc0_t, kch_r, kc0h_r, kw_s, kw0_s, kwh_s, kw0h_s, rg_ref, rg_null, rg_rf, ck_t, sel_some, lkn_hd, Option.isSome_some, Bool.true_and, Bool.and_true, okv_i, okv_l, okv_r, okv_n, okv_rf, okv_b, okv_0, okv_1, okv_f, okv_d, c1_i, c1_r, c1_n, c1_rf, c1_f, nI_add, n_mul, n_sub, n_pred, n_eq, n_le, n_lt, n_neN, n_Nne, N_lt, N_le, n_ltN, n_leN, rdI_n, rdJ_n, rdD_n, wrI_n, wrI_z0, wrI_z1, wrI_zb, wrJ_n, wrD_n, aln_s, okn_n, upd_is, upd_ne, Nat.add_zero, Nat.add_sub_cancel, decide_true, decide_false, cond_true, cond_false, if_true, if_false, ite_not, not_true_eq_false, not_false_eq_true, Nat.reduceEqDiff, Nat.reduceAdd, Nat.reduceMul, Nat.reduceSub, Nat.reduceLeDiff, g0, g1, g2, g3, g4, m_8, c1', bI_f, hc, q230', its, c3', z2', z3']
    · have e : tkR r mi tl ms g = (true, upd (upd (upd g 4 (rtI g mi ms)) 5 mi) 6 tl) := (if_neg c1).trans (if_neg c2)
      rw [e]
      have h' := ((h.set 4 (rtI g mi ms)).set 5 mi).set 6 tl
      refine ⟨_, ?_, h', ((Fr.stf h.wy).trans (Fr.stf h.wy)).trans (Fr.stf h.wy)⟩
      by_cases z0 : g 0 = nN
      · have q230' := q230
        rw [decide_eq_false (not_not_intro z0), bI_f] at q230'
        simp (disch := first | omega | (simp (disch := omega) only [nx_setf, nx_seta, nx_newo, nx_newa]; omega)) only [e_232, x_232_0, x_232_2, x_232_3, x_232_6, x_232_7, x_232_10, x_232_11, x_232_12, x_232_15, x_232_16, x_232_17, x_232_19, x_232_20, x_232_21, x_232_24, x_232_25, x_232_26, x_232_29, x_232_31, x_232_32, x_232_35, x_232_36, x_232_39, x_232_40, x_232_42, x_232_44, x_232_47, x_232_48, x_232_51, x_232_54, x_232_56, x_232_57, x_232_60, x_232_63, x_232_65, x_232_66, x_232_69, x_232_72, x_232_73, x_232_74, x_232_77, x_232_80, x_232_81, x_232_82, x_232_83, x_232_85, x_232_88, x_232_89, x_232_90, x_232_93, x_232_94, x_232_95, x_232_98, x_232_99, kv_s, ki_s, kj_s, kd_s, kq_s, kq_n, kq_o, ka_s, kc_r, kc_t, kc0_r, kc0_t, kch_r, kc0h_r, kw_s, kw0_s, kwh_s, kw0h_s, rg_ref, rg_null, rg_rf, ck_t, sel_some, lkn_hd, Option.isSome_some, Bool.true_and, Bool.and_true, okv_i, okv_l, okv_r, okv_n, okv_rf, okv_b, okv_0, okv_1, okv_f, okv_d, c1_i, c1_r, c1_n, c1_rf, c1_f, nI_add, n_mul, n_sub, n_pred, n_eq, n_le, n_lt, n_neN, n_Nne, N_lt, N_le, n_ltN, n_leN, rdI_n, rdJ_n, rdD_n, wrI_n, wrI_z0, wrI_z1, wrI_zb, wrJ_n, wrD_n, aln_s, okn_n, upd_is, upd_ne, Nat.add_zero, Nat.add_sub_cancel, decide_true, decide_false, cond_true, cond_false, if_true, if_false, ite_not, not_true_eq_false, not_false_eq_true, Nat.reduceEqDiff, Nat.reduceAdd, Nat.reduceMul, Nat.reduceSub, Nat.reduceLeDiff, gf_setf_ne, gf_setf_p, gf_setf_is, va_rf_s, va_rf_n, gf_seta, ga_setf, gc_setf, gc_seta, ga_seta_ne, ga_seta_eq, gf_new, gc_new, gf_newo_o, gc_newo_o, ga_newo_o, ga_new, gf_newa_o, gc_newa_o, ga_newa_o, nx_setf, nx_seta, nx_newo, nx_newa, su_setf, su_seta, su_newo, su_newa, sg_setf, sg_seta, sg_newo, sg_newa, okq_n, g1, g2, g3, g4, g5, g6, m_8, c1', bI_t, hc, q230', its]
      · have q230' := q230
        rw [decide_eq_true z0, bI_t] at q230'
        have c3 : ¬ g 4 < rtI g mi ms := fun z => c2 ⟨z0, Or.inl z⟩
        have c3' := eq_false c3
        by_cases z2 : rtI g mi ms = g 4
        · have z2' := eq_true z2
          have z3 : ¬ g 0 ≤ nI r := fun z => c2 ⟨z0, Or.inr ⟨z2, z⟩⟩
          have z3' : (nI r < g 0) = True := eq_true (Int32.not_le.mp z3)
          simp (disch := first | omega | (simp (disch := omega) only [nx_setf, nx_seta, nx_newo, nx_newa]; omega)) only [e_232, x_232_0, x_232_2, x_232_3, x_232_6, x_232_7, x_232_10, x_232_11, x_232_12, x_232_15, x_232_16, x_232_17, x_232_19, x_232_20, x_232_21, x_232_24, x_232_25, x_232_26, x_232_29, x_232_31, x_232_32, x_232_35, x_232_36, x_232_39, x_232_40, x_232_42, x_232_44, x_232_47, x_232_48, x_232_51, x_232_54, x_232_56, x_232_57, x_232_60, x_232_63, x_232_65, x_232_66, x_232_69, x_232_72, x_232_73, x_232_74, x_232_77, x_232_80, x_232_81, x_232_82, x_232_83, x_232_85, x_232_88, x_232_89, x_232_90, x_232_93, x_232_94, x_232_95, x_232_98, x_232_99, kv_s, ki_s, kj_s, kd_s, kq_s, kq_n, kq_o, ka_s, kc_r, kc_t, kc0_r, kc0_t, kch_r, kc0h_r, kw_s, kw0_s, kwh_s, kw0h_s, rg_ref, rg_null, rg_rf, ck_t, sel_some, lkn_hd, Option.isSome_some, Bool.true_and, Bool.and_true, okv_i, okv_l, okv_r, okv_n, okv_rf, okv_b, okv_0, okv_1, okv_f, okv_d, c1_i, c1_r, c1_n, c1_rf, c1_f, nI_add, n_mul, n_sub, n_pred, n_eq, n_le, n_lt, n_neN, n_Nne, N_lt, N_le, n_ltN, n_leN, rdI_n, rdJ_n, rdD_n, wrI_n, wrI_z0, wrI_z1, wrI_zb, wrJ_n, wrD_n, aln_s, okn_n, upd_is, upd_ne, Nat.add_zero, Nat.add_sub_cancel, decide_true, decide_false, cond_true, cond_false, if_true, if_false, ite_not, not_true_eq_false, not_false_eq_true, Nat.reduceEqDiff, Nat.reduceAdd, Nat.reduceMul, Nat.reduceSub, Nat.reduceLeDiff, gf_setf_ne, gf_setf_p, gf_setf_is, va_rf_s, va_rf_n, gf_seta, ga_setf, gc_setf, gc_seta, ga_seta_ne, ga_seta_eq, gf_new, gc_new, gf_newo_o, gc_newo_o, ga_newo_o, ga_new, gf_newa_o, gc_newa_o, ga_newa_o, nx_setf, nx_seta, nx_newo, nx_newa, su_setf, su_seta, su_newo, su_newa, sg_setf, sg_seta, sg_newo, sg_newa, okq_n, g0, g1, g2, g3, g4, g5, g6, m_8, c1', bI_t, hc, q230', its, c3', z2', z3']
        · have z2' := eq_false z2
          simp (disch := first | omega | (simp (disch := omega) only [nx_setf, nx_seta, nx_newo, nx_newa]; omega)) only [e_232, x_232_0, x_232_2, x_232_3, x_232_6, x_232_7, x_232_10, x_232_11, x_232_12, x_232_15, x_232_16, x_232_17, x_232_19, x_232_20, x_232_21, x_232_24, x_232_25, x_232_26, x_232_29, x_232_31, x_232_32, x_232_35, x_232_36, x_232_39, x_232_40, x_232_42, x_232_44, x_232_47, x_232_48, x_232_51, x_232_54, x_232_56, x_232_57, x_232_60, x_232_63, x_232_65, x_232_66, x_232_69, x_232_72, x_232_73, x_232_74, x_232_77, x_232_80, x_232_81, x_232_82, x_232_83, x_232_85, x_232_88, x_232_89, x_232_90, x_232_93, x_232_94, x_232_95, x_232_98, x_232_99, kv_s, ki_s, kj_s, kd_s, kq_s, kq_n, kq_o, ka_s, kc_r, kc_t, kc0_r, kc0_t, kch_r, kc0h_r, kw_s, kw0_s, kwh_s, kw0h_s, rg_ref, rg_null, rg_rf, ck_t, sel_some, lkn_hd, Option.isSome_some, Bool.true_and, Bool.and_true, okv_i, okv_l, okv_r, okv_n, okv_rf, okv_b, okv_0, okv_1, okv_f, okv_d, c1_i, c1_r, c1_n, c1_rf, c1_f, nI_add, n_mul, n_sub, n_pred, n_eq, n_le, n_lt, n_neN, n_Nne, N_lt, N_le, n_ltN, n_leN, rdI_n, rdJ_n, rdD_n, wrI_n, wrI_z0, wrI_z1, wrI_zb, wrJ_n, wrD_n, aln_s, okn_n, upd_is, upd_ne, Nat.add_zero, Nat.add_sub_cancel, decide_true, decide_false, cond_true, cond_false, if_true, if_false, ite_not, not_true_eq_false, not_false_eq_true, Nat.reduceEqDiff, Nat.reduceAdd, Nat.reduceMul, Nat.reduceSub, Nat.reduceLeDiff, gf_setf_ne, gf_setf_p, gf_setf_is, va_rf_s, va_rf_n, gf_seta, ga_setf, gc_setf, gc_seta, ga_seta_ne, ga_seta_eq, gf_new, gc_new, gf_newo_o, gc_newo_o, ga_newo_o, ga_new, gf_newa_o, gc_newa_o, ga_newa_o, nx_setf, nx_seta, nx_newo, nx_newa, su_setf, su_seta, su_newo, su_newa, sg_setf, sg_seta, sg_newo, sg_newa, okq_n, g1, g2, g3, g4, g5, g6, m_8, c1', bI_t, hc, q230', its, c3', z2']
theorem tkC_ok : TkS 16 (fun k => k = 0 ∨ k = 7) tkC := by
  intro A w y q to a1 a2 f1 f2 g d r mi tl ms h hr
  have g0 : gf A y 81 = some (.int (g 0)) := h.gs 0 (by decide)
  have g7 : gf A y 88 = some (.int (g 7)) := h.gs 7 (by decide)
  have q230 := m_230 (d := d) h
  have hc := h.c
  rw [if_neg (by decide)]
  by_cases c2 : ¬ g 0 = nN ∧ g 7 ≤ tl
  · have e : tkC r mi tl ms g = (false, g) := if_pos c2
    rw [e]
    refine ⟨A, ?_, h, Fr.rf⟩
    rw [decide_eq_true c2.1, bI_t] at q230
    have c3 : (tl < g 7) = False := eq_false (Int32.not_lt.mpr c2.2)
    simp (disch := first | omega | (simp (disch := omega) only [nx_setf, nx_seta, nx_newo, nx_newa]; omega)) only [e_233, x_233_0, x_233_1, x_233_4, x_233_7, x_233_8, x_233_9, x_233_12, x_233_15, x_233_16, x_233_17, x_233_18, x_233_19, x_233_22, x_233_23, kv_s, ki_s, kj_s, kd_s, kq_s, kq_n, kq_o, ka_s, kc_r, kc_t, kc0_r, kc0_t, kch_r, kc0h_r, kw_s, kw0_s, kwh_s, kw0h_s, rg_ref, rg_null, rg_rf, ck_t, sel_some, lkn_hd, Option.isSome_some, Bool.true_and, Bool.and_true, okv_i, okv_l, okv_r, okv_n, okv_rf, okv_b, okv_0, okv_1, okv_f, okv_d, c1_i, c1_r, c1_n, c1_rf, c1_f, nI_add, n_mul, n_sub, n_pred, n_eq, n_le, n_lt, n_neN, n_Nne, N_lt, N_le, n_ltN, n_leN, rdI_n, rdJ_n, rdD_n, wrI_n, wrI_z0, wrI_z1, wrI_zb, wrJ_n, wrD_n, aln_s, okn_n, upd_is, upd_ne, Nat.add_zero, Nat.add_sub_cancel, decide_true, decide_false, cond_true, cond_false, if_true, if_false, ite_not, not_true_eq_false, not_false_eq_true, Nat.reduceEqDiff, Nat.reduceAdd, Nat.reduceMul, Nat.reduceSub, Nat.reduceLeDiff, g7, hc, q230, c3, bI_f]
  · have e : tkC r mi tl ms g = (true, upd g 7 tl) := if_neg c2
    rw [e]
    refine ⟨_, ?_, h.set 7 tl, Fr.stf h.wy⟩
    by_cases z0 : g 0 = nN
    · rw [decide_eq_false (not_not_intro z0), bI_f] at q230
      simp (disch := first | omega | (simp (disch := omega) only [nx_setf, nx_seta, nx_newo, nx_newa]; omega)) only [e_233, x_233_0, x_233_1, x_233_4, x_233_7, x_233_8, x_233_9, x_233_12, x_233_15, x_233_16, x_233_17, x_233_18, x_233_19, x_233_22, x_233_23, kv_s, ki_s, kj_s, kd_s, kq_s, kq_n, kq_o, ka_s, kc_r, kc_t, kc0_r, kc0_t, kch_r, kc0h_r, kw_s, kw0_s, kwh_s, kw0h_s, rg_ref, rg_null, rg_rf, ck_t, sel_some, lkn_hd, Option.isSome_some, Bool.true_and, Bool.and_true, okv_i, okv_l, okv_r, okv_n, okv_rf, okv_b, okv_0, okv_1, okv_f, okv_d, c1_i, c1_r, c1_n, c1_rf, c1_f, nI_add, n_mul, n_sub, n_pred, n_eq, n_le, n_lt, n_neN, n_Nne, N_lt, N_le, n_ltN, n_leN, rdI_n, rdJ_n, rdD_n, wrI_n, wrI_z0, wrI_z1, wrI_zb, wrJ_n, wrD_n, aln_s, okn_n, upd_is, upd_ne, Nat.add_zero, Nat.add_sub_cancel, decide_true, decide_false, cond_true, cond_false, if_true, if_false, ite_not, not_true_eq_false, not_false_eq_true, Nat.reduceEqDiff, Nat.reduceAdd, Nat.reduceMul, Nat.reduceSub, Nat.reduceLeDiff, gf_setf_ne, gf_setf_p, gf_setf_is, va_rf_s, va_rf_n, gf_seta, ga_setf, gc_setf, gc_seta, ga_seta_ne, ga_seta_eq, gf_new, gc_new, gf_newo_o, gc_newo_o, ga_newo_o, ga_new, gf_newa_o, gc_newa_o, ga_newa_o, nx_setf, nx_seta, nx_newo, nx_newa, su_setf, su_seta, su_newo, su_newa, sg_setf, sg_seta, sg_newo, sg_newa, okq_n, g7, hc, q230, bI_t]
    · rw [decide_eq_true z0, bI_t] at q230
      have c3 : (tl < g 7) = True := eq_true (Int32.not_le.mp (fun z => c2 ⟨z0, z⟩))
      simp (disch := first | omega | (simp (disch := omega) only [nx_setf, nx_seta, nx_newo, nx_newa]; omega)) only [e_233, x_233_0, x_233_1, x_233_4, x_233_7, x_233_8, x_233_9, x_233_12, x_233_15, x_233_16, x_233_17, x_233_18, x_233_19, x_233_22, x_233_23, kv_s, ki_s, kj_s, kd_s, kq_s, kq_n, kq_o, ka_s, kc_r, kc_t, kc0_r, kc0_t, kch_r, kc0h_r, kw_s, kw0_s, kwh_s, kw0h_s, rg_ref, rg_null, rg_rf, ck_t, sel_some, lkn_hd, Option.isSome_some, Bool.true_and, Bool.and_true, okv_i, okv_l, okv_r, okv_n, okv_rf, okv_b, okv_0, okv_1, okv_f, okv_d, c1_i, c1_r, c1_n, c1_rf, c1_f, nI_add, n_mul, n_sub, n_pred, n_eq, n_le, n_lt, n_neN, n_Nne, N_lt, N_le, n_ltN, n_leN, rdI_n, rdJ_n, rdD_n, wrI_n, wrI_z0, wrI_z1, wrI_zb, wrJ_n, wrD_n, aln_s, okn_n, upd_is, upd_ne, Nat.add_zero, Nat.add_sub_cancel, decide_true, decide_false, cond_true, cond_false, if_true, if_false, ite_not, not_true_eq_false, not_false_eq_true, Nat.reduceEqDiff, Nat.reduceAdd, Nat.reduceMul, Nat.reduceSub, Nat.reduceLeDiff, gf_setf_ne, gf_setf_p, gf_setf_is, va_rf_s, va_rf_n, gf_seta, ga_setf, gc_setf, gc_seta, ga_seta_ne, ga_seta_eq, gf_new, gc_new, gf_newo_o, gc_newo_o, ga_newo_o, ga_new, gf_newa_o, gc_newa_o, ga_newa_o, nx_setf, nx_seta, nx_newo, nx_newa, su_setf, su_seta, su_newo, su_newa, sg_setf, sg_seta, sg_newo, sg_newa, okq_n, g7, hc, q230, c3, bI_t]
/-- a route begun -/
theorem m_231 (ws : WSt A w b s S) : ∃ A', evG TB (d + 3) 231 [.ref (nx A), .ref q, .ref s, .int x, .int (nI to), .int el] (newo A 15 11 dv15) = some (.inl none, A') ∧ SrO A' (srW A w) (nx A) 15 q to (nx A + 1) (nx A + 2) (fun k => k < 7) (upd (fun _ => nI 0) 0 x) (fun _ => nI 0) (upd (upd (upd (upd (fun _ => nI 0) 0 nN) 1 el) 2 (S 2)) 3 (S 3)) ∧ ∀ X, Fr A w A' (srW A w) X 3 25 := by
  have h0 : SrO (srH A 15 11 dv15 q to x) (srW A w) (nx A) 15 q to (nx A + 1) (nx A + 2) (fun k => k < 7) (upd (fun _ => nI 0) 0 x) (fun _ => nI 0) (upd (fun _ => nI 0) 0 nN) := srH_o dv15_k (by decide)
  have fr0 := fun X => srH_fr (A := A) (w := w) (ci := 15) (n := 11) (dv := dv15) (q := q) (to := to) (x := x) (X := X)
  have q227 := m_227 (A := A) (d := d) (ci := 15) (n := 11) (dv := dv15) (q := q) (to := to) (x := x) dv15_77 dv15_78 dv15_79 dv15_80 (dv15_k 0 (by decide))
  have h1 := h0.set 1 el
  have h2 := h1.set 2 (S 2)
  have fr1 := fun X => (fr0 X).stn (p := nx A) (f := 82) (v := .int el) (Nat.le_refl _)
  have fr2 := fun X => (fr1 X).stn (p := nx A) (f := 83) (v := .int (S 2)) (Nat.le_refl _)
  have w1 := ws.fr (fr1 (fun _ => False)) (fun z => z)
  have w2 := ws.fr (fr2 (fun _ => False)) (fun z => z)
  obtain ⟨k1, r1, r1'⟩ := w1.rd (k := 2) (by decide)
  obtain ⟨k2, r2, r2'⟩ := w2.rd (k := 3) (by decide)
  have g1 : gf (srH A 15 11 dv15 q to x) (nx A) 82 = some (.int (nI 0)) := h0.gs 1 (by decide)
  have g2 : gf (setf (srH A 15 11 dv15 q to x) (nx A) 82 (.int el)) (nx A) 83 = some (.int (nI 0)) := h1.gs 2 (by decide)
  have g3 : gf (setf (setf (srH A 15 11 dv15 q to x) (nx A) 82 (.int el)) (nx A) 83 (.int (S 2))) (nx A) 84 = some (.int (nI 0)) := h2.gs 3 (by decide)
  refine ⟨_, ?_, h2.set 3 (S 3), fun X => (fr2 X).stn (Nat.le_refl _)⟩
  simp (disch := first | omega | (simp (disch := omega) only [nx_setf, nx_seta, nx_newo, nx_newa]; omega)) only [e_231, x_231_0, x_231_1, x_231_2, x_231_3, x_231_5, x_231_8, x_231_9, x_231_11, x_231_14, x_231_15, x_231_16, x_231_17, x_231_18, x_231_21, x_231_22, x_231_23, x_231_24, x_231_25, x_231_28, kv_s, ki_s, kj_s, kd_s, kq_s, kq_n, kq_o, ka_s, kc_r, kc_t, kc0_r, kc0_t, kch_r, kc0h_r, kw_s, kw0_s, kwh_s, kw0h_s, rg_ref, rg_null, rg_rf, ck_t, sel_some, lkn_hd, Option.isSome_some, Bool.true_and, Bool.and_true, okv_i, okv_l, okv_r, okv_n, okv_rf, okv_b, okv_0, okv_1, okv_f, okv_d, c1_i, c1_r, c1_n, c1_rf, c1_f, nI_add, n_mul, n_sub, n_pred, n_eq, n_le, n_lt, n_neN, n_Nne, N_lt, N_le, n_ltN, n_leN, rdI_n, rdJ_n, rdD_n, wrI_n, wrI_z0, wrI_z1, wrI_zb, wrJ_n, wrD_n, aln_s, okn_n, upd_is, upd_ne, Nat.add_zero, Nat.add_sub_cancel, decide_true, decide_false, cond_true, cond_false, if_true, if_false, ite_not, not_true_eq_false, not_false_eq_true, Nat.reduceEqDiff, Nat.reduceAdd, Nat.reduceMul, Nat.reduceSub, Nat.reduceLeDiff, q227, g1, r1, r1', g2, r2, r2', g3]
/-- a search for the least toll begun -/
theorem m_234 : ∃ A', evG TB (d + 3) 234 [.ref (nx A), .ref q, .int x, .int (nI to)] (newo A 16 6 dv16) = some (.inl none, A') ∧ SrO A' (srW A w) (nx A) 16 q to (nx A + 1) (nx A + 2) (fun k => k = 0 ∨ k = 7) (upd (fun _ => nI 0) 0 x) (fun _ => nI 0) (upd (upd (fun _ => nI 0) 0 nN) 7 nN) ∧ ∀ X, Fr A w A' (srW A w) X 3 20 := by
  have h0 : SrO (srH A 16 6 dv16 q to x) (srW A w) (nx A) 16 q to (nx A + 1) (nx A + 2) (fun k => k = 0 ∨ k = 7) (upd (fun _ => nI 0) 0 x) (fun _ => nI 0) (upd (fun _ => nI 0) 0 nN) := srH_o dv16_k (by decide)
  have fr0 := fun X => srH_fr (A := A) (w := w) (ci := 16) (n := 6) (dv := dv16) (q := q) (to := to) (x := x) (X := X)
  have q227 := m_227 (A := A) (d := d) (ci := 16) (n := 6) (dv := dv16) (q := q) (to := to) (x := x) dv16_77 dv16_78 dv16_79 dv16_80 (dv16_k 0 (by decide))
  have g7 : gf (srH A 16 6 dv16 q to x) (nx A) 88 = some (.int (nI 0)) := h0.gs 7 (by decide)
  refine ⟨_, ?_, h0.set 7 nN, fun X => (fr0 X).stn (Nat.le_refl _)⟩
  simp (disch := first | omega | (simp (disch := omega) only [nx_setf, nx_seta, nx_newo, nx_newa]; omega)) only [e_234, x_234_0, x_234_1, x_234_2, x_234_3, x_234_4, x_234_7, x_234_8, x_234_9, x_234_12, kv_s, ki_s, kj_s, kd_s, kq_s, kq_n, kq_o, ka_s, kc_r, kc_t, kc0_r, kc0_t, kch_r, kc0h_r, kw_s, kw0_s, kwh_s, kw0h_s, rg_ref, rg_null, rg_rf, ck_t, sel_some, lkn_hd, Option.isSome_some, Bool.true_and, Bool.and_true, okv_i, okv_l, okv_r, okv_n, okv_rf, okv_b, okv_0, okv_1, okv_f, okv_d, c1_i, c1_r, c1_n, c1_rf, c1_f, nI_add, n_mul, n_sub, n_pred, n_eq, n_le, n_lt, n_neN, n_Nne, N_lt, N_le, n_ltN, n_leN, rdI_n, rdJ_n, rdD_n, wrI_n, wrI_z0, wrI_z1, wrI_zb, wrJ_n, wrD_n, aln_s, okn_n, upd_is, upd_ne, Nat.add_zero, Nat.add_sub_cancel, decide_true, decide_false, cond_true, cond_false, if_true, if_false, ite_not, not_true_eq_false, not_false_eq_true, Nat.reduceEqDiff, Nat.reduceAdd, Nat.reduceMul, Nat.reduceSub, Nat.reduceLeDiff, q227, g7]
/-- what a route has found, against the best way -/
def RtQ (S : Nat → Int32) (el : Int32) (a : (Nat → Int32) × (Nat → Int32)) (z : Ac) : Prop := (a.1 1 = el ∧ a.1 2 = S 2 ∧ a.1 3 = S 3) ∧ ((a.1 0 = nN ∧ z.1 = far ∧ z.2.1 = far) ∨ (∃ r, r ≤ 6 ∧ a.1 0 = nI r ∧ z.2.1 = nI r ∧ a.1 4 = z.1 ∧ a.1 5 = z.2.2.2.1 ∧ a.1 6 = z.2.2.1 ∧ ∀ j, j ≤ r → a.2 j = z.2.2.2.2.2 j))
def ChQ (a : (Nat → Int32) × (Nat → Int32)) (z : Ac) : Prop := (a.1 0 = nN ∧ z.2.2.2.2.1 = far) ∨ (¬ a.1 0 = nN ∧ ∃ c, c ≤ 5994 ∧ a.1 7 = nI c ∧ z.2.2.2.2.1 = nI c)
theorem tkN_f {tk : Tk} {r : Nat} {wy : Nat → Int32} {mi tl ms : Int32} {a : (Nat → Int32) × (Nat → Int32)} (h : tk r mi tl ms a.1 = (false, a.1)) : tkN tk r wy mi tl ms a = a := by
  unfold tkN
  rw [h]
  rfl
theorem tkN_t {tk : Tk} {r : Nat} {wy : Nat → Int32} {mi tl ms : Int32} {a : (Nat → Int32) × (Nat → Int32)} {g' : Nat → Int32} (h : tk r mi tl ms a.1 = (true, g')) : tkN tk r wy mi tl ms a = (upd g' 0 (nI r), fun j => if j ≤ r then wy j else a.2 j) := by
  unfold tkN
  rw [h]
  rfl
theorem far_lt {c : Nat} (h : c < 1000000) : ¬ far < nI c := fun q => by
  have := (nI_ltI (a := 1000000000) (by omega) (by omega)).mp q
  omega
theorem RtQ.nt {wy : Nat → Int32} {z : Ac} {v : (Nat → Int32) × (Nat → Int32)} (he : e ≤ 600) (hsl : S 2 = nI sl) (hsl2 : sl ≤ 20) {fr : Int32} (hn : NoOK G to fr r wy mi tl ms) (h : RtQ S (nI e) v z) : RtQ S (nI e) (tkN tkR r wy mi tl ms v) (aNote S (nI e) r wy mi tl ms z) := by
  obtain ⟨⟨h1, h2, h3⟩, h4⟩ := h
  have its : rtI v.1 mi ms = ms + S 2 * absI (nI e - mi) := by unfold rtI; rw [h1, h2]
  have cpy : ∀ (z : Nat → Int32) j, j ≤ r → cpyR wy z 0 0 (r + 1) j = wy j := fun z j hj => by
    unfold cpyR
    rw [if_pos (by omega), Nat.zero_add, Nat.sub_zero]
  obtain ⟨m, em, lm⟩ := hn.m
  obtain ⟨t, et, lt⟩ := hn.t
  obtain ⟨k, ec, lc⟩ := hn.c
  have cb : ∃ k, k < 1000000 ∧ ms + S 2 * absI (nI e - mi) = nI k := by
    rw [ec, hsl, em, absI_n (by omega) (by omega), n_mul, nI_add]
    refine ⟨_, ?_, rfl⟩
    have : (if m ≤ e then e - m else m - e) ≤ 600 := by split <;> omega
    have := Nat.mul_le_mul hsl2 this
    omega
  obtain ⟨kc, kl, ke⟩ := cb
  have tf : ∀ {P : Prop}, (nI e * nI 100 < mi * S 3 ∨ (¬ v.1 0 = nN ∧ (v.1 4 < ms + S 2 * absI (nI e - mi) ∨ (ms + S 2 * absI (nI e - mi) = v.1 4 ∧ v.1 0 ≤ nI r)))) → tkN tkR r wy mi tl ms v = v := fun q => tkN_f (by
    unfold tkR
    rw [h1, h3, its]
    rcases q with q | q
    · rw [if_pos q]
    · rw [if_pos q]
      split <;> rfl)
  have tt : ¬ nI e * nI 100 < mi * S 3 → ¬ (¬ v.1 0 = nN ∧ (v.1 4 < ms + S 2 * absI (nI e - mi) ∨ (ms + S 2 * absI (nI e - mi) = v.1 4 ∧ v.1 0 ≤ nI r))) → tkN tkR r wy mi tl ms v = (upd (upd (upd (upd v.1 4 (ms + S 2 * absI (nI e - mi))) 5 mi) 6 tl) 0 (nI r), fun j => if j ≤ r then wy j else v.2 j) := fun q q2 => tkN_t (by
    unfold tkR
    rw [h1, h3, its, if_neg q, if_neg q2])
  unfold aNote
  by_cases c1 : nI e * nI 100 < mi * S 3
  · rw [tf (P := True) (Or.inl c1), if_pos c1]
    exact ⟨⟨h1, h2, h3⟩, h4⟩
  · rw [if_neg c1]
    rcases h4 with ⟨x0, x1, x2⟩ | ⟨r', r6, x0, x1, x4, x5, x6, x7⟩
    · have d1 : ¬ z.1 < ms + S 2 * absI (nI e - mi) := by rw [x1, ke]; exact far_lt kl
      have kl2 : kc < 1000000000 := Nat.lt_trans kl (by decide)
      have d2 : ¬ (ms + S 2 * absI (nI e - mi) = z.1 ∧ z.2.1 ≤ nI r) := by rw [x1, ke]; exact fun q => far_ne kl2 q.1
      rw [tt c1 (fun q => q.1 x0), if_neg d1, if_neg d2]
      refine ⟨⟨?_, ?_, ?_⟩, Or.inr ⟨r, hn.r6, ?_, rfl, ?_, ?_, ?_, fun j hj => ?_⟩⟩
      · dsimp only; rw [upd_ne (by decide), upd_ne (by decide), upd_ne (by decide), upd_ne (by decide)]; exact h1
      · dsimp only; rw [upd_ne (by decide), upd_ne (by decide), upd_ne (by decide), upd_ne (by decide)]; exact h2
      · dsimp only; rw [upd_ne (by decide), upd_ne (by decide), upd_ne (by decide), upd_ne (by decide)]; exact h3
      · dsimp only; rw [upd_is rfl]
      · dsimp only; rw [upd_ne (by decide), upd_ne (by decide), upd_ne (by decide), upd_is rfl]
      · dsimp only; rw [upd_ne (by decide), upd_ne (by decide), upd_is rfl]
      · dsimp only; rw [upd_ne (by decide), upd_is rfl]
      · dsimp only; rw [if_pos hj, cpy _ j hj]
    · have n0 : ¬ v.1 0 = nN := by rw [x0]; exact of_eq_false (n_neN (Nat.lt_of_le_of_lt r6 (by decide)))
      by_cases c2 : z.1 < ms + S 2 * absI (nI e - mi)
      · rw [tf (P := True) (Or.inr ⟨n0, Or.inl (by rw [x4]; exact c2)⟩), if_pos c2]
        exact ⟨⟨h1, h2, h3⟩, Or.inr ⟨r', r6, x0, x1, x4, x5, x6, x7⟩⟩
      · by_cases c3 : ms + S 2 * absI (nI e - mi) = z.1 ∧ z.2.1 ≤ nI r
        · rw [tf (P := True) (Or.inr ⟨n0, Or.inr ⟨by rw [x4]; exact c3.1, by rw [x0, ← x1]; exact c3.2⟩⟩), if_neg c2, if_pos c3]
          exact ⟨⟨h1, h2, h3⟩, Or.inr ⟨r', r6, x0, x1, x4, x5, x6, x7⟩⟩
        · rw [tt c1 (fun q => q.2.elim (fun q => c2 (by rw [← x4]; exact q)) (fun q => c3 ⟨by rw [← x4]; exact q.1, by rw [x1, ← x0]; exact q.2⟩)), if_neg c2, if_neg c3]
          refine ⟨⟨?_, ?_, ?_⟩, Or.inr ⟨r, hn.r6, ?_, rfl, ?_, ?_, ?_, fun j hj => ?_⟩⟩
          · dsimp only; rw [upd_ne (by decide), upd_ne (by decide), upd_ne (by decide), upd_ne (by decide)]; exact h1
          · dsimp only; rw [upd_ne (by decide), upd_ne (by decide), upd_ne (by decide), upd_ne (by decide)]; exact h2
          · dsimp only; rw [upd_ne (by decide), upd_ne (by decide), upd_ne (by decide), upd_ne (by decide)]; exact h3
          · dsimp only; rw [upd_is rfl]
          · dsimp only; rw [upd_ne (by decide), upd_ne (by decide), upd_ne (by decide), upd_is rfl]
          · dsimp only; rw [upd_ne (by decide), upd_ne (by decide), upd_is rfl]
          · dsimp only; rw [upd_ne (by decide), upd_is rfl]
          · dsimp only; rw [if_pos hj, cpy _ j hj]
theorem ChQ.nt {wy : Nat → Int32} {z : Ac} {v : (Nat → Int32) × (Nat → Int32)} {fr : Int32} (hn : NoOK G to fr r wy mi tl ms) (h : ChQ v z) : ChQ (tkN tkC r wy mi tl ms v) (aNote S el r wy mi tl ms z) := by
  obtain ⟨t, et, lt⟩ := hn.t
  have r6 := hn.r6
  have e5 : (aNote S el r wy mi tl ms z).2.2.2.2.1 = minI z.2.2.2.2.1 tl := by
    unfold aNote
    (repeat' split) <;> rfl
  unfold ChQ at h ⊢
  rw [e5]
  unfold minI
  have nr : ¬ nI r = nN := of_eq_false (n_neN (Nat.lt_of_le_of_lt r6 (by decide)))
  rcases h with ⟨x0, x1⟩ | ⟨x0, c, lc, x1, x2⟩
  · have ek : tkC r mi tl ms v.1 = (true, upd v.1 7 tl) := if_neg (fun q => q.1 x0)
    rw [tkN_t ek, x1, et, if_pos (of_eq_true (n_ltFar (Nat.lt_of_le_of_lt lt (by decide))))]
    refine Or.inr ⟨?_, t, lt, ?_, rfl⟩
    · dsimp only; rw [upd_is rfl]; exact nr
    · dsimp only; rw [upd_ne (by decide), upd_is rfl]
  · by_cases q : nI c ≤ nI t
    · have ek : tkC r mi tl ms v.1 = (false, v.1) := if_pos ⟨x0, by rw [x1, et]; exact q⟩
      rw [tkN_f ek, x2, et, if_neg (Int32.not_lt.mpr q)]
      exact Or.inr ⟨x0, c, lc, x1, rfl⟩
    · have ek : tkC r mi tl ms v.1 = (true, upd v.1 7 tl) := if_neg (fun z => q (by rw [← x1, ← et]; exact z.2))
      rw [tkN_t ek, x2, et, if_pos (Int32.not_le.mp q)]
      refine Or.inr ⟨?_, t, lt, ?_, rfl⟩
      · dsimp only; rw [upd_is rfl]; exact nr
      · dsimp only; rw [upd_ne (by decide), upd_is rfl]
end
