/-! the component's disputes: what would be refunded -/
section
variable {A A' B : Hp} {w w' wB : Lb} {X : Nat → Prop} {b p q s a v r bl mk C V R Bn P c u N n i g0 tp G D T k e d y l : Nat} {vO rO acO bO tO aO : Nat → Nat} {S S' Z f : Nat → Int32} {Ts : Nat → Tp} {t : Tp} {z sz un w0 : Int32}
theorem m_275 (o : WO A w b p q s a v r bl mk w0) (ws : WSt A w b s S) (hy : BlO A w y l (blF S i) T) (ht : TpO A w T 0 0 aO sz t) (hr : ∀ j, j ∈ t.rs → IV A (aO j) 17 89 8 (rdFn S j)) (hk : ∀ j, j ∈ t.rs → S (280 + 7 * j + 3) = nI 0 ∨ S (280 + 7 * j + 3) = nI 1) (h : BlR S R i t) : evG TB (d + 6) 275 [.ref p, .ref y] A = some (.inl (some (.int (rf0 S R i))), A) := by
  have lr := h.lr
  obtain ⟨rl, r1, r2⟩ := ht.rl
  have lc := r2.kc
  have q42 := r2.size (d := d + 4)
  have ft := hy.ft
  have f7 := o.f7
  have cy := hy.c
  have q251 := m_251 (d := d) hy ht (by omega) hr hk
  have y135 : gf A y 135 = some (.int (S (1120 + 18 * i + 2))) := hy.gs 2 (by decide) (by decide)
  obtain ⟨k5, s5, s5'⟩ := ws.rd (k := 5) (by decide)
  have key : ∀ (re dn : List Nat) (z : Int32), t.rs = dn ++ re → exG TB (d + 5) 275 5 [some (.ref p), some (.ref y), some (.int z), some (.int (nI dn.length))] [] A = exG TB (d + 5) 275 47 [some (.ref p), some (.ref y), some (.int (re.foldl (fun a j => minI a (S (280 + 7 * j + 4))) z)), some (.int (nI t.rs.length))] [] A := by
    intro re
    induction re with
    | nil =>
      intro dn z hrs
      have e : dn.length = t.rs.length := by rw [hrs]; simp
      rw [e]
      refine x_275_5.trans ?_
      simp (disch := first | omega | (simp (disch := omega) only [nx_setf, nx_seta, nx_newo, nx_newa]; omega)) only [x_275_6, x_275_7, x_275_10, x_275_13, x_275_16, x_275_19, x_275_20, x_275_21, x_275_24, x_275_27, x_275_28, x_275_31n, x_275_31r, x_275_34, x_275_37, x_275_40, x_275_41, x_275_44, kv_s, ki_s, kj_s, kd_s, kq_s, kq_n, kq_o, ka_s, kc_r, kc_t, kc0_r, kc0_t, kch_r, kc0h_r, kw_s, kw0_s, kwh_s, kw0h_s, rg_ref, rg_null, rg_rf, ck_t, sel_some, lkn_hd, Option.isSome_some, Bool.true_and, Bool.and_true, okv_i, okv_l, okv_r, okv_n, okv_rf, okv_b, okv_0, okv_1, okv_f, okv_d, c1_i, c1_r, c1_n, c1_rf, c1_f, nI_add, n_mul, n_sub, n_pred, n_eq, n_le, n_lt, n_neN, n_Nne, N_lt, N_le, n_ltN, n_leN, rdI_n, rdJ_n, rdD_n, wrI_n, wrI_z0, wrI_z1, wrI_zb, wrJ_n, wrD_n, aln_s, okn_n, upd_is, upd_ne, Nat.add_zero, Nat.add_sub_cancel, decide_true, decide_false, cond_true, cond_false, if_true, if_false, ite_not, not_true_eq_false, not_false_eq_true, Nat.reduceEqDiff, Nat.reduceAdd, Nat.reduceMul, Nat.reduceSub, Nat.reduceLeDiff, ft, r1, lc, q42, yle (Nat.le_refl t.rs.length), List.foldl_nil]
    | cons x re ih =>
      intro dn z hrs
      have hkl : dn.length < t.rs.length := by rw [hrs]; simp
      have q47 := r2.get (d := d + 2) hkl
      have ex : t.rs.getD dn.length 0 = x := by rw [hrs]; simp
      rw [ex] at q47
      have hx : x ∈ t.rs := by rw [hrs]; simp
      have iv := hr x hx
      have c17 : cin (gcs A (aO x)) [17] = true := by rw [gcs_d iv.c]; rfl
      have x94 : gf A (aO x) 94 = some (.int (S (280 + 7 * x + 4))) := iv.fs 5 (by decide)
      have ih := ih (dn ++ [x]) (minI z (S (280 + 7 * x + 4))) (by rw [hrs]; simp)
      have hlen : (dn ++ [x]).length = dn.length + 1 := by simp
      rw [hlen] at ih
      rw [List.foldl_cons, ← ih]
      refine x_275_5.trans ?_
      simp (disch := first | omega | (simp (disch := omega) only [nx_setf, nx_seta, nx_newo, nx_newa]; omega)) only [x_275_6, x_275_7, x_275_10, x_275_13, x_275_16, x_275_19, x_275_20, x_275_21, x_275_24, x_275_27, x_275_28, x_275_31n, x_275_31r, x_275_34, x_275_37, x_275_40, x_275_41, x_275_44, kv_s, ki_s, kj_s, kd_s, kq_s, kq_n, kq_o, ka_s, kc_r, kc_t, kc0_r, kc0_t, kch_r, kc0h_r, kw_s, kw0_s, kwh_s, kw0h_s, rg_ref, rg_null, rg_rf, ck_t, sel_some, lkn_hd, Option.isSome_some, Bool.true_and, Bool.and_true, okv_i, okv_l, okv_r, okv_n, okv_rf, okv_b, okv_0, okv_1, okv_f, okv_d, c1_i, c1_r, c1_n, c1_rf, c1_f, nI_add, n_mul, n_sub, n_pred, n_eq, n_le, n_lt, n_neN, n_Nne, N_lt, N_le, n_ltN, n_leN, rdI_n, rdJ_n, rdD_n, wrI_n, wrI_z0, wrI_z1, wrI_zb, wrJ_n, wrD_n, aln_s, okn_n, upd_is, upd_ne, Nat.add_zero, Nat.add_sub_cancel, decide_true, decide_false, cond_true, cond_false, if_true, if_false, ite_not, not_true_eq_false, not_false_eq_true, Nat.reduceEqDiff, Nat.reduceAdd, Nat.reduceMul, Nat.reduceSub, Nat.reduceLeDiff, ft, r1, lc, q42, nle hkl, q47, c17, ckT, x94, m_7]
  have k0 := key t.rs [] (nI 101) rfl
  have l0 : ([] : List Nat).length = 0 := rfl
  rw [l0, h.ls] at k0
  have lsz : imgN S t.rs ≤ t.rs.length := List.countP_le_length
  unfold rf0
  rw [h.r17, h.r10]
  simp (disch := first | omega | (simp (disch := omega) only [nx_setf, nx_seta, nx_newo, nx_newa]; omega)) only [e_275, x_275_0, x_275_2, x_275_3, x_275_4, kv_s, ki_s, kj_s, kd_s, kq_s, kq_n, kq_o, ka_s, kc_r, kc_t, kc0_r, kc0_t, kch_r, kc0h_r, kw_s, kw0_s, kwh_s, kw0h_s, rg_ref, rg_null, rg_rf, ck_t, sel_some, lkn_hd, Option.isSome_some, Bool.true_and, Bool.and_true, okv_i, okv_l, okv_r, okv_n, okv_rf, okv_b, okv_0, okv_1, okv_f, okv_d, c1_i, c1_r, c1_n, c1_rf, c1_f, nI_add, n_mul, n_sub, n_pred, n_eq, n_le, n_lt, n_neN, n_Nne, N_lt, N_le, n_ltN, n_leN, rdI_n, rdJ_n, rdD_n, wrI_n, wrI_z0, wrI_z1, wrI_zb, wrJ_n, wrD_n, aln_s, okn_n, upd_is, upd_ne, Nat.add_zero, Nat.add_sub_cancel, decide_true, decide_false, cond_true, cond_false, if_true, if_false, ite_not, not_true_eq_false, not_false_eq_true, Nat.reduceEqDiff, Nat.reduceAdd, Nat.reduceMul, Nat.reduceSub, Nat.reduceLeDiff]
  refine k0.trans ?_
  by_cases e1 : imgN S t.rs = t.rs.length
  · by_cases e2 : lsu S (nI i) R < S 5
    · have e2' : (S 5 ≤ lsu S (nI i) R) = False := eq_false (Int32.not_le.mpr e2)
      rw [if_pos ⟨by rw [e1], e2⟩]
      have e1' := eq_true e1
      simp (disch := first | omega | (simp (disch := omega) only [nx_setf, nx_seta, nx_newo, nx_newa]; omega)) only [x_275_47, x_275_48, x_275_51, x_275_52, x_275_55, x_275_58, x_275_61, x_275_64, x_275_65, x_275_66, x_275_69, x_275_70, x_275_71, x_275_74, x_275_75, x_275_78, x_275_79, x_275_80, x_275_81, x_275_84, x_275_85, x_275_88, x_275_91, x_275_92, kv_s, ki_s, kj_s, kd_s, kq_s, kq_n, kq_o, ka_s, kc_r, kc_t, kc0_r, kc0_t, kch_r, kc0h_r, kw_s, kw0_s, kwh_s, kw0h_s, rg_ref, rg_null, rg_rf, ck_t, sel_some, lkn_hd, Option.isSome_some, Bool.true_and, Bool.and_true, okv_i, okv_l, okv_r, okv_n, okv_rf, okv_b, okv_0, okv_1, okv_f, okv_d, c1_i, c1_r, c1_n, c1_rf, c1_f, nI_add, n_mul, n_sub, n_pred, n_eq, n_le, n_lt, n_neN, n_Nne, N_lt, N_le, n_ltN, n_leN, rdI_n, rdJ_n, rdD_n, wrI_n, wrI_z0, wrI_z1, wrI_zb, wrJ_n, wrD_n, aln_s, okn_n, upd_is, upd_ne, Nat.add_zero, Nat.add_sub_cancel, decide_true, decide_false, cond_true, cond_false, if_true, if_false, ite_not, not_true_eq_false, not_false_eq_true, Nat.reduceEqDiff, Nat.reduceAdd, Nat.reduceMul, Nat.reduceSub, Nat.reduceLeDiff, cy, q251, ft, r1, lc, q42, e1', f7, s5, s5', e2', y135]
    · have e2' : (S 5 ≤ lsu S (nI i) R) = True := eq_true (Int32.not_lt.mp e2)
      rw [if_neg (fun z => e2 z.2)]
      have e1' := eq_true e1
      simp (disch := first | omega | (simp (disch := omega) only [nx_setf, nx_seta, nx_newo, nx_newa]; omega)) only [x_275_47, x_275_48, x_275_51, x_275_52, x_275_55, x_275_58, x_275_61, x_275_64, x_275_65, x_275_66, x_275_69, x_275_70, x_275_71, x_275_74, x_275_75, x_275_78, x_275_79, x_275_80, x_275_81, x_275_84, x_275_85, x_275_88, x_275_91, x_275_92, kv_s, ki_s, kj_s, kd_s, kq_s, kq_n, kq_o, ka_s, kc_r, kc_t, kc0_r, kc0_t, kch_r, kc0h_r, kw_s, kw0_s, kwh_s, kw0h_s, rg_ref, rg_null, rg_rf, ck_t, sel_some, lkn_hd, Option.isSome_some, Bool.true_and, Bool.and_true, okv_i, okv_l, okv_r, okv_n, okv_rf, okv_b, okv_0, okv_1, okv_f, okv_d, c1_i, c1_r, c1_n, c1_rf, c1_f, nI_add, n_mul, n_sub, n_pred, n_eq, n_le, n_lt, n_neN, n_Nne, N_lt, N_le, n_ltN, n_leN, rdI_n, rdJ_n, rdD_n, wrI_n, wrI_z0, wrI_z1, wrI_zb, wrJ_n, wrD_n, aln_s, okn_n, upd_is, upd_ne, Nat.add_zero, Nat.add_sub_cancel, decide_true, decide_false, cond_true, cond_false, if_true, if_false, ite_not, not_true_eq_false, not_false_eq_true, Nat.reduceEqDiff, Nat.reduceAdd, Nat.reduceMul, Nat.reduceSub, Nat.reduceLeDiff, cy, q251, ft, r1, lc, q42, e1', f7, s5, s5', e2']
  · rw [if_neg (fun z => e1 z.1)]
    have e1' := eq_false e1
    simp (disch := first | omega | (simp (disch := omega) only [nx_setf, nx_seta, nx_newo, nx_newa]; omega)) only [x_275_47, x_275_48, x_275_51, x_275_52, x_275_55, x_275_58, x_275_61, x_275_64, x_275_65, x_275_66, x_275_69, x_275_70, x_275_71, x_275_74, x_275_75, x_275_78, x_275_79, x_275_80, x_275_81, x_275_84, x_275_85, x_275_88, x_275_91, x_275_92, kv_s, ki_s, kj_s, kd_s, kq_s, kq_n, kq_o, ka_s, kc_r, kc_t, kc0_r, kc0_t, kch_r, kc0h_r, kw_s, kw0_s, kwh_s, kw0h_s, rg_ref, rg_null, rg_rf, ck_t, sel_some, lkn_hd, Option.isSome_some, Bool.true_and, Bool.and_true, okv_i, okv_l, okv_r, okv_n, okv_rf, okv_b, okv_0, okv_1, okv_f, okv_d, c1_i, c1_r, c1_n, c1_rf, c1_f, nI_add, n_mul, n_sub, n_pred, n_eq, n_le, n_lt, n_neN, n_Nne, N_lt, N_le, n_ltN, n_leN, rdI_n, rdJ_n, rdD_n, wrI_n, wrI_z0, wrI_z1, wrI_zb, wrJ_n, wrD_n, aln_s, okn_n, upd_is, upd_ne, Nat.add_zero, Nat.add_sub_cancel, decide_true, decide_false, cond_true, cond_false, if_true, if_false, ite_not, not_true_eq_false, not_false_eq_true, Nat.reduceEqDiff, Nat.reduceAdd, Nat.reduceMul, Nat.reduceSub, Nat.reduceLeDiff, cy, q251, ft, r1, lc, q42, e1']
theorem m_277 (o : WO A w b p q s a v r bl mk w0) (hy : BlO A w y l (blF S i) T) (ht : TpO A w T 0 0 aO sz t) (hr : ∀ j, j ∈ t.rs → IV A (aO j) 17 89 8 (rdFn S j)) (hk : ∀ j, j ∈ t.rs → S (280 + 7 * j + 3) = nI 0 ∨ S (280 + 7 * j + 3) = nI 1) (h : BlR S R i t) : evG TB (d + 6) 277 [.ref p, .ref y] A = some (.inl (some (.int (rf2 S i))), A) := by
  have lr := h.lr
  obtain ⟨rl, r1, r2⟩ := ht.rl
  have lc := r2.kc
  have q42 := r2.size (d := d + 4)
  have ft := hy.ft
  have cy := hy.c
  have q251 := m_251 (d := d) hy ht (by omega) hr hk
  have y138 : gf A y 138 = some (.int (S (1120 + 18 * i + 5))) := hy.gs 5 (by decide) (by decide)
  have lsz : imgN S t.rs ≤ t.rs.length := List.countP_le_length
  unfold rf2
  rw [h.r17, h.r10]
  by_cases e0 : imgN S t.rs = 0
  · rw [e0, if_neg (fun z => absurd z.1 (by decide))]
    rw [e0] at q251
    simp (disch := first | omega | (simp (disch := omega) only [nx_setf, nx_seta, nx_newo, nx_newa]; omega)) only [e_277, x_277_0, x_277_1, x_277_4, x_277_5, x_277_6, x_277_9, x_277_10, x_277_11, x_277_14, x_277_17, x_277_20, x_277_23, x_277_24, x_277_27, x_277_30, x_277_31, kv_s, ki_s, kj_s, kd_s, kq_s, kq_n, kq_o, ka_s, kc_r, kc_t, kc0_r, kc0_t, kch_r, kc0h_r, kw_s, kw0_s, kwh_s, kw0h_s, rg_ref, rg_null, rg_rf, ck_t, sel_some, lkn_hd, Option.isSome_some, Bool.true_and, Bool.and_true, okv_i, okv_l, okv_r, okv_n, okv_rf, okv_b, okv_0, okv_1, okv_f, okv_d, c1_i, c1_r, c1_n, c1_rf, c1_f, nI_add, n_mul, n_sub, n_pred, n_eq, n_le, n_lt, n_neN, n_Nne, N_lt, N_le, n_ltN, n_leN, rdI_n, rdJ_n, rdD_n, wrI_n, wrI_z0, wrI_z1, wrI_zb, wrJ_n, wrD_n, aln_s, okn_n, upd_is, upd_ne, Nat.add_zero, Nat.add_sub_cancel, decide_true, decide_false, cond_true, cond_false, if_true, if_false, ite_not, not_true_eq_false, not_false_eq_true, Nat.reduceEqDiff, Nat.reduceAdd, Nat.reduceMul, Nat.reduceSub, Nat.reduceLeDiff, cy, q251, Nat.le_refl]
  · have e0' : (imgN S t.rs ≤ 0) = False := eq_false (by omega)
    by_cases e1 : imgN S t.rs = t.rs.length
    · rw [if_neg (fun z => z.2 (by rw [e1]))]
      have e1' : (t.rs.length ≤ imgN S t.rs) = True := eq_true (by omega)
      simp (disch := first | omega | (simp (disch := omega) only [nx_setf, nx_seta, nx_newo, nx_newa]; omega)) only [e_277, x_277_0, x_277_1, x_277_4, x_277_5, x_277_6, x_277_9, x_277_10, x_277_11, x_277_14, x_277_17, x_277_20, x_277_23, x_277_24, x_277_27, x_277_30, x_277_31, kv_s, ki_s, kj_s, kd_s, kq_s, kq_n, kq_o, ka_s, kc_r, kc_t, kc0_r, kc0_t, kch_r, kc0h_r, kw_s, kw0_s, kwh_s, kw0h_s, rg_ref, rg_null, rg_rf, ck_t, sel_some, lkn_hd, Option.isSome_some, Bool.true_and, Bool.and_true, okv_i, okv_l, okv_r, okv_n, okv_rf, okv_b, okv_0, okv_1, okv_f, okv_d, c1_i, c1_r, c1_n, c1_rf, c1_f, nI_add, n_mul, n_sub, n_pred, n_eq, n_le, n_lt, n_neN, n_Nne, N_lt, N_le, n_ltN, n_leN, rdI_n, rdJ_n, rdD_n, wrI_n, wrI_z0, wrI_z1, wrI_zb, wrJ_n, wrD_n, aln_s, okn_n, upd_is, upd_ne, Nat.add_zero, Nat.add_sub_cancel, decide_true, decide_false, cond_true, cond_false, if_true, if_false, ite_not, not_true_eq_false, not_false_eq_true, Nat.reduceEqDiff, Nat.reduceAdd, Nat.reduceMul, Nat.reduceSub, Nat.reduceLeDiff, cy, q251, e0', ft, r1, lc, q42, e1']
    · rw [if_pos ⟨(nI_ltI (by omega) (by omega)).mpr (by omega), fun z => e1 ((nI_eq (by omega) (by omega)).mp z)⟩]
      have e1' : (t.rs.length ≤ imgN S t.rs) = False := eq_false (by omega)
      simp (disch := first | omega | (simp (disch := omega) only [nx_setf, nx_seta, nx_newo, nx_newa]; omega)) only [e_277, x_277_0, x_277_1, x_277_4, x_277_5, x_277_6, x_277_9, x_277_10, x_277_11, x_277_14, x_277_17, x_277_20, x_277_23, x_277_24, x_277_27, x_277_30, x_277_31, kv_s, ki_s, kj_s, kd_s, kq_s, kq_n, kq_o, ka_s, kc_r, kc_t, kc0_r, kc0_t, kch_r, kc0h_r, kw_s, kw0_s, kwh_s, kw0h_s, rg_ref, rg_null, rg_rf, ck_t, sel_some, lkn_hd, Option.isSome_some, Bool.true_and, Bool.and_true, okv_i, okv_l, okv_r, okv_n, okv_rf, okv_b, okv_0, okv_1, okv_f, okv_d, c1_i, c1_r, c1_n, c1_rf, c1_f, nI_add, n_mul, n_sub, n_pred, n_eq, n_le, n_lt, n_neN, n_Nne, N_lt, N_le, n_ltN, n_leN, rdI_n, rdJ_n, rdD_n, wrI_n, wrI_z0, wrI_z1, wrI_zb, wrJ_n, wrD_n, aln_s, okn_n, upd_is, upd_ne, Nat.add_zero, Nat.add_sub_cancel, decide_true, decide_false, cond_true, cond_false, if_true, if_false, ite_not, not_true_eq_false, not_false_eq_true, Nat.reduceEqDiff, Nat.reduceAdd, Nat.reduceMul, Nat.reduceSub, Nat.reduceLeDiff, cy, q251, e0', ft, r1, lc, q42, e1', y138]
theorem nN_mul : ∀ z : Nat, 1 ≤ z → z ≤ 4 → nN * nI z < nI 0
  | 1, _, _ => by decide
  | 2, _, _ => by decide
  | 3, _, _ => by decide
  | 4, _, _ => by decide
  | 0, h, _ => absurd h (by decide)
  | n + 5, _, h => absurd h (by omega)
theorem m_276 (hb : 0 < b) (o : WO A w b p q s a v r bl mk w0) (nt : WNt A w b q S) (si : SI S G D C V R Bn P) (hy : BlO A w y l (blF S i) T) (ht : TpO A w T 0 0 aO (S (1120 + 18 * i + 13)) t) (h : BlR S R i t) (hl : l ≠ 7) : ∃ A' w' : _, evG TB (d + 14) 276 [.ref p, .ref y] A = some (.inl (some (.int (rfR S i (blS S G D (bA S i) (bZ S i))))), A') ∧ (∀ X, X 7 → Fr A w A' w' X 3 20) ∧ ((nI 0 < S (1120 + 18 * i + 9) ∧ ¬ blS S G D (bA S i) (bZ S i) = nN ∧ blS S G D (bA S i) (bZ S i) * S (1120 + 18 * i + 13) < S (1120 + 18 * i + 3)) → ∃ c, blS S G D (bA S i) (bZ S i) = nI c ∧ c ≤ 5994) := by
  obtain ⟨k8, k9, k10, k11, k12, k13, kP, k14⟩ := si.k12
  have G12 := si.net.G12
  obtain ⟨a1, a2, a3, a4, a5⟩ := h.pa (by omega) (by omega)
  have lp := h.lp
  obtain ⟨g, g1, g2⟩ := ht.gl
  have lc := g2.kc
  have q42 := g2.size (d := d + 12)
  obtain ⟨z0, q0, i0, wz0⟩ := g2.get (k := 0) (by omega)
  obtain ⟨z1, q1, i1, wz1⟩ := g2.get (k := t.ps.length - 1) (by omega)
  rw [← a3] at i0
  rw [← a4] at i1
  have aG := (a5 0 (by omega)).2.2.2
  have zG := (a5 (t.ps.length - 1) (by omega)).2.2.2
  rw [← a3, k8] at aG
  rw [← a4, k8] at zG
  have q210 := m_21 (d := d + 12) i0
  have q211 := m_21 (d := d + 12) i1
  have k210 := i0.k1.2
  have k211 := i1.k1.2
  have hN : NetOK S G (cS S 9) := by rw [k9]; exact si.net
  obtain ⟨A1, w1, e1, f1⟩ := m_261 (d := d) (el := nI 0) hb hN si.c8 nt o aG zG
  rw [k9] at e1
  have e1 : evG TB (d + 13) 261 [.ref p, .int (nI (bA S i)), .int (nI (bZ S i))] A = some (.inl (some (.int (blS S G D (bA S i) (bZ S i)))), A1) := e1
  have fF := f1 (fun l => l = 7) rfl
  have ht1 := ht.fr fF (by decide) (by decide) (by decide) (by decide)
  have hy1 := hy.fr fF hl
  have y140 := hy.ft
  have y140' := hy1.ft
  have y135 : gf A1 y 135 = some (.int (S (1120 + 18 * i + 2))) := hy1.gs 2 (by decide) (by decide)
  have y136 : gf A1 y 136 = some (.int (S (1120 + 18 * i + 3))) := hy1.gs 3 (by decide) (by decide)
  have t126 := ht1.f126
  have t130 := ht1.f130
  have cy := hy1.c
  have cp := o.c
  have q252 := m_252 (d := d + 12) (z := blS S G D (bA S i) (bZ S i) * S (1120 + 18 * i + 13)) hy1
  have nw : blS S G D (bA S i) (bZ S i) * S (1120 + 18 * i + 13) - blS S G D (bA S i) (bZ S i) * S (1120 + 18 * i + 13) * blF S i 4 / nI 100 + blF S i 5 + blF S i 6 = nwA S i (blS S G D (bA S i) (bZ S i) * S (1120 + 18 * i + 13)) := rfl
  rw [nw] at q252
  obtain ⟨zz, ⟨s1, s2⟩, s3⟩ := h.sz
  obtain ⟨sl, sl1, sl2⟩ := si.st 2 (by decide)
  have bo := best_ok (to := bZ S i) (fr := nI (bA S i)) (e := 0) si.net (by decide) sl2 sl1 ac0
  have lsC : blS S G D (bA S i) (bZ S i) = nN ∨ ∃ c, blS S G D (bA S i) (bZ S i) = nI c ∧ c ≤ 5994 := by
    unfold blS ltV
    by_cases z : bA S i = bZ S i
    · rw [if_pos z]; exact Or.inr ⟨0, rfl, by decide⟩
    · rw [if_neg z]
      rcases bo.2.1 with z2 | ⟨c, c1, c2⟩
      · rw [if_pos z2]; exact Or.inl rfl
      · rw [if_neg (by rw [c1]; exact far_ne (by omega))]; exact Or.inr ⟨c, c1, c2⟩
  have ml : misN t.ps ≤ t.ps.length := List.countP_le_length
  have hps : t.ps.length ≤ 720 := by omega
  refine ⟨A1, w1, ?_, f1, fun hc => lsC.resolve_left hc.2.1⟩
  have entry : evG TB (d + 14) 276 [.ref p, .ref y] A = exG TB (d + 13) 276 51 [some (.ref p), some (.ref y), some (.ref T), some (.int (blS S G D (bA S i) (bZ S i) * S (1120 + 18 * i + 13))), none] [] A1 := by
    simp (disch := first | omega | (simp (disch := omega) only [nx_setf, nx_seta, nx_newo, nx_newa]; omega)) only [e_276, x_276_0, x_276_1, x_276_4, x_276_5, x_276_6, x_276_7, x_276_10, x_276_11, x_276_14n, x_276_14r, x_276_17, x_276_20, x_276_21, x_276_24, x_276_25, x_276_28, x_276_31, x_276_32, x_276_33, x_276_36n, x_276_36r, x_276_39, x_276_42, x_276_45, x_276_46, x_276_49, x_276_50, kv_s, ki_s, kj_s, kd_s, kq_s, kq_n, kq_o, ka_s, kc_r, kc_t, kc0_r, kc0_t, kch_r, kc0h_r, kw_s, kw0_s, kwh_s, kw0h_s, rg_ref, rg_null, rg_rf, ck_t, sel_some, lkn_hd, Option.isSome_some, Bool.true_and, Bool.and_true, okv_i, okv_l, okv_r, okv_n, okv_rf, okv_b, okv_0, okv_1, okv_f, okv_d, c1_i, c1_r, c1_n, c1_rf, c1_f, nI_add, n_mul, n_sub, n_pred, n_eq, n_le, n_lt, n_neN, n_Nne, N_lt, N_le, n_ltN, n_leN, rdI_n, rdJ_n, rdD_n, wrI_n, wrI_z0, wrI_z1, wrI_zb, wrJ_n, wrD_n, aln_s, okn_n, upd_is, upd_ne, Nat.add_zero, Nat.add_sub_cancel, decide_true, decide_false, cond_true, cond_false, if_true, if_false, ite_not, not_true_eq_false, not_false_eq_true, Nat.reduceEqDiff, Nat.reduceAdd, Nat.reduceMul, Nat.reduceSub, Nat.reduceLeDiff, y140, g1, lc, q42, q0, q1, cin_21, ckT, k210, k211, q210, q211, cp, e1, t126]
  rw [entry]
  unfold rfR
  rw [h.r9]
  by_cases c1 : misN t.ps = 0
  · rw [c1, if_neg (fun z => absurd z.1 (by decide))]
    rw [c1] at t130
    simp (disch := first | omega | (simp (disch := omega) only [nx_setf, nx_seta, nx_newo, nx_newa]; omega)) only [x_276_51, x_276_52, x_276_55, x_276_58, x_276_59, x_276_62, x_276_63, x_276_64, x_276_67, x_276_70, x_276_71, x_276_74, x_276_75, x_276_77, x_276_79, x_276_82, x_276_83, x_276_86, x_276_87, x_276_88, x_276_91, x_276_92, x_276_95, x_276_96, kv_s, ki_s, kj_s, kd_s, kq_s, kq_n, kq_o, ka_s, kc_r, kc_t, kc0_r, kc0_t, kch_r, kc0h_r, kw_s, kw0_s, kwh_s, kw0h_s, rg_ref, rg_null, rg_rf, ck_t, sel_some, lkn_hd, Option.isSome_some, Bool.true_and, Bool.and_true, okv_i, okv_l, okv_r, okv_n, okv_rf, okv_b, okv_0, okv_1, okv_f, okv_d, c1_i, c1_r, c1_n, c1_rf, c1_f, nI_add, n_mul, n_sub, n_pred, n_eq, n_le, n_lt, n_neN, n_Nne, N_lt, N_le, n_ltN, n_leN, rdI_n, rdJ_n, rdD_n, wrI_n, wrI_z0, wrI_z1, wrI_zb, wrJ_n, wrD_n, aln_s, okn_n, upd_is, upd_ne, Nat.add_zero, Nat.add_sub_cancel, decide_true, decide_false, cond_true, cond_false, if_true, if_false, ite_not, not_true_eq_false, not_false_eq_true, Nat.reduceEqDiff, Nat.reduceAdd, Nat.reduceMul, Nat.reduceSub, Nat.reduceLeDiff, t130, Nat.le_refl]
  · have c1' : (misN t.ps ≤ 0) = False := eq_false (by omega)
    have c1p : nI 0 < nI (misN t.ps) := (nI_ltI (by omega) (by omega)).mpr (by omega)
    rcases lsC with hl2 | ⟨c, hl2, hc⟩
    · rw [hl2, if_neg (fun z => z.2.1 rfl)]
      have hlt : (nN * S (1120 + 18 * i + 13) < nI 0) = True := by rw [s3]; exact eq_true (nN_mul zz s1 s2)
      simp (disch := first | omega | (simp (disch := omega) only [nx_setf, nx_seta, nx_newo, nx_newa]; omega)) only [x_276_51, x_276_52, x_276_55, x_276_58, x_276_59, x_276_62, x_276_63, x_276_64, x_276_67, x_276_70, x_276_71, x_276_74, x_276_75, x_276_77, x_276_79, x_276_82, x_276_83, x_276_86, x_276_87, x_276_88, x_276_91, x_276_92, x_276_95, x_276_96, kv_s, ki_s, kj_s, kd_s, kq_s, kq_n, kq_o, ka_s, kc_r, kc_t, kc0_r, kc0_t, kch_r, kc0h_r, kw_s, kw0_s, kwh_s, kw0h_s, rg_ref, rg_null, rg_rf, ck_t, sel_some, lkn_hd, Option.isSome_some, Bool.true_and, Bool.and_true, okv_i, okv_l, okv_r, okv_n, okv_rf, okv_b, okv_0, okv_1, okv_f, okv_d, c1_i, c1_r, c1_n, c1_rf, c1_f, nI_add, n_mul, n_sub, n_pred, n_eq, n_le, n_lt, n_neN, n_Nne, N_lt, N_le, n_ltN, n_leN, rdI_n, rdJ_n, rdD_n, wrI_n, wrI_z0, wrI_z1, wrI_zb, wrJ_n, wrD_n, aln_s, okn_n, upd_is, upd_ne, Nat.add_zero, Nat.add_sub_cancel, decide_true, decide_false, cond_true, cond_false, if_true, if_false, ite_not, not_true_eq_false, not_false_eq_true, Nat.reduceEqDiff, Nat.reduceAdd, Nat.reduceMul, Nat.reduceSub, Nat.reduceLeDiff, t130, c1', hlt]
    · have hcz : c * zz ≤ 23976 := by
        have := Nat.mul_le_mul hc s2
        omega
      have hnn : (blS S G D (bA S i) (bZ S i) * S (1120 + 18 * i + 13) < nI 0) = False := by
        rw [hl2, s3, n_mul]
        exact eq_false (nI_pos (by omega))
      have hne : ¬ blS S G D (bA S i) (bZ S i) = nN := by rw [hl2]; exact of_eq_false (n_neN (by omega))
      by_cases c3 : blS S G D (bA S i) (bZ S i) * S (1120 + 18 * i + 13) < S (1120 + 18 * i + 3)
      · have c3' : (S (1120 + 18 * i + 3) ≤ blS S G D (bA S i) (bZ S i) * S (1120 + 18 * i + 13)) = False := eq_false (Int32.not_le.mpr c3)
        rw [if_pos ⟨c1p, hne, c3⟩]
        simp (disch := first | omega | (simp (disch := omega) only [nx_setf, nx_seta, nx_newo, nx_newa]; omega)) only [x_276_51, x_276_52, x_276_55, x_276_58, x_276_59, x_276_62, x_276_63, x_276_64, x_276_67, x_276_70, x_276_71, x_276_74, x_276_75, x_276_77, x_276_79, x_276_82, x_276_83, x_276_86, x_276_87, x_276_88, x_276_91, x_276_92, x_276_95, x_276_96, kv_s, ki_s, kj_s, kd_s, kq_s, kq_n, kq_o, ka_s, kc_r, kc_t, kc0_r, kc0_t, kch_r, kc0h_r, kw_s, kw0_s, kwh_s, kw0h_s, rg_ref, rg_null, rg_rf, ck_t, sel_some, lkn_hd, Option.isSome_some, Bool.true_and, Bool.and_true, okv_i, okv_l, okv_r, okv_n, okv_rf, okv_b, okv_0, okv_1, okv_f, okv_d, c1_i, c1_r, c1_n, c1_rf, c1_f, nI_add, n_mul, n_sub, n_pred, n_eq, n_le, n_lt, n_neN, n_Nne, N_lt, N_le, n_ltN, n_leN, rdI_n, rdJ_n, rdD_n, wrI_n, wrI_z0, wrI_z1, wrI_zb, wrJ_n, wrD_n, aln_s, okn_n, upd_is, upd_ne, Nat.add_zero, Nat.add_sub_cancel, decide_true, decide_false, cond_true, cond_false, if_true, if_false, ite_not, not_true_eq_false, not_false_eq_true, Nat.reduceEqDiff, Nat.reduceAdd, Nat.reduceMul, Nat.reduceSub, Nat.reduceLeDiff, t130, c1', hnn, y136, c3', y135, cy, q252]
      · have c3' : (S (1120 + 18 * i + 3) ≤ blS S G D (bA S i) (bZ S i) * S (1120 + 18 * i + 13)) = True := eq_true (Int32.not_lt.mp c3)
        rw [if_neg (fun z => c3 z.2.2)]
        simp (disch := first | omega | (simp (disch := omega) only [nx_setf, nx_seta, nx_newo, nx_newa]; omega)) only [x_276_51, x_276_52, x_276_55, x_276_58, x_276_59, x_276_62, x_276_63, x_276_64, x_276_67, x_276_70, x_276_71, x_276_74, x_276_75, x_276_77, x_276_79, x_276_82, x_276_83, x_276_86, x_276_87, x_276_88, x_276_91, x_276_92, x_276_95, x_276_96, kv_s, ki_s, kj_s, kd_s, kq_s, kq_n, kq_o, ka_s, kc_r, kc_t, kc0_r, kc0_t, kch_r, kc0h_r, kw_s, kw0_s, kwh_s, kw0h_s, rg_ref, rg_null, rg_rf, ck_t, sel_some, lkn_hd, Option.isSome_some, Bool.true_and, Bool.and_true, okv_i, okv_l, okv_r, okv_n, okv_rf, okv_b, okv_0, okv_1, okv_f, okv_d, c1_i, c1_r, c1_n, c1_rf, c1_f, nI_add, n_mul, n_sub, n_pred, n_eq, n_le, n_lt, n_neN, n_Nne, N_lt, N_le, n_ltN, n_leN, rdI_n, rdJ_n, rdD_n, wrI_n, wrI_z0, wrI_z1, wrI_zb, wrJ_n, wrD_n, aln_s, okn_n, upd_is, upd_ne, Nat.add_zero, Nat.add_sub_cancel, decide_true, decide_false, cond_true, cond_false, if_true, if_false, ite_not, not_true_eq_false, not_false_eq_true, Nat.reduceEqDiff, Nat.reduceAdd, Nat.reduceMul, Nat.reduceSub, Nat.reduceLeDiff, t130, c1', hnn, y136, c3']
/-- what would be refunded -/
theorem m_274 {n : Nat} (hb : 0 < b) (h : WP A w b p S q s a v r bl mk vO rO acO bO C V R Bn P) (si : SI S G D C V R Bn P) (hi : i < Bn) (hn : n < 3) : ∃ A' w' c, evG TB (d + 15) 274 [.ref p, .ref (bO i), .int (nI n)] A = some (.inl (some (.int (rfW S G D R i n))), A') ∧ (∀ X, X 7 → Fr A w A' w' X 3 20) ∧ c < 10000000 ∧ rfW S G D R i n = nI c := by
  have B60 := si.bB
  obtain ⟨T, t, aO, h1, h2, h3, h4⟩ := h.hB.o i hi
  have ivs : ∀ j, j ∈ t.rs → IV A (aO j) 17 89 8 (rdFn S j) := fun j hj => (h3 j hj).iv
  have ks : ∀ j, j ∈ t.rs → S (280 + 7 * j + 3) = nI 0 ∨ S (280 + 7 * j + 3) = nI 1 := fun j hj => (si.rs j (h4.rs j hj).1).k
  have cp := h.hO.c
  obtain ⟨A1, w1, e1, f1, hls⟩ := m_276 (d := d) hb h.hO h.hN si h1 h2 h4 (by omega)
  obtain ⟨c, c1, c2⟩ := rfW_nn (G := G) (D := D) (w := n) h4 hn (fun x hx hxe => by rw [hxe]; rw [hxe] at hx; exact hls hx)
  have n3 : n = 0 ∨ n = 1 ∨ n = 2 := by omega
  rcases n3 with z | z | z <;> subst z
  · have q := m_275 (d := d + 8) h.hO h.hS h1 h2 ivs ks h4
    have e : rfW S G D R i 0 = rf0 S R i := rfl
    refine ⟨A, w, c, ?_, fun X _ => Fr.rf.mono (fun _ h => h) (by decide) (by decide), c1, c2⟩
    rw [e]
    simp (disch := first | omega | (simp (disch := omega) only [nx_setf, nx_seta, nx_newo, nx_newa]; omega)) only [e_274, x_274_0, x_274_1, x_274_4, x_274_5, x_274_6, x_274_9, x_274_12, x_274_13, x_274_14, x_274_17, x_274_18, x_274_19, x_274_22, x_274_25, x_274_26, x_274_27, x_274_30, kv_s, ki_s, kj_s, kd_s, kq_s, kq_n, kq_o, ka_s, kc_r, kc_t, kc0_r, kc0_t, kch_r, kc0h_r, kw_s, kw0_s, kwh_s, kw0h_s, rg_ref, rg_null, rg_rf, ck_t, sel_some, lkn_hd, Option.isSome_some, Bool.true_and, Bool.and_true, okv_i, okv_l, okv_r, okv_n, okv_rf, okv_b, okv_0, okv_1, okv_f, okv_d, c1_i, c1_r, c1_n, c1_rf, c1_f, nI_add, n_mul, n_sub, n_pred, n_eq, n_le, n_lt, n_neN, n_Nne, N_lt, N_le, n_ltN, n_leN, rdI_n, rdJ_n, rdD_n, wrI_n, wrI_z0, wrI_z1, wrI_zb, wrJ_n, wrD_n, aln_s, okn_n, upd_is, upd_ne, Nat.add_zero, Nat.add_sub_cancel, decide_true, decide_false, cond_true, cond_false, if_true, if_false, ite_not, not_true_eq_false, not_false_eq_true, Nat.reduceEqDiff, Nat.reduceAdd, Nat.reduceMul, Nat.reduceSub, Nat.reduceLeDiff, cp, q]
  · have e : rfW S G D R i 1 = rfR S i (blS S G D (bA S i) (bZ S i)) := rfl
    refine ⟨A1, w1, c, ?_, f1, c1, c2⟩
    rw [e]
    simp (disch := first | omega | (simp (disch := omega) only [nx_setf, nx_seta, nx_newo, nx_newa]; omega)) only [e_274, x_274_0, x_274_1, x_274_4, x_274_5, x_274_6, x_274_9, x_274_12, x_274_13, x_274_14, x_274_17, x_274_18, x_274_19, x_274_22, x_274_25, x_274_26, x_274_27, x_274_30, kv_s, ki_s, kj_s, kd_s, kq_s, kq_n, kq_o, ka_s, kc_r, kc_t, kc0_r, kc0_t, kch_r, kc0h_r, kw_s, kw0_s, kwh_s, kw0h_s, rg_ref, rg_null, rg_rf, ck_t, sel_some, lkn_hd, Option.isSome_some, Bool.true_and, Bool.and_true, okv_i, okv_l, okv_r, okv_n, okv_rf, okv_b, okv_0, okv_1, okv_f, okv_d, c1_i, c1_r, c1_n, c1_rf, c1_f, nI_add, n_mul, n_sub, n_pred, n_eq, n_le, n_lt, n_neN, n_Nne, N_lt, N_le, n_ltN, n_leN, rdI_n, rdJ_n, rdD_n, wrI_n, wrI_z0, wrI_z1, wrI_zb, wrJ_n, wrD_n, aln_s, okn_n, upd_is, upd_ne, Nat.add_zero, Nat.add_sub_cancel, decide_true, decide_false, cond_true, cond_false, if_true, if_false, ite_not, not_true_eq_false, not_false_eq_true, Nat.reduceEqDiff, Nat.reduceAdd, Nat.reduceMul, Nat.reduceSub, Nat.reduceLeDiff, cp, e1]
  · have q := m_277 (d := d + 8) h.hO h1 h2 ivs ks h4
    have e : rfW S G D R i 2 = rf2 S i := rfl
    refine ⟨A, w, c, ?_, fun X _ => Fr.rf.mono (fun _ h => h) (by decide) (by decide), c1, c2⟩
    rw [e]
    simp (disch := first | omega | (simp (disch := omega) only [nx_setf, nx_seta, nx_newo, nx_newa]; omega)) only [e_274, x_274_0, x_274_1, x_274_4, x_274_5, x_274_6, x_274_9, x_274_12, x_274_13, x_274_14, x_274_17, x_274_18, x_274_19, x_274_22, x_274_25, x_274_26, x_274_27, x_274_30, kv_s, ki_s, kj_s, kd_s, kq_s, kq_n, kq_o, ka_s, kc_r, kc_t, kc0_r, kc0_t, kch_r, kc0h_r, kw_s, kw0_s, kwh_s, kw0h_s, rg_ref, rg_null, rg_rf, ck_t, sel_some, lkn_hd, Option.isSome_some, Bool.true_and, Bool.and_true, okv_i, okv_l, okv_r, okv_n, okv_rf, okv_b, okv_0, okv_1, okv_f, okv_d, c1_i, c1_r, c1_n, c1_rf, c1_f, nI_add, n_mul, n_sub, n_pred, n_eq, n_le, n_lt, n_neN, n_Nne, N_lt, N_le, n_ltN, n_leN, rdI_n, rdJ_n, rdD_n, wrI_n, wrI_z0, wrI_z1, wrI_zb, wrJ_n, wrD_n, aln_s, okn_n, upd_is, upd_ne, Nat.add_zero, Nat.add_sub_cancel, decide_true, decide_false, cond_true, cond_false, if_true, if_false, ite_not, not_true_eq_false, not_false_eq_true, Nat.reduceEqDiff, Nat.reduceAdd, Nat.reduceMul, Nat.reduceSub, Nat.reduceLeDiff, cp, q]
end
