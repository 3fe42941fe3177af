/-! ArrayList -/
abbrev rfA (e : Nat → Option Nat) (n : Nat) : ArC := (5, (n, .inr (.inr (.inr (.inr e)))))
theorem dv3_18 : dv3 18 = some (.int (nI 0)) := rfl
theorem dv3_19 : dv3 19 = some .null := rfl
theorem dv3_20 : dv3 20 = some (.int (nI 0)) := rfl
/-- a list at p, its array at a, n elements, m changes so far, the elements' addresses -/
abbrev ALs (A : Hp) (p a n m : Nat) (r : Nat → Nat) : Prop := (gc A p = some 3) ∧ (gf A p 18 = some (.int (nI m))) ∧ (gf A p 19 = some (.ref a)) ∧ (gf A p 20 = some (.int (nI n))) ∧ (∃ cap e, ga A a = some (rfA e cap) ∧ n ≤ cap ∧ cap ≤ 2 * n + 10 ∧ 0 < cap ∧ ∀ i, i < n → e i = some (r i) ∧ ∃ ci, ci < 35 ∧ Kd A (r i) ci) ∧ (n ≤ 10000 ∧ m ≤ 10000)
theorem ALs.c {A : Hp} {p a n m : Nat} {r : Nat → Nat} (h : ALs A p a n m r) : gc A p = some 3 := h.1
theorem ALs.fm {A : Hp} {p a n m : Nat} {r : Nat → Nat} (h : ALs A p a n m r) : gf A p 18 = some (.int (nI m)) := h.2.1
theorem ALs.fe {A : Hp} {p a n m : Nat} {r : Nat → Nat} (h : ALs A p a n m r) : gf A p 19 = some (.ref a) := h.2.2.1
theorem ALs.fs {A : Hp} {p a n m : Nat} {r : Nat → Nat} (h : ALs A p a n m r) : gf A p 20 = some (.int (nI n)) := h.2.2.2.1
theorem ALs.ar {A : Hp} {p a n m : Nat} {r : Nat → Nat} (h : ALs A p a n m r) : ∃ cap e, ga A a = some (rfA e cap) ∧ n ≤ cap ∧ cap ≤ 2 * n + 10 ∧ 0 < cap ∧ ∀ i, i < n → e i = some (r i) ∧ ∃ ci, ci < 35 ∧ Kd A (r i) ci := h.2.2.2.2.1
theorem ALs.nb {A : Hp} {p a n m : Nat} {r : Nat → Nat} (h : ALs A p a n m r) : n ≤ 10000 ∧ m ≤ 10000 := h.2.2.2.2.2
section
variable {A A' : Hp} {w w' : Lb} {X : Nat → Prop} {p a n m d k x c s : Nat} {r : Nat → Nat}
theorem ALs.fr (h : ALs A p a n m r) (f : Fr A w A' w' X c s) (hp : ¬ X (w p)) (ha : ¬ X (w a)) : ALs A' p a n m r := by
  obtain ⟨h1, h2, h3, h4, ⟨cap, e, h5, h6, h7, h7a, h8⟩, h9⟩ := h
  refine ⟨f.cc h1, f.fd hp h2, f.fd hp h3, f.fd hp h4, ⟨cap, e, f.ar ha h5, h6, h7, h7a, fun i hi => ?_⟩, h9⟩
  obtain ⟨e1, ci, e2, e3⟩ := h8 i hi
  exact ⟨e1, ci, e2, f.cs e3⟩
theorem m_42 (h : ALs A p a n m r) : evG TB (d + 1) 42 [.ref p] A = some (.inl (some (.int (nI n))), A) := by
  simp (disch := omega) only [e_42, x_42_0, x_42_1, x_42_4, kv_s, ki_s, kj_s, kd_s, kq_s, kq_n, kq_o, ka_s, kc_r, kc_t, kc0_r, kc0_t, kch_r, kc0h_r, kw_s, kw0_s, kwh_s, kw0h_s, rg_ref, rg_null, rg_rf, ck_t, sel_some, lkn_hd, Option.isSome_some, Bool.true_and, Bool.and_true, okv_i, okv_l, okv_r, okv_n, okv_rf, okv_b, okv_0, okv_1, okv_f, okv_d, c1_i, c1_r, c1_n, c1_rf, c1_f, nI_add, n_mul, n_sub, n_pred, n_eq, n_le, n_lt, n_neN, n_Nne, N_lt, N_le, n_ltN, n_leN, rdI_n, rdJ_n, rdD_n, wrI_n, wrI_z0, wrI_z1, wrI_zb, wrJ_n, wrD_n, aln_s, okn_n, upd_is, upd_ne, Nat.add_zero, Nat.add_sub_cancel, decide_true, decide_false, cond_true, cond_false, if_true, if_false, ite_not, not_true_eq_false, not_false_eq_true, Nat.reduceEqDiff, Nat.reduceAdd, Nat.reduceMul, Nat.reduceSub, Nat.reduceLeDiff, h.fs]
theorem m_41 (h : ALs A p a n m r) : evG TB (d + 1) 41 [.ref p] A = some (.inl (some (.int (bI (decide (n = 0))))), A) := by
  have := h.nb
  rcases pc (n = 0) with h1 | h1
  · simp (disch := omega) only [e_41, x_41_0, x_41_1, x_41_4, x_41_7, x_41_8, x_41_11, x_41_12, kv_s, ki_s, kj_s, kd_s, kq_s, kq_n, kq_o, ka_s, kc_r, kc_t, kc0_r, kc0_t, kch_r, kc0h_r, kw_s, kw0_s, kwh_s, kw0h_s, rg_ref, rg_null, rg_rf, ck_t, sel_some, lkn_hd, Option.isSome_some, Bool.true_and, Bool.and_true, okv_i, okv_l, okv_r, okv_n, okv_rf, okv_b, okv_0, okv_1, okv_f, okv_d, c1_i, c1_r, c1_n, c1_rf, c1_f, nI_add, n_mul, n_sub, n_pred, n_eq, n_le, n_lt, n_neN, n_Nne, N_lt, N_le, n_ltN, n_leN, rdI_n, rdJ_n, rdD_n, wrI_n, wrI_z0, wrI_z1, wrI_zb, wrJ_n, wrD_n, aln_s, okn_n, upd_is, upd_ne, Nat.add_zero, Nat.add_sub_cancel, decide_true, decide_false, cond_true, cond_false, if_true, if_false, ite_not, not_true_eq_false, not_false_eq_true, Nat.reduceEqDiff, Nat.reduceAdd, Nat.reduceMul, Nat.reduceSub, Nat.reduceLeDiff, h.fs, h1, bI_t]
  · simp (disch := omega) only [e_41, x_41_0, x_41_1, x_41_4, x_41_7, x_41_8, x_41_11, x_41_12, kv_s, ki_s, kj_s, kd_s, kq_s, kq_n, kq_o, ka_s, kc_r, kc_t, kc0_r, kc0_t, kch_r, kc0h_r, kw_s, kw0_s, kwh_s, kw0h_s, rg_ref, rg_null, rg_rf, ck_t, sel_some, lkn_hd, Option.isSome_some, Bool.true_and, Bool.and_true, okv_i, okv_l, okv_r, okv_n, okv_rf, okv_b, okv_0, okv_1, okv_f, okv_d, c1_i, c1_r, c1_n, c1_rf, c1_f, nI_add, n_mul, n_sub, n_pred, n_eq, n_le, n_lt, n_neN, n_Nne, N_lt, N_le, n_ltN, n_leN, rdI_n, rdJ_n, rdD_n, wrI_n, wrI_z0, wrI_z1, wrI_zb, wrJ_n, wrD_n, aln_s, okn_n, upd_is, upd_ne, Nat.add_zero, Nat.add_sub_cancel, decide_true, decide_false, cond_true, cond_false, if_true, if_false, ite_not, not_true_eq_false, not_false_eq_true, Nat.reduceEqDiff, Nat.reduceAdd, Nat.reduceMul, Nat.reduceSub, Nat.reduceLeDiff, h.fs, h1, bI_f]
theorem m_15 {k n : Nat} (hk : k < n) (hn : n < 2147483648) {v : Value} (hv : isR v = true) : evG TB (d + 1) 15 [.int (nI k), .int (nI n), v] A = some (.inl (some (.int (nI k))), A) := by
  have hr : ∀ x : Rv, rg v x = x := fun x => by unfold rg; rw [hv]; rfl
  simp (disch := omega) only [e_15, x_15_0, x_15_1, x_15_4, x_15_5, x_15_6, x_15_9, x_15_10, x_15_11, x_15_16, x_15_17, kv_s, ki_s, kj_s, kd_s, kq_s, kq_n, kq_o, ka_s, kc_r, kc_t, kc0_r, kc0_t, kch_r, kc0h_r, kw_s, kw0_s, kwh_s, kw0h_s, rg_ref, rg_null, rg_rf, ck_t, sel_some, lkn_hd, Option.isSome_some, Bool.true_and, Bool.and_true, okv_i, okv_l, okv_r, okv_n, okv_rf, okv_b, okv_0, okv_1, okv_f, okv_d, c1_i, c1_r, c1_n, c1_rf, c1_f, nI_add, n_mul, n_sub, n_pred, n_eq, n_le, n_lt, n_neN, n_Nne, N_lt, N_le, n_ltN, n_leN, rdI_n, rdJ_n, rdD_n, wrI_n, wrI_z0, wrI_z1, wrI_zb, wrJ_n, wrD_n, aln_s, okn_n, upd_is, upd_ne, Nat.add_zero, Nat.add_sub_cancel, decide_true, decide_false, cond_true, cond_false, if_true, if_false, ite_not, not_true_eq_false, not_false_eq_true, Nat.reduceEqDiff, Nat.reduceAdd, Nat.reduceMul, Nat.reduceSub, Nat.reduceLeDiff, hr, nlt (Nat.zero_le k), ylt hk]
theorem m_70 {k n : Nat} (hk : k < n) (hn : n < 2147483648) : evG TB (d + 2) 70 [.int (nI k), .int (nI n)] A = some (.inl (some (.int (nI k))), A) := by
  simp (disch := omega) only [e_70, x_70_0, x_70_1, x_70_2, x_70_3, x_70_6, kv_s, ki_s, kj_s, kd_s, kq_s, kq_n, kq_o, ka_s, kc_r, kc_t, kc0_r, kc0_t, kch_r, kc0h_r, kw_s, kw0_s, kwh_s, kw0h_s, rg_ref, rg_null, rg_rf, ck_t, sel_some, lkn_hd, Option.isSome_some, Bool.true_and, Bool.and_true, okv_i, okv_l, okv_r, okv_n, okv_rf, okv_b, okv_0, okv_1, okv_f, okv_d, c1_i, c1_r, c1_n, c1_rf, c1_f, nI_add, n_mul, n_sub, n_pred, n_eq, n_le, n_lt, n_neN, n_Nne, N_lt, N_le, n_ltN, n_leN, rdI_n, rdJ_n, rdD_n, wrI_n, wrI_z0, wrI_z1, wrI_zb, wrJ_n, wrD_n, aln_s, okn_n, upd_is, upd_ne, Nat.add_zero, Nat.add_sub_cancel, decide_true, decide_false, cond_true, cond_false, if_true, if_false, ite_not, not_true_eq_false, not_false_eq_true, Nat.reduceEqDiff, Nat.reduceAdd, Nat.reduceMul, Nat.reduceSub, Nat.reduceLeDiff, m_15 hk hn (show isR .null = true from rfl)]
theorem m_48 (h : ALs A p a n m r) (hk : k < n) : evG TB (d + 1) 48 [.ref p, .int (nI k)] A = some (.inl (some (.ref (r k))), A) := by
  have nb := h.nb
  obtain ⟨cap, e, h5, h6, h7, h7a, h8⟩ := h.ar
  have e1 := (h8 k hk).1
  have e2 : rdQ (some (rfA e cap)) (nI k) = some (some (r k)) := by rw [rdQ_n (by omega) (by omega) (by omega), e1]
  simp (disch := omega) only [e_48, x_48_0, x_48_1, x_48_4, x_48_5, x_48_6, kv_s, ki_s, kj_s, kd_s, kq_s, kq_n, kq_o, ka_s, kc_r, kc_t, kc0_r, kc0_t, kch_r, kc0h_r, kw_s, kw0_s, kwh_s, kw0h_s, rg_ref, rg_null, rg_rf, ck_t, sel_some, lkn_hd, Option.isSome_some, Bool.true_and, Bool.and_true, okv_i, okv_l, okv_r, okv_n, okv_rf, okv_b, okv_0, okv_1, okv_f, okv_d, c1_i, c1_r, c1_n, c1_rf, c1_f, nI_add, n_mul, n_sub, n_pred, n_eq, n_le, n_lt, n_neN, n_Nne, N_lt, N_le, n_ltN, n_leN, rdI_n, rdJ_n, rdD_n, wrI_n, wrI_z0, wrI_z1, wrI_zb, wrJ_n, wrD_n, aln_s, okn_n, upd_is, upd_ne, Nat.add_zero, Nat.add_sub_cancel, decide_true, decide_false, cond_true, cond_false, if_true, if_false, ite_not, not_true_eq_false, not_false_eq_true, Nat.reduceEqDiff, Nat.reduceAdd, Nat.reduceMul, Nat.reduceSub, Nat.reduceLeDiff, h.fe, h5, e2, va_rf_s]
theorem m_47 (h : ALs A p a n m r) (hk : k < n) : evG TB (d + 3) 47 [.ref p, .int (nI k)] A = some (.inl (some (.ref (r k))), A) := by
  have nb := h.nb
  simp (disch := omega) only [e_47, x_47_0, x_47_1, x_47_2, x_47_5, x_47_8, x_47_9, x_47_10, x_47_11, x_47_14, kv_s, ki_s, kj_s, kd_s, kq_s, kq_n, kq_o, ka_s, kc_r, kc_t, kc0_r, kc0_t, kch_r, kc0h_r, kw_s, kw0_s, kwh_s, kw0h_s, rg_ref, rg_null, rg_rf, ck_t, sel_some, lkn_hd, Option.isSome_some, Bool.true_and, Bool.and_true, okv_i, okv_l, okv_r, okv_n, okv_rf, okv_b, okv_0, okv_1, okv_f, okv_d, c1_i, c1_r, c1_n, c1_rf, c1_f, nI_add, n_mul, n_sub, n_pred, n_eq, n_le, n_lt, n_neN, n_Nne, N_lt, N_le, n_ltN, n_leN, rdI_n, rdJ_n, rdD_n, wrI_n, wrI_z0, wrI_z1, wrI_zb, wrJ_n, wrD_n, aln_s, okn_n, upd_is, upd_ne, Nat.add_zero, Nat.add_sub_cancel, decide_true, decide_false, cond_true, cond_false, if_true, if_false, ite_not, not_true_eq_false, not_false_eq_true, Nat.reduceEqDiff, Nat.reduceAdd, Nat.reduceMul, Nat.reduceSub, Nat.reduceLeDiff, h.fs, h.c, m_70 hk (by omega : n < 2147483648), m_48 h hk]
theorem m_39 (hp : gc A p = some 3) (h1 : gf A p 18 = some (.int (nI 0))) (h2 : gf A p 19 = some .null) (h3 : gf A p 20 = some (.int (nI 0))) {c : Nat} (hc : 0 < c) (hc2 : c ≤ 10) {l : Nat} (hl : w p = l) (hX : X l) :
    ∃ A', evG TB (d + 3) 39 [.ref p, .int (nI c)] A = some (.inl none, A') ∧ ALs A' p (nx A) 0 0 (fun _ => 0) ∧ Fr A w A' (upL w (nx A) l) X 1 c := by
  refine ⟨setf (newa (setf A p 18 (.int (nI 0))) (zar 5 c)) p 19 (.ref (nx A)), ?_, ?_, ?_⟩
  · have hp1 := gc_lt hp
    simp (disch := first | omega | (simp (disch := omega) only [nx_setf, nx_seta, nx_newo, nx_newa]; omega)) only [e_39, x_39_0, x_39_1, x_39_4, x_39_5, x_39_8, x_39_9, x_39_10, x_39_13, x_39_16, x_39_19, x_39_20, x_39_23, x_39_27, x_39_30, x_39_36, x_39_37, x_39_40, x_39_41, x_39_49, x_39_53, x_39_60, e_1, x_1_0, x_1_1, x_1_4, x_1_5, x_1_6, x_1_9, e_0, x_0_0, x_0_1, x_0_4, kv_s, ki_s, kj_s, kd_s, kq_s, kq_n, kq_o, ka_s, kc_r, kc_t, kc0_r, kc0_t, kch_r, kc0h_r, kw_s, kw0_s, kwh_s, kw0h_s, rg_ref, rg_null, rg_rf, ck_t, sel_some, lkn_hd, Option.isSome_some, Bool.true_and, Bool.and_true, okv_i, okv_l, okv_r, okv_n, okv_rf, okv_b, okv_0, okv_1, okv_f, okv_d, c1_i, c1_r, c1_n, c1_rf, c1_f, nI_add, n_mul, n_sub, n_pred, n_eq, n_le, n_lt, n_neN, n_Nne, N_lt, N_le, n_ltN, n_leN, rdI_n, rdJ_n, rdD_n, wrI_n, wrI_z0, wrI_z1, wrI_zb, wrJ_n, wrD_n, aln_s, okn_n, upd_is, upd_ne, Nat.add_zero, Nat.add_sub_cancel, decide_true, decide_false, cond_true, cond_false, if_true, if_false, ite_not, not_true_eq_false, not_false_eq_true, Nat.reduceEqDiff, Nat.reduceAdd, Nat.reduceMul, Nat.reduceSub, Nat.reduceLeDiff, gf_setf_ne, gf_setf_p, gf_setf_is, va_rf_s, va_rf_n, gf_seta, ga_setf, gc_setf, gc_seta, ga_seta_ne, ga_seta_eq, gf_new, gc_new, gf_newo_o, gc_newo_o, ga_newo_o, ga_new, gf_newa_o, gc_newa_o, ga_newa_o, nx_setf, nx_seta, nx_newo, nx_newa, su_setf, su_seta, su_newo, su_newa, sg_setf, sg_seta, sg_newo, sg_newa, okq_n, hp, h1, h2, h3, nle hc, n_cl]
  · have hp1 := gc_lt hp
    have e : nx A = nx (setf A p 18 (.int (nI 0))) := rfl
    refine ⟨?_, ?_, ?_, ?_, ⟨c, fun _ => none, ?_, Nat.zero_le _, by omega, hc, fun i hi => absurd hi (Nat.not_lt_zero _)⟩, ⟨Nat.zero_le _, Nat.zero_le _⟩⟩
    all_goals have hp1 := gc_lt hp
    · simp (disch := first | omega | (simp (disch := omega) only [nx_setf, nx_seta, nx_newo, nx_newa]; omega)) only [gf_setf_ne, gf_setf_p, gf_setf_is, va_rf_s, va_rf_n, gf_seta, ga_setf, gc_setf, gc_seta, ga_seta_ne, ga_seta_eq, gf_new, gc_new, gf_newo_o, gc_newo_o, ga_newo_o, ga_new, gf_newa_o, gc_newa_o, ga_newa_o, nx_setf, nx_seta, nx_newo, nx_newa, su_setf, su_seta, su_newo, su_newa, sg_setf, sg_seta, sg_newo, sg_newa, okq_n, hp]
    · simp (disch := first | omega | (simp (disch := omega) only [nx_setf, nx_seta, nx_newo, nx_newa]; omega)) only [gf_setf_ne, gf_setf_p, gf_setf_is, va_rf_s, va_rf_n, gf_seta, ga_setf, gc_setf, gc_seta, ga_seta_ne, ga_seta_eq, gf_new, gc_new, gf_newo_o, gc_newo_o, ga_newo_o, ga_new, gf_newa_o, gc_newa_o, ga_newa_o, nx_setf, nx_seta, nx_newo, nx_newa, su_setf, su_seta, su_newo, su_newa, sg_setf, sg_seta, sg_newo, sg_newa, okq_n]
    · simp (disch := first | omega | (simp (disch := omega) only [nx_setf, nx_seta, nx_newo, nx_newa]; omega)) only [gf_setf_ne, gf_setf_p, gf_setf_is, va_rf_s, va_rf_n, gf_seta, ga_setf, gc_setf, gc_seta, ga_seta_ne, ga_seta_eq, gf_new, gc_new, gf_newo_o, gc_newo_o, ga_newo_o, ga_new, gf_newa_o, gc_newa_o, ga_newa_o, nx_setf, nx_seta, nx_newo, nx_newa, su_setf, su_seta, su_newo, su_newa, sg_setf, sg_seta, sg_newo, sg_newa, okq_n]
    · simp (disch := first | omega | (simp (disch := omega) only [nx_setf, nx_seta, nx_newo, nx_newa]; omega)) only [gf_setf_ne, gf_setf_p, gf_setf_is, va_rf_s, va_rf_n, gf_seta, ga_setf, gc_setf, gc_seta, ga_seta_ne, ga_seta_eq, gf_new, gc_new, gf_newo_o, gc_newo_o, ga_newo_o, ga_new, gf_newa_o, gc_newa_o, ga_newa_o, nx_setf, nx_seta, nx_newo, nx_newa, su_setf, su_seta, su_newo, su_newa, sg_setf, sg_seta, sg_newo, sg_newa, okq_n, h3]
    · simp (disch := first | omega | (simp (disch := omega) only [nx_setf, nx_seta, nx_newo, nx_newa]; omega)) only [gf_setf_ne, gf_setf_p, gf_setf_is, va_rf_s, va_rf_n, gf_seta, ga_setf, gc_setf, gc_seta, ga_seta_ne, ga_seta_eq, gf_new, gc_new, gf_newo_o, gc_newo_o, ga_newo_o, ga_new, gf_newa_o, gc_newa_o, ga_newa_o, nx_setf, nx_seta, nx_newo, nx_newa, su_setf, su_seta, su_newo, su_newa, sg_setf, sg_seta, sg_newo, sg_newa, okq_n, zar_5]
  · have f1 : Fr A w (setf A p 18 (.int (nI 0))) w X 0 0 := Fr.stf (by rw [hl]; exact hX)
    have f2 : Fr (setf A p 18 (.int (nI 0))) w (newa (setf A p 18 (.int (nI 0))) (zar 5 c)) (upL w (nx A) l) X 1 c := Fr.nwa
    have hne : p ≠ nx A := Nat.ne_of_lt (gc_lt hp)
    have f3 : Fr (newa (setf A p 18 (.int (nI 0))) (zar 5 c)) (upL w (nx A) l) (setf (newa (setf A p 18 (.int (nI 0))) (zar 5 c)) p 19 (.ref (nx A))) (upL w (nx A) l) X 0 0 := Fr.stf (by rw [upL_ne hne, hl]; exact hX)
    exact ((f1.trans f2).trans f3).mono (fun _ h => h) (by omega) (by omega)
end
def updN (r : Nat → Nat) (n x : Nat) : Nat → Nat := fun i => if i = n then x else r i
theorem updN_is {r : Nat → Nat} {n x k : Nat} (h : k = n) : updN r n x k = x := if_pos h
theorem updN_ne {r : Nat → Nat} {n x k : Nat} (h : k ≠ n) : updN r n x k = r k := if_neg h
abbrev allC : List Nat := [0, 1, 2, 3, 4, 5, 6, 7, 8, 9, 10, 11, 12, 13, 14, 15, 16, 17, 18, 19, 20, 21, 22, 23, 24, 25, 26, 27, 28, 29, 30, 31, 32, 33, 34]
theorem cin_all : ∀ ci, ci < 35 → cin (some ci) allC = true := by decide
theorem shr1 {n : Nat} (h : n < 2147483648) : nI n >>> (nI 1 &&& 31) = nI (n / 2) := by
  have := pk_shrN (n := n) h (nI 1 &&& 31) 1 (by decide)
  rw [this, Nat.pow_one]
section
variable {A A' : Hp} {w w' : Lb} {X : Nat → Prop} {p a n m d k x c s : Nat} {r : Nat → Nat}
theorem okcp_n {e : Nat → Option Nat} {cap : Nat} (hn : n < 2147483648) (h : ∀ i, i < n → e i = some (r i) ∧ ∃ ci, ci < 35 ∧ Kd A (r i) ci) : okcp A allC (some (rfA e cap)) (nI 0) (nI n) = true := by
  unfold okcp
  dsimp only [rfA]
  rw [n_cl hn, n_cl (by omega)]
  refine List.all_eq_true.mpr (fun i hi => ?_)
  obtain ⟨e1, ci, e2, e3⟩ := h i (List.mem_range.mp hi)
  rw [Nat.zero_add, e1]
  show cin (gcs A (r i)) allC = true
  rw [e3.2]
  exact cin_all ci e2
theorem cpQ_n {e g : Nat → Option Nat} {cap cap' : Nat} (hn : n < 2147483648) (h1 : n ≤ cap) (h2 : n ≤ cap') : cpQ 5 (some (rfA e cap)) (some (rfA g cap')) (nI 0) (nI 0) (nI n) = some (rfA (va_cpy e g 0 0 n) cap') := by
  unfold cpQ
  dsimp only [rfA]
  rw [n_cl hn, n_cl (by omega), decide_eq_true (nI_pos' (by omega)), decide_eq_true (nI_pos' (by omega)), Nat.zero_add, Nat.ble_eq.mpr h1, Nat.ble_eq.mpr h2]
  rfl
theorem m_2 {o q : Nat} (ho : o ≤ 100000) (hq : q ≤ 100000) : evG TB (d + 2) 2 [.int (nI o), .int (nI 1), .int (nI q)] A = some (.inl (some (.int (nI (o + (if 1 < q then q else 1))))), A) := by
  have e : maxI (nI 1) (nI q) = nI (if 1 < q then q else 1) := by
    unfold maxI
    by_cases h : 1 < q
    · rw [if_pos h, if_pos ((nI_ltI (by omega) (by omega)).mpr h)]
    · rw [if_neg h, if_neg (fun z => h ((nI_ltI (by omega) (by omega)).mp z))]
  have l1 : (if 1 < q then q else 1) ≤ 100000 := by split <;> omega
  have l2 : 1 ≤ (if 1 < q then q else 1) := by split <;> omega
  generalize (if 1 < q then q else 1) = z at *
  simp (disch := omega) only [e_2, x_2_0, x_2_1, x_2_2, x_2_3, x_2_6, x_2_7, x_2_8, x_2_9, x_2_10, x_2_13, x_2_14, x_2_16, x_2_19, x_2_20, x_2_21, x_2_22, x_2_26, m_6, e, kv_s, ki_s, kj_s, kd_s, kq_s, kq_n, kq_o, ka_s, kc_r, kc_t, kc0_r, kc0_t, kch_r, kc0h_r, kw_s, kw0_s, kwh_s, kw0h_s, rg_ref, rg_null, rg_rf, ck_t, sel_some, lkn_hd, Option.isSome_some, Bool.true_and, Bool.and_true, okv_i, okv_l, okv_r, okv_n, okv_rf, okv_b, okv_0, okv_1, okv_f, okv_d, c1_i, c1_r, c1_n, c1_rf, c1_f, nI_add, n_mul, n_sub, n_pred, n_eq, n_le, n_lt, n_neN, n_Nne, N_lt, N_le, n_ltN, n_leN, rdI_n, rdJ_n, rdD_n, wrI_n, wrI_z0, wrI_z1, wrI_zb, wrJ_n, wrD_n, aln_s, okn_n, upd_is, upd_ne, Nat.add_zero, Nat.add_sub_cancel, decide_true, decide_false, cond_true, cond_false, if_true, if_false, ite_not, not_true_eq_false, not_false_eq_true, Nat.reduceEqDiff, Nat.reduceAdd, Nat.reduceMul, Nat.reduceSub, Nat.reduceLeDiff, nle (show 0 < o + z by omega), nlt (show o + z ≤ 2147483639 by omega)]
def grC (n : Nat) : Nat := n + (if 1 < n / 2 then n / 2 else 1)
theorem grC_le (n : Nat) : n + 1 ≤ grC n ∧ grC n ≤ 2 * n + 1 := by
  unfold grC
  split <;> omega
def grH (A : Hp) (p n : Nat) (e : Nat → Option Nat) : Hp := setf (seta (newa A (zar 5 (grC n))) (nx A) (rfA (va_cpy e (fun _ => none) 0 0 n) (grC n))) p 19 (.ref (nx A))
theorem m_13 {e : Nat → Option Nat} {cap' : Nat} (hga : ga A a = some (rfA e n)) (hn : n ≤ 100000) (h1 : n < cap') (h2 : cap' ≤ 300000) (he : ∀ i, i < n → e i = some (r i) ∧ ∃ ci, ci < 35 ∧ Kd A (r i) ci) : evG TB (d + 3) 13 [.ref a, .int (nI cap')] A = some (.inl (some (.ref (nx A))), seta (newa A (zar 5 cap')) (nx A) (rfA (va_cpy e (fun _ => none) 0 0 n) cap')) := by
  have ha := ga_lt hga
  have hk : ∀ i, i < n → e i = some (r i) ∧ ∃ ci, ci < 35 ∧ Kd (newa A (zar 5 cap')) (r i) ci := fun i hi => by
    obtain ⟨e1, ci, e2, e3⟩ := he i hi
    exact ⟨e1, ci, e2, (Fr.nwa (w := fun _ => 0) (X := fun _ => True) (l := 0)).cs e3⟩
  have hmin : minI (nI n) (nI cap') = nI n := by
    unfold minI
    rw [if_neg (fun z => by have := (nI_ltI (by omega) (by omega)).mp z; omega)]
  have h35 : ga (newa A (zar 5 cap')) a = some (rfA e n) := by rw [ga_newa_o ha]; exact hga
  have h36 : ga (newa A (zar 5 cap')) (nx A) = some (rfA (fun _ => none) cap') := ga_newa
  have q1 := okcp_n (A := newa A (zar 5 cap')) (cap := n) (by omega : n < 2147483648) hk
  have q2 := cpQ_n (e := e) (g := fun _ => none) (cap := n) (cap' := cap') (by omega : n < 2147483648) (Nat.le_refl _) (by omega)
  have q0 : atag (some (rfA e n)) 5 = true := rfl
  have q01 : atag (ga A a) 5 = true := by rw [hga]; rfl
  simp (disch := first | omega | (simp (disch := omega) only [nx_setf, nx_seta, nx_newo, nx_newa]; omega)) only [e_13, x_13_0, x_13_1, x_13_2, x_13_3, x_13_6, x_13_9, e_14, x_14_0, x_14_1, x_14_3, x_14_3rn, x_14_3nr, x_14_3nn, x_14_6, x_14_7, x_14_10, x_14_13, x_14_24, x_14_25, x_14_26, x_14_27, x_14_28, x_14_29, x_14_30, x_14_31, x_14_32, x_14_35, x_14_38, x_14_39, m_7, kv_s, ki_s, kj_s, kd_s, kq_s, kq_n, kq_o, ka_s, kc_r, kc_t, kc0_r, kc0_t, kch_r, kc0h_r, kw_s, kw0_s, kwh_s, kw0h_s, rg_ref, rg_null, rg_rf, ck_t, sel_some, lkn_hd, Option.isSome_some, Bool.true_and, Bool.and_true, okv_i, okv_l, okv_r, okv_n, okv_rf, okv_b, okv_0, okv_1, okv_f, okv_d, c1_i, c1_r, c1_n, c1_rf, c1_f, nI_add, n_mul, n_sub, n_pred, n_eq, n_le, n_lt, n_neN, n_Nne, N_lt, N_le, n_ltN, n_leN, rdI_n, rdJ_n, rdD_n, wrI_n, wrI_z0, wrI_z1, wrI_zb, wrJ_n, wrD_n, aln_s, okn_n, upd_is, upd_ne, Nat.add_zero, Nat.add_sub_cancel, decide_true, decide_false, cond_true, cond_false, if_true, if_false, ite_not, not_true_eq_false, not_false_eq_true, Nat.reduceEqDiff, Nat.reduceAdd, Nat.reduceMul, Nat.reduceSub, Nat.reduceLeDiff, q0, q01, hga, h35, h36, q1, q2, hmin, n_cl, eq_self]
theorem m_46 {e : Nat → Option Nat} (hc : gc A p = some 3) (hf : gf A p 19 = some (.ref a)) (hga : ga A a = some (rfA e n)) (h0 : 0 < n) (hn : n ≤ 10000) (he : ∀ i, i < n → e i = some (r i) ∧ ∃ ci, ci < 35 ∧ Kd A (r i) ci) : evG TB (d + 4) 46 [.ref p, .int (nI (n + 1))] A = some (.inl (some (.ref (nx A))), grH A p n e) := by
  have ⟨g1, g2⟩ := grC_le n
  have q := m_13 (d := d) (cap' := grC n) (r := r) hga (by omega) (by omega) (by omega) he
  have q2 : evG TB (d + 3) 2 [.int (nI n), .int (nI 1), .int (nI (n / 2))] A = some (.inl (some (.int (nI (grC n)))), A) := m_2 (d := d + 1) (by omega) (by omega)
  have hp := gc_lt hc
  have hs := shr1 (n := n) (by omega)
  have e1 : n + 1 - n = 1 := by omega
  unfold grH
  simp (disch := first | omega | (simp (disch := omega) only [nx_setf, nx_seta, nx_newo, nx_newa]; omega)) only [e_46, x_46_0, x_46_1, x_46_4, x_46_5, x_46_6, x_46_7, x_46_10, x_46_11, x_46_17, x_46_17rn, x_46_17nr, x_46_17nn, x_46_20, x_46_21, x_46_22, x_46_23, x_46_24, x_46_25, x_46_26, x_46_27, x_46_30, x_46_31, x_46_32, x_46_33, x_46_36, x_46_37, x_46_40, x_46_41, x_46_44, x_46_45, x_46_46, x_46_48, x_46_49, x_46_52, x_46_55, x_46_56, x_46_59, q, q2, hs, e1, kv_s, ki_s, kj_s, kd_s, kq_s, kq_n, kq_o, ka_s, kc_r, kc_t, kc0_r, kc0_t, kch_r, kc0h_r, kw_s, kw0_s, kwh_s, kw0h_s, rg_ref, rg_null, rg_rf, ck_t, sel_some, lkn_hd, Option.isSome_some, Bool.true_and, Bool.and_true, okv_i, okv_l, okv_r, okv_n, okv_rf, okv_b, okv_0, okv_1, okv_f, okv_d, c1_i, c1_r, c1_n, c1_rf, c1_f, nI_add, n_mul, n_sub, n_pred, n_eq, n_le, n_lt, n_neN, n_Nne, N_lt, N_le, n_ltN, n_leN, rdI_n, rdJ_n, rdD_n, wrI_n, wrI_z0, wrI_z1, wrI_zb, wrJ_n, wrD_n, aln_s, okn_n, upd_is, upd_ne, Nat.add_zero, Nat.add_sub_cancel, decide_true, decide_false, cond_true, cond_false, if_true, if_false, ite_not, not_true_eq_false, not_false_eq_true, Nat.reduceEqDiff, Nat.reduceAdd, Nat.reduceMul, Nat.reduceSub, Nat.reduceLeDiff, gf_setf_ne, gf_setf_p, gf_setf_is, va_rf_s, va_rf_n, gf_seta, ga_setf, gc_setf, gc_seta, ga_seta_ne, ga_seta_eq, gf_new, gc_new, gf_newo_o, gc_newo_o, ga_newo_o, ga_new, gf_newa_o, gc_newa_o, ga_newa_o, nx_setf, nx_seta, nx_newo, nx_newa, su_setf, su_seta, su_newo, su_newa, sg_setf, sg_seta, sg_newo, sg_newa, okq_n, hf, hga, nle h0, ylt h0]
theorem m_45 {e : Nat → Option Nat} (hc : gc A p = some 3) (hf : gf A p 19 = some (.ref a)) (hs : gf A p 20 = some (.int (nI n))) (hga : ga A a = some (rfA e n)) (h0 : 0 < n) (hn : n ≤ 10000) (he : ∀ i, i < n → e i = some (r i) ∧ ∃ ci, ci < 35 ∧ Kd A (r i) ci) : evG TB (d + 5) 45 [.ref p] A = some (.inl (some (.ref (nx A))), grH A p n e) := by
  have q := m_46 (d := d) (r := r) hc hf hga h0 hn he
  simp (disch := first | omega | (simp (disch := omega) only [nx_setf, nx_seta, nx_newo, nx_newa]; omega)) only [e_45, x_45_0, x_45_1, x_45_2, x_45_5, x_45_6, x_45_7, x_45_10, q, kv_s, ki_s, kj_s, kd_s, kq_s, kq_n, kq_o, ka_s, kc_r, kc_t, kc0_r, kc0_t, kch_r, kc0h_r, kw_s, kw0_s, kwh_s, kw0h_s, rg_ref, rg_null, rg_rf, ck_t, sel_some, lkn_hd, Option.isSome_some, Bool.true_and, Bool.and_true, okv_i, okv_l, okv_r, okv_n, okv_rf, okv_b, okv_0, okv_1, okv_f, okv_d, c1_i, c1_r, c1_n, c1_rf, c1_f, nI_add, n_mul, n_sub, n_pred, n_eq, n_le, n_lt, n_neN, n_Nne, N_lt, N_le, n_ltN, n_leN, rdI_n, rdJ_n, rdD_n, wrI_n, wrI_z0, wrI_z1, wrI_zb, wrJ_n, wrD_n, aln_s, okn_n, upd_is, upd_ne, Nat.add_zero, Nat.add_sub_cancel, decide_true, decide_false, cond_true, cond_false, if_true, if_false, ite_not, not_true_eq_false, not_false_eq_true, Nat.reduceEqDiff, Nat.reduceAdd, Nat.reduceMul, Nat.reduceSub, Nat.reduceLeDiff, hc, hs]
theorem wrQ_5 {e : Nat → Option Nat} {cap : Nat} {o : Option Nat} (h : n < cap) (hc : cap ≤ 2147483648) : wrQ (some (rfA e cap)) (nI n) o = some (rfA (va_up e n o) cap) := wrQ_n (Nat.le_refl 5) h hc
/-- a list with an element more -/
theorem m_43 (h : ALs A p a n m r) (hn : n < 10000) (hm : m < 10000) {ci : Nat} (hx : Kd A x ci) (hci : ci < 35) {l : Nat} (hlp : w p = l) (hla : w a = l) (hX : X l) (hpa : p ≠ a) :
    ∃ A' a', evG TB (d + 7) 43 [.ref p, .ref x] A = some (.inl (some (.int (nI 1))), A') ∧ ALs A' p a' (n + 1) (m + 1) (updN r n x) ∧ upL w (nx A) l p = l ∧ upL w (nx A) l a' = l ∧ Fr A w A' (upL w (nx A) l) X 1 (2 * n + 1) ∧ p ≠ a' := by
  obtain ⟨c1, f18, f19, f20, ⟨cap, e, h5, h6, h7, h7a, h8⟩, h9⟩ := h
  have hp := gc_lt c1
  have ha := ga_lt h5
  have hpn : p ≠ nx A := Nat.ne_of_lt hp
  have han : a ≠ nx A := Nat.ne_of_lt ha
  have k1 : upL w (nx A) l p = l := by rw [upL_ne hpn]; exact hlp
  rcases Nat.lt_or_ge n cap with hc | hc
  · refine ⟨setf (seta (setf A p 18 (.int (nI (m + 1)))) a (rfA (va_up e n (some x)) cap)) p 20 (.int (nI (n + 1))), a, ?_, ⟨?_, ?_, ?_, ?_, ⟨cap, va_up e n (some x), ?_, by omega, by omega, h7a, fun i hi => ?_⟩, by omega, by omega⟩, k1, by rw [upL_ne han]; exact hla, ?_, hpa⟩
    · have ok : okq (setf A p 18 (.int (nI (m + 1)))) allC (.ref x) = true := by
        show cin (gcs A x) allC = true
        rw [hx.2]; exact cin_all ci hci
      have ea : atag (some (rfA e cap)) 5 = true := rfl
      have en : (n = cap) = False := eq_false (by omega)
      have ew := wrQ_5 (e := e) (o := some x) hc (by omega)
      simp (disch := first | omega | (simp (disch := omega) only [nx_setf, nx_seta, nx_newo, nx_newa]; omega)) only [e_43, x_43_0, x_43_1, x_43_2, x_43_5, x_43_6, x_43_7, x_43_10, x_43_11, x_43_12, x_43_13, x_43_16, x_43_17, x_43_20, x_43_23, x_43_24, e_44, x_44_0, x_44_1, x_44_2, x_44_3, x_44_6, x_44_7, x_44_10, x_44_11, x_44_12, x_44_13, x_44_14r, x_44_14n, x_44_15, x_44_16, x_44_17, x_44_18, x_44_19, x_44_22, kv_s, ki_s, kj_s, kd_s, kq_s, kq_n, kq_o, ka_s, kc_r, kc_t, kc0_r, kc0_t, kch_r, kc0h_r, kw_s, kw0_s, kwh_s, kw0h_s, rg_ref, rg_null, rg_rf, ck_t, sel_some, lkn_hd, Option.isSome_some, Bool.true_and, Bool.and_true, okv_i, okv_l, okv_r, okv_n, okv_rf, okv_b, okv_0, okv_1, okv_f, okv_d, c1_i, c1_r, c1_n, c1_rf, c1_f, nI_add, n_mul, n_sub, n_pred, n_eq, n_le, n_lt, n_neN, n_Nne, N_lt, N_le, n_ltN, n_leN, rdI_n, rdJ_n, rdD_n, wrI_n, wrI_z0, wrI_z1, wrI_zb, wrJ_n, wrD_n, aln_s, okn_n, upd_is, upd_ne, Nat.add_zero, Nat.add_sub_cancel, decide_true, decide_false, cond_true, cond_false, if_true, if_false, ite_not, not_true_eq_false, not_false_eq_true, Nat.reduceEqDiff, Nat.reduceAdd, Nat.reduceMul, Nat.reduceSub, Nat.reduceLeDiff, gf_setf_ne, gf_setf_p, gf_setf_is, va_rf_s, va_rf_n, gf_seta, ga_setf, gc_setf, gc_seta, ga_seta_ne, ga_seta_eq, gf_new, gc_new, gf_newo_o, gc_newo_o, ga_newo_o, ga_new, gf_newa_o, gc_newa_o, ga_newa_o, nx_setf, nx_seta, nx_newo, nx_newa, su_setf, su_seta, su_newo, su_newa, sg_setf, sg_seta, sg_newo, sg_newa, okq_n, c1, f18, f19, f20, h5, en, ok, ea, ew]
    · simp (disch := first | omega | (simp (disch := omega) only [nx_setf, nx_seta, nx_newo, nx_newa]; omega)) only [gf_setf_ne, gf_setf_p, gf_setf_is, va_rf_s, va_rf_n, gf_seta, ga_setf, gc_setf, gc_seta, ga_seta_ne, ga_seta_eq, gf_new, gc_new, gf_newo_o, gc_newo_o, ga_newo_o, ga_new, gf_newa_o, gc_newa_o, ga_newa_o, nx_setf, nx_seta, nx_newo, nx_newa, su_setf, su_seta, su_newo, su_newa, sg_setf, sg_seta, sg_newo, sg_newa, okq_n, c1]
    · simp (disch := first | omega | (simp (disch := omega) only [nx_setf, nx_seta, nx_newo, nx_newa]; omega)) only [gf_setf_ne, gf_setf_p, gf_setf_is, va_rf_s, va_rf_n, gf_seta, ga_setf, gc_setf, gc_seta, ga_seta_ne, ga_seta_eq, gf_new, gc_new, gf_newo_o, gc_newo_o, ga_newo_o, ga_new, gf_newa_o, gc_newa_o, ga_newa_o, nx_setf, nx_seta, nx_newo, nx_newa, su_setf, su_seta, su_newo, su_newa, sg_setf, sg_seta, sg_newo, sg_newa, okq_n]
    · simp (disch := first | omega | (simp (disch := omega) only [nx_setf, nx_seta, nx_newo, nx_newa]; omega)) only [gf_setf_ne, gf_setf_p, gf_setf_is, va_rf_s, va_rf_n, gf_seta, ga_setf, gc_setf, gc_seta, ga_seta_ne, ga_seta_eq, gf_new, gc_new, gf_newo_o, gc_newo_o, ga_newo_o, ga_new, gf_newa_o, gc_newa_o, ga_newa_o, nx_setf, nx_seta, nx_newo, nx_newa, su_setf, su_seta, su_newo, su_newa, sg_setf, sg_seta, sg_newo, sg_newa, okq_n, f19]
    · simp (disch := first | omega | (simp (disch := omega) only [nx_setf, nx_seta, nx_newo, nx_newa]; omega)) only [gf_setf_ne, gf_setf_p, gf_setf_is, va_rf_s, va_rf_n, gf_seta, ga_setf, gc_setf, gc_seta, ga_seta_ne, ga_seta_eq, gf_new, gc_new, gf_newo_o, gc_newo_o, ga_newo_o, ga_new, gf_newa_o, gc_newa_o, ga_newa_o, nx_setf, nx_seta, nx_newo, nx_newa, su_setf, su_seta, su_newo, su_newa, sg_setf, sg_seta, sg_newo, sg_newa, okq_n]
    · show ga (seta (setf A p 18 (.int (nI (m + 1)))) a (rfA (va_up e n (some x)) cap)) a = _
      exact ga_seta_eq (c' := rfA e cap) (by rw [ga_setf]; exact h5)
    · have hk : ∀ q ci, Kd A q ci → Kd (setf (seta (setf A p 18 (.int (nI (m + 1)))) a (rfA (va_up e n (some x)) cap)) p 20 (.int (nI (n + 1)))) q ci := fun q ci hq => hq
      by_cases hin : i = n
      · rw [updN_is hin]
        exact ⟨if_pos hin, ci, hci, hk _ _ hx⟩
      · rw [updN_ne hin]
        obtain ⟨e1, ci', e2, e3⟩ := h8 i (by omega)
        exact ⟨(if_neg hin).trans e1, ci', e2, hk _ _ e3⟩
    · have f1 : Fr A w (setf A p 18 (.int (nI (m + 1)))) w X 0 0 := Fr.stf (by rw [hlp]; exact hX)
      have f2 : Fr (setf A p 18 (.int (nI (m + 1)))) w (seta (setf A p 18 (.int (nI (m + 1)))) a (rfA (va_up e n (some x)) cap)) w X 0 0 := Fr.sta (by rw [hla]; exact hX)
      have f3 : Fr (seta (setf A p 18 (.int (nI (m + 1)))) a (rfA (va_up e n (some x)) cap)) w (setf (seta (setf A p 18 (.int (nI (m + 1)))) a (rfA (va_up e n (some x)) cap)) p 20 (.int (nI (n + 1)))) w X 0 0 := Fr.stf (by rw [hlp]; exact hX)
      have f4 := ((f1.trans f2).trans f3).trans (Fr.lab (w' := upL w (nx A) l) (fun q hq _ => upL_ne (Nat.ne_of_lt hq)))
      exact f4.mono (fun _ h => h) (by omega) (by omega)
  · have hc : cap = n := by omega
    subst hc
    have ⟨g1, g2⟩ := grC_le cap
    have f1 : Fr A w (setf A p 18 (.int (nI (m + 1)))) w X 0 0 := Fr.stf (by rw [hlp]; exact hX)
    have q45 := m_45 (d := d) (A := setf A p 18 (.int (nI (m + 1)))) (r := r) (p := p) (a := a) (n := cap) (e := e) c1 (by simp (disch := first | omega | (simp (disch := omega) only [nx_setf, nx_seta, nx_newo, nx_newa]; omega)) only [gf_setf_ne, gf_setf_p, gf_setf_is, va_rf_s, va_rf_n, gf_seta, ga_setf, gc_setf, gc_seta, ga_seta_ne, ga_seta_eq, gf_new, gc_new, gf_newo_o, gc_newo_o, ga_newo_o, ga_new, gf_newa_o, gc_newa_o, ga_newa_o, nx_setf, nx_seta, nx_newo, nx_newa, su_setf, su_seta, su_newo, su_newa, sg_setf, sg_seta, sg_newo, sg_newa, okq_n, f19]) (by simp (disch := first | omega | (simp (disch := omega) only [nx_setf, nx_seta, nx_newo, nx_newa]; omega)) only [gf_setf_ne, gf_setf_p, gf_setf_is, va_rf_s, va_rf_n, gf_seta, ga_setf, gc_setf, gc_seta, ga_seta_ne, ga_seta_eq, gf_new, gc_new, gf_newo_o, gc_newo_o, ga_newo_o, ga_new, gf_newa_o, gc_newa_o, ga_newa_o, nx_setf, nx_seta, nx_newo, nx_newa, su_setf, su_seta, su_newo, su_newa, sg_setf, sg_seta, sg_newo, sg_newa, okq_n, f20]) (by rw [ga_setf]; exact h5) h7a (by omega) (fun i hi => by
      obtain ⟨e1, ci', e2, e3⟩ := h8 i hi
      exact ⟨e1, ci', e2, f1.cs e3⟩)
    have f2 : Fr (setf A p 18 (.int (nI (m + 1)))) w (newa (setf A p 18 (.int (nI (m + 1)))) (zar 5 (grC cap))) (upL w (nx A) l) X 1 (grC cap) := Fr.nwa
    have f3 : Fr (newa (setf A p 18 (.int (nI (m + 1)))) (zar 5 (grC cap))) (upL w (nx A) l) (seta (newa (setf A p 18 (.int (nI (m + 1)))) (zar 5 (grC cap))) (nx A) (rfA (va_cpy e (fun _ => none) 0 0 cap) (grC cap))) (upL w (nx A) l) X 0 0 := Fr.sta (by rw [upL_is rfl]; exact hX)
    have f4 : Fr (seta (newa (setf A p 18 (.int (nI (m + 1)))) (zar 5 (grC cap))) (nx A) (rfA (va_cpy e (fun _ => none) 0 0 cap) (grC cap))) (upL w (nx A) l) (grH (setf A p 18 (.int (nI (m + 1)))) p cap e) (upL w (nx A) l) X 0 0 := Fr.stf (by rw [k1]; exact hX)
    have g14 := ((f1.trans f2).trans f3).trans f4
    have gk : ga (grH (setf A p 18 (.int (nI (m + 1)))) p cap e) (nx A) = some (rfA (va_cpy e (fun _ => none) 0 0 cap) (grC cap)) := by
      unfold grH
      rw [ga_setf]
      exact ga_seta_eq (c' := zar 5 (grC cap)) ga_newa
    have kx : Kd (grH (setf A p 18 (.int (nI (m + 1)))) p cap e) x ci := g14.cs hx
    have k20 : gf (grH (setf A p 18 (.int (nI (m + 1)))) p cap e) p 20 = some (.int (nI cap)) := by unfold grH; simp (disch := first | omega | (simp (disch := omega) only [nx_setf, nx_seta, nx_newo, nx_newa]; omega)) only [gf_setf_ne, gf_setf_p, gf_setf_is, va_rf_s, va_rf_n, gf_seta, ga_setf, gc_setf, gc_seta, ga_seta_ne, ga_seta_eq, gf_new, gc_new, gf_newo_o, gc_newo_o, ga_newo_o, ga_new, gf_newa_o, gc_newa_o, ga_newa_o, nx_setf, nx_seta, nx_newo, nx_newa, su_setf, su_seta, su_newo, su_newa, sg_setf, sg_seta, sg_newo, sg_newa, okq_n, f20]
    have k18 : gf (grH (setf A p 18 (.int (nI (m + 1)))) p cap e) p 18 = some (.int (nI (m + 1))) := by unfold grH; simp (disch := first | omega | (simp (disch := omega) only [nx_setf, nx_seta, nx_newo, nx_newa]; omega)) only [gf_setf_ne, gf_setf_p, gf_setf_is, va_rf_s, va_rf_n, gf_seta, ga_setf, gc_setf, gc_seta, ga_seta_ne, ga_seta_eq, gf_new, gc_new, gf_newo_o, gc_newo_o, ga_newo_o, ga_new, gf_newa_o, gc_newa_o, ga_newa_o, nx_setf, nx_seta, nx_newo, nx_newa, su_setf, su_seta, su_newo, su_newa, sg_setf, sg_seta, sg_newo, sg_newa, okq_n]
    have k19 : gf (grH (setf A p 18 (.int (nI (m + 1)))) p cap e) p 19 = some (.ref (nx A)) := by unfold grH; simp (disch := first | omega | (simp (disch := omega) only [nx_setf, nx_seta, nx_newo, nx_newa]; omega)) only [gf_setf_ne, gf_setf_p, gf_setf_is, va_rf_s, va_rf_n, gf_seta, ga_setf, gc_setf, gc_seta, ga_seta_ne, ga_seta_eq, gf_new, gc_new, gf_newo_o, gc_newo_o, ga_newo_o, ga_new, gf_newa_o, gc_newa_o, ga_newa_o, nx_setf, nx_seta, nx_newo, nx_newa, su_setf, su_seta, su_newo, su_newa, sg_setf, sg_seta, sg_newo, sg_newa, okq_n]
    have kc : gc (grH (setf A p 18 (.int (nI (m + 1)))) p cap e) p = some 3 := g14.cc c1
    have kn : p < nx (grH (setf A p 18 (.int (nI (m + 1)))) p cap e) := gc_lt kc
    have f5 : Fr (grH (setf A p 18 (.int (nI (m + 1)))) p cap e) (upL w (nx A) l) (seta (grH (setf A p 18 (.int (nI (m + 1)))) p cap e) (nx A) (rfA (va_up (va_cpy e (fun _ => none) 0 0 cap) cap (some x)) (grC cap))) (upL w (nx A) l) X 0 0 := Fr.sta (by rw [upL_is rfl]; exact hX)
    have f6 : Fr (seta (grH (setf A p 18 (.int (nI (m + 1)))) p cap e) (nx A) (rfA (va_up (va_cpy e (fun _ => none) 0 0 cap) cap (some x)) (grC cap))) (upL w (nx A) l) (setf (seta (grH (setf A p 18 (.int (nI (m + 1)))) p cap e) (nx A) (rfA (va_up (va_cpy e (fun _ => none) 0 0 cap) cap (some x)) (grC cap))) p 20 (.int (nI (cap + 1)))) (upL w (nx A) l) X 0 0 := Fr.stf (by rw [k1]; exact hX)
    have g16 := (g14.trans f5).trans f6
    refine ⟨setf (seta (grH (setf A p 18 (.int (nI (m + 1)))) p cap e) (nx A) (rfA (va_up (va_cpy e (fun _ => none) 0 0 cap) cap (some x)) (grC cap))) p 20 (.int (nI (cap + 1))), nx A, ?_, ⟨g16.cc c1, ?_, ?_, ?_, ⟨grC cap, va_up (va_cpy e (fun _ => none) 0 0 cap) cap (some x), ?_, by omega, by omega, by omega, fun i hi => ?_⟩, by omega, by omega⟩, k1, upL_is rfl, g16.mono (fun _ h => h) (by omega) (by omega), hpn⟩
    · have ok : okq (grH (setf A p 18 (.int (nI (m + 1)))) p cap e) allC (.ref x) = true := by
        show cin (gcs (grH (setf A p 18 (.int (nI (m + 1)))) p cap e) x) allC = true
        rw [kx.2]; exact cin_all ci hci
      have ea : atag (some (rfA (va_cpy e (fun _ => none) 0 0 cap) (grC cap))) 5 = true := rfl
      have ew := wrQ_5 (e := va_cpy e (fun _ => none) 0 0 cap) (cap := grC cap) (o := some x) (n := cap) (by omega) (by omega)
      simp (disch := first | omega | (simp (disch := omega) only [nx_setf, nx_seta, nx_newo, nx_newa]; omega)) only [e_43, x_43_0, x_43_1, x_43_2, x_43_5, x_43_6, x_43_7, x_43_10, x_43_11, x_43_12, x_43_13, x_43_16, x_43_17, x_43_20, x_43_23, x_43_24, e_44, x_44_0, x_44_1, x_44_2, x_44_3, x_44_6, x_44_7, x_44_10, x_44_11, x_44_12, x_44_13, x_44_14r, x_44_14n, x_44_15, x_44_16, x_44_17, x_44_18, x_44_19, x_44_22, q45, kv_s, ki_s, kj_s, kd_s, kq_s, kq_n, kq_o, ka_s, kc_r, kc_t, kc0_r, kc0_t, kch_r, kc0h_r, kw_s, kw0_s, kwh_s, kw0h_s, rg_ref, rg_null, rg_rf, ck_t, sel_some, lkn_hd, Option.isSome_some, Bool.true_and, Bool.and_true, okv_i, okv_l, okv_r, okv_n, okv_rf, okv_b, okv_0, okv_1, okv_f, okv_d, c1_i, c1_r, c1_n, c1_rf, c1_f, nI_add, n_mul, n_sub, n_pred, n_eq, n_le, n_lt, n_neN, n_Nne, N_lt, N_le, n_ltN, n_leN, rdI_n, rdJ_n, rdD_n, wrI_n, wrI_z0, wrI_z1, wrI_zb, wrJ_n, wrD_n, aln_s, okn_n, upd_is, upd_ne, Nat.add_zero, Nat.add_sub_cancel, decide_true, decide_false, cond_true, cond_false, if_true, if_false, ite_not, not_true_eq_false, not_false_eq_true, Nat.reduceEqDiff, Nat.reduceAdd, Nat.reduceMul, Nat.reduceSub, Nat.reduceLeDiff, gf_setf_ne, gf_setf_p, gf_setf_is, va_rf_s, va_rf_n, gf_seta, ga_setf, gc_setf, gc_seta, ga_seta_ne, ga_seta_eq, gf_new, gc_new, gf_newo_o, gc_newo_o, ga_newo_o, ga_new, gf_newa_o, gc_newa_o, ga_newa_o, nx_setf, nx_seta, nx_newo, nx_newa, su_setf, su_seta, su_newo, su_newa, sg_setf, sg_seta, sg_newo, sg_newa, okq_n, c1, f18, f19, f20, h5, kc, k18, k20, gk, ok, ea, ew]
    · simp (disch := first | omega | (simp (disch := omega) only [nx_setf, nx_seta, nx_newo, nx_newa]; omega)) only [gf_setf_ne, gf_setf_p, gf_setf_is, va_rf_s, va_rf_n, gf_seta, ga_setf, gc_setf, gc_seta, ga_seta_ne, ga_seta_eq, gf_new, gc_new, gf_newo_o, gc_newo_o, ga_newo_o, ga_new, gf_newa_o, gc_newa_o, ga_newa_o, nx_setf, nx_seta, nx_newo, nx_newa, su_setf, su_seta, su_newo, su_newa, sg_setf, sg_seta, sg_newo, sg_newa, okq_n, k18]
    · simp (disch := first | omega | (simp (disch := omega) only [nx_setf, nx_seta, nx_newo, nx_newa]; omega)) only [gf_setf_ne, gf_setf_p, gf_setf_is, va_rf_s, va_rf_n, gf_seta, ga_setf, gc_setf, gc_seta, ga_seta_ne, ga_seta_eq, gf_new, gc_new, gf_newo_o, gc_newo_o, ga_newo_o, ga_new, gf_newa_o, gc_newa_o, ga_newa_o, nx_setf, nx_seta, nx_newo, nx_newa, su_setf, su_seta, su_newo, su_newa, sg_setf, sg_seta, sg_newo, sg_newa, okq_n, k19]
    · simp (disch := first | omega | (simp (disch := omega) only [nx_setf, nx_seta, nx_newo, nx_newa]; omega)) only [gf_setf_ne, gf_setf_p, gf_setf_is, va_rf_s, va_rf_n, gf_seta, ga_setf, gc_setf, gc_seta, ga_seta_ne, ga_seta_eq, gf_new, gc_new, gf_newo_o, gc_newo_o, ga_newo_o, ga_new, gf_newa_o, gc_newa_o, ga_newa_o, nx_setf, nx_seta, nx_newo, nx_newa, su_setf, su_seta, su_newo, su_newa, sg_setf, sg_seta, sg_newo, sg_newa, okq_n]
    · rw [ga_setf]
      exact ga_seta_eq gk
    · by_cases hin : i = cap
      · rw [updN_is hin]
        exact ⟨if_pos hin, ci, hci, g16.cs hx⟩
      · rw [updN_ne hin]
        obtain ⟨e1, ci', e2, e3⟩ := h8 i (by omega)
        refine ⟨(if_neg hin).trans ?_, ci', e2, g16.cs e3⟩
        show (if 0 ≤ i ∧ i < 0 + cap then e (0 + (i - 0)) else none) = _
        rw [if_pos (by omega), Nat.zero_add, Nat.sub_zero]
        exact e1
end
