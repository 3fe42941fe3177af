/-! ArrayList's iterator -/
/-- an iterator at q over the list at p, at place k, m changes expected -/
abbrev ItS (A : Hp) (q p m k : Nat) : Prop := (gc A q = some 7) ∧ (gf A q 37 = some (.int (nI k))) ∧ ((gf A q 38).isSome = true) ∧ (gf A q 39 = some (.int (nI m))) ∧ (gf A q 40 = some (.ref p))
theorem ItS.c {A : Hp} {q p m k : Nat} (h : ItS A q p m k) : gc A q = some 7 := h.1
theorem ItS.k {A : Hp} {q p m k : Nat} (h : ItS A q p m k) : gf A q 37 = some (.int (nI k)) := h.2.1
theorem ItS.l {A : Hp} {q p m k : Nat} (h : ItS A q p m k) : (gf A q 38).isSome = true := h.2.2.1
theorem ItS.m {A : Hp} {q p m k : Nat} (h : ItS A q p m k) : gf A q 39 = some (.int (nI m)) := h.2.2.2.1
theorem ItS.t {A : Hp} {q p m k : Nat} (h : ItS A q p m k) : gf A q 40 = some (.ref p) := h.2.2.2.2
section
variable {A A' : Hp} {w w' : Lb} {X : Nat → Prop} {p q a n m d k x c s f l : Nat} {r : Nat → Nat} {v : Value} {g : ArC}
theorem Fr.stn (h : Fr A w A' w' X c s) (hp : nx A ≤ p) : Fr A w (setf A' p f v) w' X c s := by
  obtain ⟨a1, a2, a3, a4, a5, a6, a7⟩ := h
  refine ⟨a1, a2, a3, a4, a5, a6, fun q hq hx => ?_⟩
  obtain ⟨b1, b2, b3⟩ := a7 q hq hx
  exact ⟨b1, fun g => (if_neg (fun e : q = p ∧ g = f => by omega) : (if q = p ∧ g = f then some v else A'.1 g q) = A'.1 g q).trans (b2 g), b3⟩
theorem Fr.san (h : Fr A w A' w' X c s) (hp : nx A ≤ p) : Fr A w (seta A' p g) w' X c s := by
  obtain ⟨a1, a2, a3, a4, a5, a6, a7⟩ := h
  refine ⟨a1, a2, a3, a4, a5, a6, fun q hq hx => ?_⟩
  obtain ⟨b1, b2, b3⟩ := a7 q hq hx
  exact ⟨b1, b2, (if_neg (fun e : q = p => by omega) : (if q = p then some g else A'.2.2.1 q) = A'.2.2.1 q).trans b3⟩
theorem ALs.sf (h : ALs A p a n m r) (hq : q ≠ p) : ALs (setf A q f v) p a n m r := by
  obtain ⟨h1, h2, h3, h4, h5, h9⟩ := h
  have hp := hq.symm
  exact ⟨h1, by rw [gf_setf_p hp]; exact h2, by rw [gf_setf_p hp]; exact h3, by rw [gf_setf_p hp]; exact h4, h5, h9⟩
theorem dv7_37 : dv7 37 = some (.int (nI 0)) := rfl
theorem dv7_38 : dv7 38 = some (.int (nI 0)) := rfl
theorem dv7_39 : dv7 39 = some (.int (nI 0)) := rfl
theorem dv7_40 : dv7 40 = some .null := rfl
/-- a new iterator -/
theorem m_40 (h : ALs A p a n m r) (w : Lb) (l : Nat) : ∃ A', evG TB (d + 3) 40 [.ref p] A = some (.inl (some (.ref (nx A))), A') ∧ ItS A' (nx A) p m 0 ∧ ∀ X, Fr A w A' (upL w (nx A) l) X 1 4 := by
  have hp := gc_lt h.c
  have f18 := h.fm
  have hne : p ≠ nx A := Nat.ne_of_lt hp
  refine ⟨setf (setf (setf (newo A 7 4 dv7) (nx A) 40 (.ref p)) (nx A) 38 (.int nN)) (nx A) 39 (.int (nI m)), ?_, ⟨?_, ?_, ?_, ?_, ?_⟩, fun X => ((Fr.nwo.stn (Nat.le_refl _)).stn (Nat.le_refl _)).stn (Nat.le_refl _)⟩
  · simp (disch := first | omega | (simp (disch := omega) only [nx_setf, nx_seta, nx_newo, nx_newa]; omega)) only [e_40, x_40_0, x_40_3, x_40_4, x_40_5, x_40_8, e_49, x_49_0, x_49_1, x_49_2, x_49_5, x_49_6, x_49_9, x_49_10, x_49_11, x_49_14, x_49_15, x_49_16, x_49_19, x_49_22, x_49_25, kv_s, ki_s, kj_s, kd_s, kq_s, kq_n, kq_o, ka_s, kc_r, kc_t, kc0_r, kc0_t, kch_r, kc0h_r, kw_s, kw0_s, kwh_s, kw0h_s, rg_ref, rg_null, rg_rf, ck_t, sel_some, lkn_hd, Option.isSome_some, Bool.true_and, Bool.and_true, okv_i, okv_l, okv_r, okv_n, okv_rf, okv_b, okv_0, okv_1, okv_f, okv_d, c1_i, c1_r, c1_n, c1_rf, c1_f, nI_add, n_mul, n_sub, n_pred, n_eq, n_le, n_lt, n_neN, n_Nne, N_lt, N_le, n_ltN, n_leN, rdI_n, rdJ_n, rdD_n, wrI_n, wrI_z0, wrI_z1, wrI_zb, wrJ_n, wrD_n, aln_s, okn_n, upd_is, upd_ne, Nat.add_zero, Nat.add_sub_cancel, decide_true, decide_false, cond_true, cond_false, if_true, if_false, ite_not, not_true_eq_false, not_false_eq_true, Nat.reduceEqDiff, Nat.reduceAdd, Nat.reduceMul, Nat.reduceSub, Nat.reduceLeDiff, gf_setf_ne, gf_setf_p, gf_setf_is, va_rf_s, va_rf_n, gf_seta, ga_setf, gc_setf, gc_seta, ga_seta_ne, ga_seta_eq, gf_new, gc_new, gf_newo_o, gc_newo_o, ga_newo_o, ga_new, gf_newa_o, gc_newa_o, ga_newa_o, nx_setf, nx_seta, nx_newo, nx_newa, su_setf, su_seta, su_newo, su_newa, sg_setf, sg_seta, sg_newo, sg_newa, okq_n, f18, dv7_37, dv7_38, dv7_39, dv7_40]
  · simp (disch := first | omega | (simp (disch := omega) only [nx_setf, nx_seta, nx_newo, nx_newa]; omega)) only [gf_setf_ne, gf_setf_p, gf_setf_is, va_rf_s, va_rf_n, gf_seta, ga_setf, gc_setf, gc_seta, ga_seta_ne, ga_seta_eq, gf_new, gc_new, gf_newo_o, gc_newo_o, ga_newo_o, ga_new, gf_newa_o, gc_newa_o, ga_newa_o, nx_setf, nx_seta, nx_newo, nx_newa, su_setf, su_seta, su_newo, su_newa, sg_setf, sg_seta, sg_newo, sg_newa, okq_n]
  · simp (disch := first | omega | (simp (disch := omega) only [nx_setf, nx_seta, nx_newo, nx_newa]; omega)) only [gf_setf_ne, gf_setf_p, gf_setf_is, va_rf_s, va_rf_n, gf_seta, ga_setf, gc_setf, gc_seta, ga_seta_ne, ga_seta_eq, gf_new, gc_new, gf_newo_o, gc_newo_o, ga_newo_o, ga_new, gf_newa_o, gc_newa_o, ga_newa_o, nx_setf, nx_seta, nx_newo, nx_newa, su_setf, su_seta, su_newo, su_newa, sg_setf, sg_seta, sg_newo, sg_newa, okq_n, dv7_37]
  · simp (disch := first | omega | (simp (disch := omega) only [nx_setf, nx_seta, nx_newo, nx_newa]; omega)) only [gf_setf_ne, gf_setf_p, gf_setf_is, va_rf_s, va_rf_n, gf_seta, ga_setf, gc_setf, gc_seta, ga_seta_ne, ga_seta_eq, gf_new, gc_new, gf_newo_o, gc_newo_o, ga_newo_o, ga_new, gf_newa_o, gc_newa_o, ga_newa_o, nx_setf, nx_seta, nx_newo, nx_newa, su_setf, su_seta, su_newo, su_newa, sg_setf, sg_seta, sg_newo, sg_newa, okq_n, Option.isSome_some]
  · simp (disch := first | omega | (simp (disch := omega) only [nx_setf, nx_seta, nx_newo, nx_newa]; omega)) only [gf_setf_ne, gf_setf_p, gf_setf_is, va_rf_s, va_rf_n, gf_seta, ga_setf, gc_setf, gc_seta, ga_seta_ne, ga_seta_eq, gf_new, gc_new, gf_newo_o, gc_newo_o, ga_newo_o, ga_new, gf_newa_o, gc_newa_o, ga_newa_o, nx_setf, nx_seta, nx_newo, nx_newa, su_setf, su_seta, su_newo, su_newa, sg_setf, sg_seta, sg_newo, sg_newa, okq_n]
  · simp (disch := first | omega | (simp (disch := omega) only [nx_setf, nx_seta, nx_newo, nx_newa]; omega)) only [gf_setf_ne, gf_setf_p, gf_setf_is, va_rf_s, va_rf_n, gf_seta, ga_setf, gc_setf, gc_seta, ga_seta_ne, ga_seta_eq, gf_new, gc_new, gf_newo_o, gc_newo_o, ga_newo_o, ga_new, gf_newa_o, gc_newa_o, ga_newa_o, nx_setf, nx_seta, nx_newo, nx_newa, su_setf, su_seta, su_newo, su_newa, sg_setf, sg_seta, sg_newo, sg_newa, okq_n]
theorem m_50 (hi : ItS A q p m k) (h : ALs A p a n m r) (hk : k ≤ n) : evG TB (d + 1) 50 [.ref q] A = some (.inl (some (.int (bI (decide (k < n))))), A) := by
  have nb := h.nb
  rcases Nat.lt_or_ge k n with h1 | h1
  · have e : (k = n) = False := eq_false (by omega)
    rw [decide_eq_true h1, bI_t]
    simp (disch := first | omega | (simp (disch := omega) only [nx_setf, nx_seta, nx_newo, nx_newa]; omega)) only [e_50, x_50_0, x_50_1, x_50_4, x_50_5, x_50_8, x_50_11, x_50_14, x_50_15, x_50_18, x_50_19, kv_s, ki_s, kj_s, kd_s, kq_s, kq_n, kq_o, ka_s, kc_r, kc_t, kc0_r, kc0_t, kch_r, kc0h_r, kw_s, kw0_s, kwh_s, kw0h_s, rg_ref, rg_null, rg_rf, ck_t, sel_some, lkn_hd, Option.isSome_some, Bool.true_and, Bool.and_true, okv_i, okv_l, okv_r, okv_n, okv_rf, okv_b, okv_0, okv_1, okv_f, okv_d, c1_i, c1_r, c1_n, c1_rf, c1_f, nI_add, n_mul, n_sub, n_pred, n_eq, n_le, n_lt, n_neN, n_Nne, N_lt, N_le, n_ltN, n_leN, rdI_n, rdJ_n, rdD_n, wrI_n, wrI_z0, wrI_z1, wrI_zb, wrJ_n, wrD_n, aln_s, okn_n, upd_is, upd_ne, Nat.add_zero, Nat.add_sub_cancel, decide_true, decide_false, cond_true, cond_false, if_true, if_false, ite_not, not_true_eq_false, not_false_eq_true, Nat.reduceEqDiff, Nat.reduceAdd, Nat.reduceMul, Nat.reduceSub, Nat.reduceLeDiff, hi.k, hi.t, h.fs, e]
  · have e : k = n := by omega
    rw [decide_eq_false (by omega), bI_f]
    simp (disch := first | omega | (simp (disch := omega) only [nx_setf, nx_seta, nx_newo, nx_newa]; omega)) only [e_50, x_50_0, x_50_1, x_50_4, x_50_5, x_50_8, x_50_11, x_50_14, x_50_15, x_50_18, x_50_19, kv_s, ki_s, kj_s, kd_s, kq_s, kq_n, kq_o, ka_s, kc_r, kc_t, kc0_r, kc0_t, kch_r, kc0h_r, kw_s, kw0_s, kwh_s, kw0h_s, rg_ref, rg_null, rg_rf, ck_t, sel_some, lkn_hd, Option.isSome_some, Bool.true_and, Bool.and_true, okv_i, okv_l, okv_r, okv_n, okv_rf, okv_b, okv_0, okv_1, okv_f, okv_d, c1_i, c1_r, c1_n, c1_rf, c1_f, nI_add, n_mul, n_sub, n_pred, n_eq, n_le, n_lt, n_neN, n_Nne, N_lt, N_le, n_ltN, n_leN, rdI_n, rdJ_n, rdD_n, wrI_n, wrI_z0, wrI_z1, wrI_zb, wrJ_n, wrD_n, aln_s, okn_n, upd_is, upd_ne, Nat.add_zero, Nat.add_sub_cancel, decide_true, decide_false, cond_true, cond_false, if_true, if_false, ite_not, not_true_eq_false, not_false_eq_true, Nat.reduceEqDiff, Nat.reduceAdd, Nat.reduceMul, Nat.reduceSub, Nat.reduceLeDiff, hi.k, hi.t, h.fs, e]
/-- the iterator goes on -/
theorem m_51 (hi : ItS A q p m k) (h : ALs A p a n m r) (hk : k < n) (hqp : q ≠ p) : evG TB (d + 2) 51 [.ref q] A = some (.inl (some (.ref (r k))), setf (setf A q 37 (.int (nI (k + 1)))) q 38 (.int (nI k))) ∧ ItS (setf (setf A q 37 (.int (nI (k + 1)))) q 38 (.int (nI k))) q p m (k + 1) := by
  have nb := h.nb
  have hq := gc_lt hi.c
  have hp := gc_lt h.c
  have hpq := hqp.symm
  obtain ⟨cap, e, h5, h6, h7, h7a, h8⟩ := h.ar
  have e1 := (h8 k hk).1
  have e2 : rdQ (some (rfA e cap)) (nI k) = some (some (r k)) := by rw [rdQ_n (by omega) (by omega) (by omega), e1]
  have hcap : (cap ≤ 2147483648) := by omega
  refine ⟨?_, ⟨?_, ?_, ?_, ?_, ?_⟩⟩
  · simp (disch := first | omega | (simp (disch := omega) only [nx_setf, nx_seta, nx_newo, nx_newa]; omega)) only [e_51, x_51_0, x_51_1, x_51_4, x_51_5, x_51_8, x_51_9, x_51_10, x_51_11, x_51_14, x_51_17, x_51_23, x_51_28, x_51_29, x_51_32, x_51_35, x_51_36, x_51_37, x_51_38, x_51_39, x_51_45, x_51_50, x_51_51, x_51_52, x_51_53, x_51_54, x_51_57, x_51_58, x_51_59, x_51_60, x_51_61, x_51_64, x_51_65, e_52, x_52_0, x_52_1, x_52_4, x_52_7, x_52_8, x_52_11, x_52_17, x_52_22, kv_s, ki_s, kj_s, kd_s, kq_s, kq_n, kq_o, ka_s, kc_r, kc_t, kc0_r, kc0_t, kch_r, kc0h_r, kw_s, kw0_s, kwh_s, kw0h_s, rg_ref, rg_null, rg_rf, ck_t, sel_some, lkn_hd, Option.isSome_some, Bool.true_and, Bool.and_true, okv_i, okv_l, okv_r, okv_n, okv_rf, okv_b, okv_0, okv_1, okv_f, okv_d, c1_i, c1_r, c1_n, c1_rf, c1_f, nI_add, n_mul, n_sub, n_pred, n_eq, n_le, n_lt, n_neN, n_Nne, N_lt, N_le, n_ltN, n_leN, rdI_n, rdJ_n, rdD_n, wrI_n, wrI_z0, wrI_z1, wrI_zb, wrJ_n, wrD_n, aln_s, okn_n, upd_is, upd_ne, Nat.add_zero, Nat.add_sub_cancel, decide_true, decide_false, cond_true, cond_false, if_true, if_false, ite_not, not_true_eq_false, not_false_eq_true, Nat.reduceEqDiff, Nat.reduceAdd, Nat.reduceMul, Nat.reduceSub, Nat.reduceLeDiff, gf_setf_ne, gf_setf_p, gf_setf_is, va_rf_s, va_rf_n, gf_seta, ga_setf, gc_setf, gc_seta, ga_seta_ne, ga_seta_eq, gf_new, gc_new, gf_newo_o, gc_newo_o, ga_newo_o, ga_new, gf_newa_o, gc_newa_o, ga_newa_o, nx_setf, nx_seta, nx_newo, nx_newa, su_setf, su_seta, su_newo, su_newa, sg_setf, sg_seta, sg_newo, sg_newa, okq_n, hi.c, hi.k, hi.l, hi.m, hi.t, h.fm, h.fe, h.fs, h5, e2, ylt hk, ylt (show k < cap by omega)]
  · simp (disch := first | omega | (simp (disch := omega) only [nx_setf, nx_seta, nx_newo, nx_newa]; omega)) only [gf_setf_ne, gf_setf_p, gf_setf_is, va_rf_s, va_rf_n, gf_seta, ga_setf, gc_setf, gc_seta, ga_seta_ne, ga_seta_eq, gf_new, gc_new, gf_newo_o, gc_newo_o, ga_newo_o, ga_new, gf_newa_o, gc_newa_o, ga_newa_o, nx_setf, nx_seta, nx_newo, nx_newa, su_setf, su_seta, su_newo, su_newa, sg_setf, sg_seta, sg_newo, sg_newa, okq_n, hi.c]
  · simp (disch := first | omega | (simp (disch := omega) only [nx_setf, nx_seta, nx_newo, nx_newa]; omega)) only [gf_setf_ne, gf_setf_p, gf_setf_is, va_rf_s, va_rf_n, gf_seta, ga_setf, gc_setf, gc_seta, ga_seta_ne, ga_seta_eq, gf_new, gc_new, gf_newo_o, gc_newo_o, ga_newo_o, ga_new, gf_newa_o, gc_newa_o, ga_newa_o, nx_setf, nx_seta, nx_newo, nx_newa, su_setf, su_seta, su_newo, su_newa, sg_setf, sg_seta, sg_newo, sg_newa, okq_n]
  · simp (disch := first | omega | (simp (disch := omega) only [nx_setf, nx_seta, nx_newo, nx_newa]; omega)) only [gf_setf_ne, gf_setf_p, gf_setf_is, va_rf_s, va_rf_n, gf_seta, ga_setf, gc_setf, gc_seta, ga_seta_ne, ga_seta_eq, gf_new, gc_new, gf_newo_o, gc_newo_o, ga_newo_o, ga_new, gf_newa_o, gc_newa_o, ga_newa_o, nx_setf, nx_seta, nx_newo, nx_newa, su_setf, su_seta, su_newo, su_newa, sg_setf, sg_seta, sg_newo, sg_newa, okq_n, Option.isSome_some]
  · simp (disch := first | omega | (simp (disch := omega) only [nx_setf, nx_seta, nx_newo, nx_newa]; omega)) only [gf_setf_ne, gf_setf_p, gf_setf_is, va_rf_s, va_rf_n, gf_seta, ga_setf, gc_setf, gc_seta, ga_seta_ne, ga_seta_eq, gf_new, gc_new, gf_newo_o, gc_newo_o, ga_newo_o, ga_new, gf_newa_o, gc_newa_o, ga_newa_o, nx_setf, nx_seta, nx_newo, nx_newa, su_setf, su_seta, su_newo, su_newa, sg_setf, sg_seta, sg_newo, sg_newa, okq_n, hi.m]
  · simp (disch := first | omega | (simp (disch := omega) only [nx_setf, nx_seta, nx_newo, nx_newa]; omega)) only [gf_setf_ne, gf_setf_p, gf_setf_is, va_rf_s, va_rf_n, gf_seta, ga_setf, gc_setf, gc_seta, ga_seta_ne, ga_seta_eq, gf_new, gc_new, gf_newo_o, gc_newo_o, ga_newo_o, ga_new, gf_newa_o, gc_newa_o, ga_newa_o, nx_setf, nx_seta, nx_newo, nx_newa, su_setf, su_seta, su_newo, su_newa, sg_setf, sg_seta, sg_newo, sg_newa, okq_n, hi.t]
end
