/-! what stands still; Integer -/
/-- the texts that the program names, by the number of their address -/
def txB (k : Nat) : List Nat := if k = 2 then [103, 97, 110, 116, 114, 121] else if k = 3 then [114, 111, 97, 100] else if k = 4 then [97, 99, 99, 111, 117, 110, 116] else if k = 5 then [118, 101, 104, 105, 99, 108, 101] else [115, 101, 116]
/-- facts of what stands below g0 -/
abbrev SgOK (g : Sg) (g0 : Nat) : Prop := (sAd g 1 < g0) ∧ (∃ e : Nat → Option Nat, sA g (sAd g 1) = some (10, (256, .inr (.inr (.inr (.inr e))))) ∧ ∀ k, k < 128 → ∃ q, q < g0 ∧ e (k + 128) = some q ∧ sC g q = some 21 ∧ sF g q 109 = some (.int (nI k))) ∧ (∀ k, 2 ≤ k → k ≤ 6 → sAd g k < g0 ∧ sC g (sAd g k) = some 5 ∧ sF g (sAd g k) 26 = some (.int (nI 0)) ∧ ∃ a e, a < g0 ∧ sF g (sAd g k) 25 = some (.ref a) ∧ sA g a = some (1, ((txB k).length, .inl e)) ∧ ∀ i x, (txB k)[i]? = some x → e i = nI x)
theorem SgOK.ia {g : Sg} {g0 : Nat} (h : SgOK g g0) : sAd g 1 < g0 := h.1
theorem SgOK.ic {g : Sg} {g0 : Nat} (h : SgOK g g0) : ∃ e : Nat → Option Nat, sA g (sAd g 1) = some (10, (256, .inr (.inr (.inr (.inr e))))) ∧ ∀ k, k < 128 → ∃ q, q < g0 ∧ e (k + 128) = some q ∧ sC g q = some 21 ∧ sF g q 109 = some (.int (nI k)) := h.2.1
theorem SgOK.tx {g : Sg} {g0 : Nat} (h : SgOK g g0) : ∀ k, 2 ≤ k → k ≤ 6 → sAd g k < g0 ∧ sC g (sAd g k) = some 5 ∧ sF g (sAd g k) 26 = some (.int (nI 0)) ∧ ∃ a e, a < g0 ∧ sF g (sAd g k) 25 = some (.ref a) ∧ sA g a = some (1, ((txB k).length, .inl e)) ∧ ∀ i x, (txB k)[i]? = some x → e i = nI x := h.2.2
/-- the part of a heap that stands still: labelled 0, not dynamic -/
abbrev St (A : Hp) (w : Lb) (g0 : Nat) : Prop := (g0 ≤ nx A) ∧ (∀ q, q < g0 → w q = 0) ∧ (∀ q, q < g0 → (∀ f, A.1 f q = none) ∧ A.2.1 q = none ∧ A.2.2.1 q = none) ∧ (SgOK (sg A) g0)
theorem St.nx0 {A : Hp} {w : Lb} {g0 : Nat} (h : St A w g0) : g0 ≤ nx A := h.1
theorem St.lb {A : Hp} {w : Lb} {g0 : Nat} (h : St A w g0) : ∀ q, q < g0 → w q = 0 := h.2.1
theorem St.nd {A : Hp} {w : Lb} {g0 : Nat} (h : St A w g0) : ∀ q, q < g0 → (∀ f, A.1 f q = none) ∧ A.2.1 q = none ∧ A.2.2.1 q = none := h.2.2.1
theorem St.sg0 {A : Hp} {w : Lb} {g0 : Nat} (h : St A w g0) : SgOK (sg A) g0 := h.2.2.2
/-- an Integer -/
abbrev InS (A : Hp) (p : Nat) (v : Int32) : Prop := (Kd A p 21) ∧ (gfs A p 109 = some (.int v))
theorem InS.k1 {A : Hp} {p : Nat} {v : Int32} (h : InS A p v) : Kd A p 21 := h.1
theorem InS.v1 {A : Hp} {p : Nat} {v : Int32} (h : InS A p v) : gfs A p 109 = some (.int v) := h.2
section
variable {A A' : Hp} {w w' : Lb} {X : Nat → Prop} {p q a n m d k x c s f l g0 : Nat} {v : Int32}
theorem St.fr (h : St A w g0) (f : Fr A w A' w' X c s) (h0 : ¬ X 0) : St A' w' g0 := by
  obtain ⟨h1, h2, h3, h4⟩ := h
  refine ⟨Nat.le_trans h1 f.n1, fun q hq => ?_, fun q hq => ?_, ?_⟩
  · have := (f.k q (by omega) (by rw [h2 q hq]; exact h0)).1
    rw [this]; exact h2 q hq
  · obtain ⟨a1, a2, a3⟩ := f.k q (by omega) (by rw [h2 q hq]; exact h0)
    obtain ⟨b1, b2, b3⟩ := h3 q hq
    exact ⟨fun f => (a2 f).trans (b1 f), (f.cl q (by omega)).trans b2, a3.trans b3⟩
  · have := f.e1
    rw [this]
    exact h4
theorem St.gF (h : St A w g0) (hq : q < g0) : gfs A q f = sF (sg A) q f := by
  unfold gfs gf
  rw [if_pos (Nat.lt_of_lt_of_le hq h.nx0), (h.nd q hq).1 f]
  rfl
theorem St.gC (h : St A w g0) (hq : q < g0) : gcs A q = sC (sg A) q := by
  unfold gcs gc
  rw [if_pos (Nat.lt_of_lt_of_le hq h.nx0), (h.nd q hq).2.1]
  rfl
theorem St.gA (h : St A w g0) (hq : q < g0) : gas A q = sA (sg A) q := by
  unfold gas ga
  rw [if_pos (Nat.lt_of_lt_of_le hq h.nx0), (h.nd q hq).2.2]
  rfl
theorem Fr.fds (h : Fr A w A' w' X c s) (hw : ¬ X (w p)) (hp : p < nx A) {v : Value} (e : gfs A p f = some v) : gfs A' p f = some v := by
  unfold gfs at e ⊢
  have e1 : gf A' p f = gf A p f := by
    unfold gf
    rw [if_pos hp, if_pos (Nat.lt_of_lt_of_le hp h.n1), (h.k p hp hw).2.1 f]
  rw [e1, h.e1]
  exact e
theorem InS.fr (h : InS A p v) (f : Fr A w A' w' X c s) (hp : ¬ X (w p)) : InS A' p v := ⟨f.cs h.k1, f.fds hp h.k1.1 h.v1⟩
theorem m_21 (h : InS A p v) : evG TB (d + 1) 21 [.ref p] A = some (.inl (some (.int v)), A) := by
  simp (disch := omega) only [e_21, x_21_0, x_21_1, x_21_4, kv_s, ki_s, kj_s, kd_s, kq_s, kq_n, kq_o, ka_s, kc_r, kc_t, kc0_r, kc0_t, kch_r, kc0h_r, kw_s, kw0_s, kwh_s, kw0h_s, rg_ref, rg_null, rg_rf, ck_t, sel_some, lkn_hd, Option.isSome_some, Bool.true_and, Bool.and_true, okv_i, okv_l, okv_r, okv_n, okv_rf, okv_b, okv_0, okv_1, okv_f, okv_d, c1_i, c1_r, c1_n, c1_rf, c1_f, nI_add, n_mul, n_sub, n_pred, n_eq, n_le, n_lt, n_neN, n_Nne, N_lt, N_le, n_ltN, n_leN, rdI_n, rdJ_n, rdD_n, wrI_n, wrI_z0, wrI_z1, wrI_zb, wrJ_n, wrD_n, aln_s, okn_n, upd_is, upd_ne, Nat.add_zero, Nat.add_sub_cancel, decide_true, decide_false, cond_true, cond_false, if_true, if_false, ite_not, not_true_eq_false, not_false_eq_true, Nat.reduceEqDiff, Nat.reduceAdd, Nat.reduceMul, Nat.reduceSub, Nat.reduceLeDiff, h.v1]
theorem n128 {g : Nat} (h : g < 2147483648) : (nI g < (-128 : Int32)) = False := by
  refine eq_false fun q => ?_
  have q := Int32.lt_iff_toInt_lt.mp q
  rw [nI_toInt (by omega)] at q
  have : (-128 : Int32).toInt = -128 := by decide
  omega
theorem dv21_109 : dv21 109 = some (.int (nI 0)) := rfl
/-- a number boxed -/
theorem m_25 (h : St A w g0) {g : Nat} (hg : g < 2147483648) : ∃ A' q, evG TB (d + 3) 25 [.int (nI g)] A = some (.inl (some (.ref q)), A') ∧ InS A' q (nI g) ∧ upL w (nx A) 0 q = 0 ∧ ∀ X, Fr A w A' (upL w (nx A) 0) X 1 1 := by
  rcases Nat.lt_or_ge g 128 with h1 | h1
  · have ia := h.sg0.ia
    obtain ⟨e, e1, e2⟩ := h.sg0.ic
    obtain ⟨q, q1, q2, q3, q4⟩ := e2 g h1
    have hx := h.nx0
    refine ⟨A, q, ?_, ⟨⟨Nat.lt_of_lt_of_le q1 hx, by rw [h.gC q1]; exact q3⟩, by rw [h.gF q1]; exact q4⟩, ?_, fun X => (Fr.lab (fun y hy _ => upL_ne (Nat.ne_of_lt hy))).mono (fun _ h => h) (Nat.zero_le _) (Nat.zero_le _)⟩
    · have e3 : gas A (sAd (sg A) 1) = some (10, (256, .inr (.inr (.inr (.inr e))))) := by rw [h.gA ia]; exact e1
      have e4 : rdQ (some (10, (256, .inr (.inr (.inr (.inr e)))))) (nI (g + 128)) = some (some q) := by rw [rdQ_n (by omega) (by omega) (by omega), q2]
      simp (disch := first | omega | (simp (disch := omega) only [nx_setf, nx_seta, nx_newo, nx_newa]; omega)) only [e_25, x_25_0, x_25_1, x_25_3, x_25_6, x_25_7, x_25_10, x_25_13, x_25_16, x_25_17, x_25_20, x_25_21, x_25_22, x_25_23, x_25_26, x_25_27, x_25_28, x_25_31, kv_s, ki_s, kj_s, kd_s, kq_s, kq_n, kq_o, ka_s, kc_r, kc_t, kc0_r, kc0_t, kch_r, kc0h_r, kw_s, kw0_s, kwh_s, kw0h_s, rg_ref, rg_null, rg_rf, ck_t, sel_some, lkn_hd, Option.isSome_some, Bool.true_and, Bool.and_true, okv_i, okv_l, okv_r, okv_n, okv_rf, okv_b, okv_0, okv_1, okv_f, okv_d, c1_i, c1_r, c1_n, c1_rf, c1_f, nI_add, n_mul, n_sub, n_pred, n_eq, n_le, n_lt, n_neN, n_Nne, N_lt, N_le, n_ltN, n_leN, rdI_n, rdJ_n, rdD_n, wrI_n, wrI_z0, wrI_z1, wrI_zb, wrJ_n, wrD_n, aln_s, okn_n, upd_is, upd_ne, Nat.add_zero, Nat.add_sub_cancel, decide_true, decide_false, cond_true, cond_false, if_true, if_false, ite_not, not_true_eq_false, not_false_eq_true, Nat.reduceEqDiff, Nat.reduceAdd, Nat.reduceMul, Nat.reduceSub, Nat.reduceLeDiff, n128, nlt (show g ≤ 127 by omega), e3, e4, va_rf_s]
    · rw [upL_ne (Nat.ne_of_lt (Nat.lt_of_lt_of_le q1 hx))]
      exact h.lb q q1
  · refine ⟨setf (newo A 21 1 dv21) (nx A) 109 (.int (nI g)), nx A, ?_, ⟨?_, ?_⟩, upL_is rfl, fun X => Fr.nwo.stn (Nat.le_refl _)⟩
    · simp (disch := first | omega | (simp (disch := omega) only [nx_setf, nx_seta, nx_newo, nx_newa]; omega)) only [e_25, x_25_0, x_25_1, x_25_3, x_25_6, x_25_7, x_25_10, x_25_13, x_25_16, x_25_17, x_25_20, x_25_21, x_25_22, x_25_23, x_25_26, x_25_27, x_25_28, x_25_31, e_26, x_26_0, x_26_1, x_26_4, x_26_5, x_26_6, x_26_9, e_20, x_20_0, x_20_1, x_20_4, kv_s, ki_s, kj_s, kd_s, kq_s, kq_n, kq_o, ka_s, kc_r, kc_t, kc0_r, kc0_t, kch_r, kc0h_r, kw_s, kw0_s, kwh_s, kw0h_s, rg_ref, rg_null, rg_rf, ck_t, sel_some, lkn_hd, Option.isSome_some, Bool.true_and, Bool.and_true, okv_i, okv_l, okv_r, okv_n, okv_rf, okv_b, okv_0, okv_1, okv_f, okv_d, c1_i, c1_r, c1_n, c1_rf, c1_f, nI_add, n_mul, n_sub, n_pred, n_eq, n_le, n_lt, n_neN, n_Nne, N_lt, N_le, n_ltN, n_leN, rdI_n, rdJ_n, rdD_n, wrI_n, wrI_z0, wrI_z1, wrI_zb, wrJ_n, wrD_n, aln_s, okn_n, upd_is, upd_ne, Nat.add_zero, Nat.add_sub_cancel, decide_true, decide_false, cond_true, cond_false, if_true, if_false, ite_not, not_true_eq_false, not_false_eq_true, Nat.reduceEqDiff, Nat.reduceAdd, Nat.reduceMul, Nat.reduceSub, Nat.reduceLeDiff, gf_setf_ne, gf_setf_p, gf_setf_is, va_rf_s, va_rf_n, gf_seta, ga_setf, gc_setf, gc_seta, ga_seta_ne, ga_seta_eq, gf_new, gc_new, gf_newo_o, gc_newo_o, ga_newo_o, ga_new, gf_newa_o, gc_newa_o, ga_newa_o, nx_setf, nx_seta, nx_newo, nx_newa, su_setf, su_seta, su_newo, su_newa, sg_setf, sg_seta, sg_newo, sg_newa, okq_n, n128, ylt (show 127 < g by omega), dv21_109]
    · exact Kd.of (by simp (disch := first | omega | (simp (disch := omega) only [nx_setf, nx_seta, nx_newo, nx_newa]; omega)) only [gf_setf_ne, gf_setf_p, gf_setf_is, va_rf_s, va_rf_n, gf_seta, ga_setf, gc_setf, gc_seta, ga_seta_ne, ga_seta_eq, gf_new, gc_new, gf_newo_o, gc_newo_o, ga_newo_o, ga_new, gf_newa_o, gc_newa_o, ga_newa_o, nx_setf, nx_seta, nx_newo, nx_newa, su_setf, su_seta, su_newo, su_newa, sg_setf, sg_seta, sg_newo, sg_newa, okq_n])
    · exact gfs_d (by simp (disch := first | omega | (simp (disch := omega) only [nx_setf, nx_seta, nx_newo, nx_newa]; omega)) only [gf_setf_ne, gf_setf_p, gf_setf_is, va_rf_s, va_rf_n, gf_seta, ga_setf, gc_setf, gc_seta, ga_seta_ne, ga_seta_eq, gf_new, gc_new, gf_newo_o, gc_newo_o, ga_newo_o, ga_new, gf_newa_o, gc_newa_o, ga_newa_o, nx_setf, nx_seta, nx_newo, nx_newa, su_setf, su_seta, su_newo, su_newa, sg_setf, sg_seta, sg_newo, sg_newa, okq_n])
theorem m_22 {q p : Nat} {a b : Nat} (h : InS A p (nI a)) (h2 : InS A q (nI b)) (ha : a < 2147483648) (hb : b < 2147483648) : evG TB (d + 3) 22 [.ref p, .ref q] A = some (.inl (some (.int (if a < b then nN else if a = b then nI 0 else nI 1))), A) := by
  have k1 := h.k1.2
  have k2 := h2.k1.2
  have c1 : cin (some 21) [21] = true := rfl
  rcases Nat.lt_trichotomy a b with c | c | c
  · rw [if_pos c]
    simp (disch := omega) only [e_22, x_22_0, x_22_1, x_22_2n, x_22_2r, x_22_5, x_22_8, e_23, x_23_0, x_23_1, x_23_4, x_23_5, x_23_8, x_23_11, e_24, x_24_0, x_24_1, x_24_2, x_24_5, x_24_6, x_24_9, x_24_10, x_24_11, x_24_14, x_24_15, x_24_18, x_24_19, kv_s, ki_s, kj_s, kd_s, kq_s, kq_n, kq_o, ka_s, kc_r, kc_t, kc0_r, kc0_t, kch_r, kc0h_r, kw_s, kw0_s, kwh_s, kw0h_s, rg_ref, rg_null, rg_rf, ck_t, sel_some, lkn_hd, Option.isSome_some, Bool.true_and, Bool.and_true, okv_i, okv_l, okv_r, okv_n, okv_rf, okv_b, okv_0, okv_1, okv_f, okv_d, c1_i, c1_r, c1_n, c1_rf, c1_f, nI_add, n_mul, n_sub, n_pred, n_eq, n_le, n_lt, n_neN, n_Nne, N_lt, N_le, n_ltN, n_leN, rdI_n, rdJ_n, rdD_n, wrI_n, wrI_z0, wrI_z1, wrI_zb, wrJ_n, wrD_n, aln_s, okn_n, upd_is, upd_ne, Nat.add_zero, Nat.add_sub_cancel, decide_true, decide_false, cond_true, cond_false, if_true, if_false, ite_not, not_true_eq_false, not_false_eq_true, Nat.reduceEqDiff, Nat.reduceAdd, Nat.reduceMul, Nat.reduceSub, Nat.reduceLeDiff, k1, k2, c1, h.v1, h2.v1, nle c]
  · subst c
    rw [if_neg (Nat.lt_irrefl _), if_pos rfl]
    simp (disch := omega) only [e_22, x_22_0, x_22_1, x_22_2n, x_22_2r, x_22_5, x_22_8, e_23, x_23_0, x_23_1, x_23_4, x_23_5, x_23_8, x_23_11, e_24, x_24_0, x_24_1, x_24_2, x_24_5, x_24_6, x_24_9, x_24_10, x_24_11, x_24_14, x_24_15, x_24_18, x_24_19, kv_s, ki_s, kj_s, kd_s, kq_s, kq_n, kq_o, ka_s, kc_r, kc_t, kc0_r, kc0_t, kch_r, kc0h_r, kw_s, kw0_s, kwh_s, kw0h_s, rg_ref, rg_null, rg_rf, ck_t, sel_some, lkn_hd, Option.isSome_some, Bool.true_and, Bool.and_true, okv_i, okv_l, okv_r, okv_n, okv_rf, okv_b, okv_0, okv_1, okv_f, okv_d, c1_i, c1_r, c1_n, c1_rf, c1_f, nI_add, n_mul, n_sub, n_pred, n_eq, n_le, n_lt, n_neN, n_Nne, N_lt, N_le, n_ltN, n_leN, rdI_n, rdJ_n, rdD_n, wrI_n, wrI_z0, wrI_z1, wrI_zb, wrJ_n, wrD_n, aln_s, okn_n, upd_is, upd_ne, Nat.add_zero, Nat.add_sub_cancel, decide_true, decide_false, cond_true, cond_false, if_true, if_false, ite_not, not_true_eq_false, not_false_eq_true, Nat.reduceEqDiff, Nat.reduceAdd, Nat.reduceMul, Nat.reduceSub, Nat.reduceLeDiff, k1, k2, c1, h.v1, h2.v1, yle (Nat.le_refl a)]
  · have e : (a = b) = False := eq_false (by omega)
    rw [if_neg (by omega), if_neg (by omega)]
    simp (disch := omega) only [e_22, x_22_0, x_22_1, x_22_2n, x_22_2r, x_22_5, x_22_8, e_23, x_23_0, x_23_1, x_23_4, x_23_5, x_23_8, x_23_11, e_24, x_24_0, x_24_1, x_24_2, x_24_5, x_24_6, x_24_9, x_24_10, x_24_11, x_24_14, x_24_15, x_24_18, x_24_19, kv_s, ki_s, kj_s, kd_s, kq_s, kq_n, kq_o, ka_s, kc_r, kc_t, kc0_r, kc0_t, kch_r, kc0h_r, kw_s, kw0_s, kwh_s, kw0h_s, rg_ref, rg_null, rg_rf, ck_t, sel_some, lkn_hd, Option.isSome_some, Bool.true_and, Bool.and_true, okv_i, okv_l, okv_r, okv_n, okv_rf, okv_b, okv_0, okv_1, okv_f, okv_d, c1_i, c1_r, c1_n, c1_rf, c1_f, nI_add, n_mul, n_sub, n_pred, n_eq, n_le, n_lt, n_neN, n_Nne, N_lt, N_le, n_ltN, n_leN, rdI_n, rdJ_n, rdD_n, wrI_n, wrI_z0, wrI_z1, wrI_zb, wrJ_n, wrD_n, aln_s, okn_n, upd_is, upd_ne, Nat.add_zero, Nat.add_sub_cancel, decide_true, decide_false, cond_true, cond_false, if_true, if_false, ite_not, not_true_eq_false, not_false_eq_true, Nat.reduceEqDiff, Nat.reduceAdd, Nat.reduceMul, Nat.reduceSub, Nat.reduceLeDiff, k1, k2, c1, h.v1, h2.v1, yle (Nat.le_of_lt c), e]
end
