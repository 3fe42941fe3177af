/-! the component's trips: what a trip tells -/
section
variable {A A' : Hp} {w w' : Lb} {X : Nat → Prop} {y l e ci b n c u d x k p : Nat} {r r' aO : Nat → Nat} {rs : List Nat} {ps : List (Nat × Bool)} {sz v : Int32} {t : Tp} {S f : Nat → Int32}
theorem RlO.get (h : RlO A w p l aO rs) (hk : k < rs.length) : evG TB (d + 3) 47 [.ref p, .int (nI k)] A = some (.inl (some (.ref (aO (rs.getD k 0)))), A) := WL.get h hk
theorem RlO.size (h : RlO A w p l aO rs) : evG TB (d + 1) 42 [.ref p] A = some (.inl (some (.int (nI rs.length))), A) := WL.size h
theorem RlO.kc (h : RlO A w p l aO rs) : gc A p = some 3 := WL.kc h
theorem m_244 (h : TpO A w y l e aO sz t) (hn : t.rs ≠ []) (hi : ∀ j, j ∈ t.rs → IV A (aO j) 17 89 8 (rdFn S j)) : evG TB (d + 4) 244 [.ref y] A = some (.inl (some (.int (fstT S t))), A) := by
  obtain ⟨r, r1, r2⟩ := h.rl
  have hl : 0 < t.rs.length := List.length_pos_iff.mpr hn
  have q47 := r2.get (d := d) hl
  have lc := r2.kc
  have e0 : t.rs.getD 0 0 = t.rs.headD 0 := by cases t.rs <;> rfl
  have hm : t.rs.headD 0 ∈ t.rs := by
    cases hr : t.rs with
    | nil => exact absurd hr hn
    | cons a b => exact List.mem_cons_self
  rw [e0] at q47
  have iv := hi _ hm
  have f91 : gf A (aO (t.rs.headD 0)) 91 = some (.int (S (280 + 7 * t.rs.headD 0 + 2))) := iv.fs 2 (by decide)
  have c17 : cin (gcs A (aO (t.rs.headD 0))) [17] = true := by rw [gcs_d iv.c]; rfl
  unfold fstT
  simp (disch := first | omega | (simp (disch := omega) only [nx_setf, nx_seta, nx_newo, nx_newa]; omega)) only [e_244, x_244_0, x_244_1, x_244_4, x_244_5, x_244_8n, x_244_8r, x_244_11, x_244_14, kv_s, ki_s, kj_s, kd_s, kq_s, kq_n, kq_o, ka_s, kc_r, kc_t, kc0_r, kc0_t, kch_r, kc0h_r, kw_s, kw0_s, kwh_s, kw0h_s, rg_ref, rg_null, rg_rf, ck_t, sel_some, lkn_hd, Option.isSome_some, Bool.true_and, Bool.and_true, okv_i, okv_l, okv_r, okv_n, okv_rf, okv_b, okv_0, okv_1, okv_f, okv_d, c1_i, c1_r, c1_n, c1_rf, c1_f, nI_add, n_mul, n_sub, n_pred, n_eq, n_le, n_lt, n_neN, n_Nne, N_lt, N_le, n_ltN, n_leN, rdI_n, rdJ_n, rdD_n, wrI_n, wrI_z0, wrI_z1, wrI_zb, wrJ_n, wrD_n, aln_s, okn_n, upd_is, upd_ne, Nat.add_zero, Nat.add_sub_cancel, decide_true, decide_false, cond_true, cond_false, if_true, if_false, ite_not, not_true_eq_false, not_false_eq_true, Nat.reduceEqDiff, Nat.reduceAdd, Nat.reduceMul, Nat.reduceSub, Nat.reduceLeDiff, r1, lc, q47, c17, ckT, f91]
theorem getD_last {l : List Nat} (h : l ≠ []) : l.getD (l.length - 1) 0 = l.getLastD 0 := by
  rw [List.getLastD_eq_getLast?, List.getLast?_eq_getElem?, List.getD_eq_getElem?_getD]
theorem last_mem {l : List Nat} (h : l ≠ []) : l.getLastD 0 ∈ l := by
  rw [← getD_last h, List.getD_eq_getElem?_getD, List.getElem?_eq_getElem (by have := List.length_pos_iff.mpr h; omega)]
  exact List.getElem_mem _
theorem m_245 (h : TpO A w y l e aO sz t) (hn : t.rs ≠ []) (hl2 : t.rs.length < 10000) (hi : ∀ j, j ∈ t.rs → IV A (aO j) 17 89 8 (rdFn S j)) : evG TB (d + 4) 245 [.ref y] A = some (.inl (some (.int (lstT S t))), A) := by
  obtain ⟨r, r1, r2⟩ := h.rl
  have hl : 0 < t.rs.length := List.length_pos_iff.mpr hn
  have q47 := r2.get (d := d) (k := t.rs.length - 1) (by omega)
  have q42 := r2.size (d := d + 2)
  have lc := r2.kc
  have hm := last_mem hn
  rw [getD_last hn] at q47
  have iv := hi _ hm
  have f91 : gf A (aO (t.rs.getLastD 0)) 91 = some (.int (S (280 + 7 * t.rs.getLastD 0 + 2))) := iv.fs 2 (by decide)
  have c17 : cin (gcs A (aO (t.rs.getLastD 0))) [17] = true := by rw [gcs_d iv.c]; rfl
  unfold lstT
  simp (disch := first | omega | (simp (disch := omega) only [nx_setf, nx_seta, nx_newo, nx_newa]; omega)) only [e_245, x_245_0, x_245_1, x_245_4, x_245_5, x_245_8, x_245_11, x_245_12, x_245_13, x_245_16n, x_245_16r, x_245_19, x_245_22, kv_s, ki_s, kj_s, kd_s, kq_s, kq_n, kq_o, ka_s, kc_r, kc_t, kc0_r, kc0_t, kch_r, kc0h_r, kw_s, kw0_s, kwh_s, kw0h_s, rg_ref, rg_null, rg_rf, ck_t, sel_some, lkn_hd, Option.isSome_some, Bool.true_and, Bool.and_true, okv_i, okv_l, okv_r, okv_n, okv_rf, okv_b, okv_0, okv_1, okv_f, okv_d, c1_i, c1_r, c1_n, c1_rf, c1_f, nI_add, n_mul, n_sub, n_pred, n_eq, n_le, n_lt, n_neN, n_Nne, N_lt, N_le, n_ltN, n_leN, rdI_n, rdJ_n, rdD_n, wrI_n, wrI_z0, wrI_z1, wrI_zb, wrJ_n, wrD_n, aln_s, okn_n, upd_is, upd_ne, Nat.add_zero, Nat.add_sub_cancel, decide_true, decide_false, cond_true, cond_false, if_true, if_false, ite_not, not_true_eq_false, not_false_eq_true, Nat.reduceEqDiff, Nat.reduceAdd, Nat.reduceMul, Nat.reduceSub, Nat.reduceLeDiff, r1, lc, q42, q47, c17, ckT, f91]
theorem m_246 (h : TpO A w y l e aO sz t) : evG TB (d + 1) 246 [.ref y] A = some (.inl (some (.int (t.to * sz))), A) := by
  simp (disch := first | omega | (simp (disch := omega) only [nx_setf, nx_seta, nx_newo, nx_newa]; omega)) only [e_246, x_246_0, x_246_1, x_246_4, x_246_5, x_246_8, x_246_9, kv_s, ki_s, kj_s, kd_s, kq_s, kq_n, kq_o, ka_s, kc_r, kc_t, kc0_r, kc0_t, kch_r, kc0h_r, kw_s, kw0_s, kwh_s, kw0h_s, rg_ref, rg_null, rg_rf, ck_t, sel_some, lkn_hd, Option.isSome_some, Bool.true_and, Bool.and_true, okv_i, okv_l, okv_r, okv_n, okv_rf, okv_b, okv_0, okv_1, okv_f, okv_d, c1_i, c1_r, c1_n, c1_rf, c1_f, nI_add, n_mul, n_sub, n_pred, n_eq, n_le, n_lt, n_neN, n_Nne, N_lt, N_le, n_ltN, n_leN, rdI_n, rdJ_n, rdD_n, wrI_n, wrI_z0, wrI_z1, wrI_zb, wrJ_n, wrD_n, aln_s, okn_n, upd_is, upd_ne, Nat.add_zero, Nat.add_sub_cancel, decide_true, decide_false, cond_true, cond_false, if_true, if_false, ite_not, not_true_eq_false, not_false_eq_true, Nat.reduceEqDiff, Nat.reduceAdd, Nat.reduceMul, Nat.reduceSub, Nat.reduceLeDiff, h.f131, h.f126]
theorem imgN_s {S : Nat → Int32} {l : List Nat} {x : Nat} : imgN S (l ++ [x]) = imgN S l + (if S (280 + 7 * x + 3) = nI 1 then 1 else 0) := by
  unfold imgN
  rw [List.countP_append]
  congr 1
  by_cases z : S (280 + 7 * x + 3) = nI 1
  · rw [if_pos z]; simp [z]
  · rw [if_neg z]; simp [z]
theorem take_s {l : List Nat} {k : Nat} (h : k < l.length) : l.take (k + 1) = l.take k ++ [l.getD k 0] := by
  rw [List.take_add_one, List.getElem?_eq_getElem h, List.getD_eq_getElem?_getD, List.getElem?_eq_getElem h]
  rfl
theorem m_247 (h : TpO A w y l e aO sz t) (hl2 : t.rs.length < 10000) (hi : ∀ j, j ∈ t.rs → IV A (aO j) 17 89 8 (rdFn S j)) (hk : ∀ j, j ∈ t.rs → S (280 + 7 * j + 3) = nI 0 ∨ S (280 + 7 * j + 3) = nI 1) : evG TB (d + 4) 247 [.ref y] A = some (.inl (some (.int (nI (imgN S t.rs)))), A) := by
  obtain ⟨r, r1, r2⟩ := h.rl
  have lc := r2.kc
  have q42 := r2.size (d := d + 2)
  have key : ∀ (k i : Nat), i + k = t.rs.length → exG TB (d + 3) 247 4 [some (.ref y), some (.int (nI (imgN S (t.rs.take i)))), some (.int (nI i))] [] A = some (.inl (some (.int (nI (imgN S t.rs)))), A) := by
    intro k
    induction k with
    | zero =>
      intro i hik
      have e : t.rs.take i = t.rs := by rw [show i = t.rs.length from by omega]; exact List.take_length
      rw [e]
      refine x_247_4.trans ?_
      simp (disch := first | omega | (simp (disch := omega) only [nx_setf, nx_seta, nx_newo, nx_newa]; omega)) only [x_247_5, x_247_6, x_247_9, x_247_12, x_247_15, x_247_16, x_247_17, x_247_20, x_247_21, x_247_24n, x_247_24r, x_247_27, x_247_30, x_247_33, x_247_34, x_247_37, x_247_38, x_247_39, x_247_40, x_247_43, x_247_46, x_247_47, kv_s, ki_s, kj_s, kd_s, kq_s, kq_n, kq_o, ka_s, kc_r, kc_t, kc0_r, kc0_t, kch_r, kc0h_r, kw_s, kw0_s, kwh_s, kw0h_s, rg_ref, rg_null, rg_rf, ck_t, sel_some, lkn_hd, Option.isSome_some, Bool.true_and, Bool.and_true, okv_i, okv_l, okv_r, okv_n, okv_rf, okv_b, okv_0, okv_1, okv_f, okv_d, c1_i, c1_r, c1_n, c1_rf, c1_f, nI_add, n_mul, n_sub, n_pred, n_eq, n_le, n_lt, n_neN, n_Nne, N_lt, N_le, n_ltN, n_leN, rdI_n, rdJ_n, rdD_n, wrI_n, wrI_z0, wrI_z1, wrI_zb, wrJ_n, wrD_n, aln_s, okn_n, upd_is, upd_ne, Nat.add_zero, Nat.add_sub_cancel, decide_true, decide_false, cond_true, cond_false, if_true, if_false, ite_not, not_true_eq_false, not_false_eq_true, Nat.reduceEqDiff, Nat.reduceAdd, Nat.reduceMul, Nat.reduceSub, Nat.reduceLeDiff, r1, lc, q42, yle (show t.rs.length ≤ i by omega)]
    | succ k ih =>
      intro i hik
      have hi2 : i < t.rs.length := by omega
      have q47 := r2.get (d := d) hi2
      have hm : t.rs.getD i 0 ∈ t.rs := by rw [List.getD_eq_getElem?_getD, List.getElem?_eq_getElem hi2]; exact List.getElem_mem _
      have iv := hi _ hm
      have c17 : cin (gcs A (aO (t.rs.getD i 0))) [17] = true := by rw [gcs_d iv.c]; rfl
      have f92 : gf A (aO (t.rs.getD i 0)) 92 = some (.int (S (280 + 7 * t.rs.getD i 0 + 3))) := iv.fs 3 (by decide)
      refine Eq.trans ?_ (ih (i + 1) (by omega))
      rw [take_s hi2, imgN_s]
      refine x_247_4.trans ?_
      rcases hk _ hm with z | z
      · rw [z] at f92 ⊢
        have z0 : (nI 0 = nI 1) = False := eq_false (by decide)
        simp (disch := first | omega | (simp (disch := omega) only [nx_setf, nx_seta, nx_newo, nx_newa]; omega)) only [x_247_5, x_247_6, x_247_9, x_247_12, x_247_15, x_247_16, x_247_17, x_247_20, x_247_21, x_247_24n, x_247_24r, x_247_27, x_247_30, x_247_33, x_247_34, x_247_37, x_247_38, x_247_39, x_247_40, x_247_43, x_247_46, x_247_47, kv_s, ki_s, kj_s, kd_s, kq_s, kq_n, kq_o, ka_s, kc_r, kc_t, kc0_r, kc0_t, kch_r, kc0h_r, kw_s, kw0_s, kwh_s, kw0h_s, rg_ref, rg_null, rg_rf, ck_t, sel_some, lkn_hd, Option.isSome_some, Bool.true_and, Bool.and_true, okv_i, okv_l, okv_r, okv_n, okv_rf, okv_b, okv_0, okv_1, okv_f, okv_d, c1_i, c1_r, c1_n, c1_rf, c1_f, nI_add, n_mul, n_sub, n_pred, n_eq, n_le, n_lt, n_neN, n_Nne, N_lt, N_le, n_ltN, n_leN, rdI_n, rdJ_n, rdD_n, wrI_n, wrI_z0, wrI_z1, wrI_zb, wrJ_n, wrD_n, aln_s, okn_n, upd_is, upd_ne, Nat.add_zero, Nat.add_sub_cancel, decide_true, decide_false, cond_true, cond_false, if_true, if_false, ite_not, not_true_eq_false, not_false_eq_true, Nat.reduceEqDiff, Nat.reduceAdd, Nat.reduceMul, Nat.reduceSub, Nat.reduceLeDiff, r1, lc, q42, nle hi2, q47, c17, ckT, f92, z0]
      · rw [z] at f92 ⊢
        simp (disch := first | omega | (simp (disch := omega) only [nx_setf, nx_seta, nx_newo, nx_newa]; omega)) only [x_247_5, x_247_6, x_247_9, x_247_12, x_247_15, x_247_16, x_247_17, x_247_20, x_247_21, x_247_24n, x_247_24r, x_247_27, x_247_30, x_247_33, x_247_34, x_247_37, x_247_38, x_247_39, x_247_40, x_247_43, x_247_46, x_247_47, kv_s, ki_s, kj_s, kd_s, kq_s, kq_n, kq_o, ka_s, kc_r, kc_t, kc0_r, kc0_t, kch_r, kc0h_r, kw_s, kw0_s, kwh_s, kw0h_s, rg_ref, rg_null, rg_rf, ck_t, sel_some, lkn_hd, Option.isSome_some, Bool.true_and, Bool.and_true, okv_i, okv_l, okv_r, okv_n, okv_rf, okv_b, okv_0, okv_1, okv_f, okv_d, c1_i, c1_r, c1_n, c1_rf, c1_f, nI_add, n_mul, n_sub, n_pred, n_eq, n_le, n_lt, n_neN, n_Nne, N_lt, N_le, n_ltN, n_leN, rdI_n, rdJ_n, rdD_n, wrI_n, wrI_z0, wrI_z1, wrI_zb, wrJ_n, wrD_n, aln_s, okn_n, upd_is, upd_ne, Nat.add_zero, Nat.add_sub_cancel, decide_true, decide_false, cond_true, cond_false, if_true, if_false, ite_not, not_true_eq_false, not_false_eq_true, Nat.reduceEqDiff, Nat.reduceAdd, Nat.reduceMul, Nat.reduceSub, Nat.reduceLeDiff, r1, lc, q42, nle hi2, q47, c17, ckT, f92]
  have k0 := key t.rs.length 0 (Nat.zero_add _)
  rw [← k0]
  simp (disch := first | omega | (simp (disch := omega) only [nx_setf, nx_seta, nx_newo, nx_newa]; omega)) only [e_247, x_247_0, x_247_1, x_247_2, x_247_3, kv_s, ki_s, kj_s, kd_s, kq_s, kq_n, kq_o, ka_s, kc_r, kc_t, kc0_r, kc0_t, kch_r, kc0h_r, kw_s, kw0_s, kwh_s, kw0h_s, rg_ref, rg_null, rg_rf, ck_t, sel_some, lkn_hd, Option.isSome_some, Bool.true_and, Bool.and_true, okv_i, okv_l, okv_r, okv_n, okv_rf, okv_b, okv_0, okv_1, okv_f, okv_d, c1_i, c1_r, c1_n, c1_rf, c1_f, nI_add, n_mul, n_sub, n_pred, n_eq, n_le, n_lt, n_neN, n_Nne, N_lt, N_le, n_ltN, n_leN, rdI_n, rdJ_n, rdD_n, wrI_n, wrI_z0, wrI_z1, wrI_zb, wrJ_n, wrD_n, aln_s, okn_n, upd_is, upd_ne, Nat.add_zero, Nat.add_sub_cancel, decide_true, decide_false, cond_true, cond_false, if_true, if_false, ite_not, not_true_eq_false, not_false_eq_true, Nat.reduceEqDiff, Nat.reduceAdd, Nat.reduceMul, Nat.reduceSub, Nat.reduceLeDiff]
  rfl
end
