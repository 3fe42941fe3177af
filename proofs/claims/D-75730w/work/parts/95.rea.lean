/-! the component's reads -/
def rdFn (S : Nat → Int32) (i : Nat) : Nat → Int32 := fun k => if k = 0 then nI i else if k = 1 then S (280 + 7 * i + 1) else if k = 2 then S (280 + 7 * i + 2) else if k = 3 then S (280 + 7 * i + 3) else if k = 4 then S (280 + 7 * i) else if k = 5 then S (280 + 7 * i + 4) else if k = 6 then S (280 + 7 * i + 5) else S (280 + 7 * i + 6)
/-- a billed read is frozen -/
def rlb (S : Nat → Int32) (b i : Nat) : Nat := if S (280 + 7 * i + 5) = nI 3 then 0 else (1000 * b + (100 + i))
abbrev WRd (A : Hp) (w : Lb) (b r n : Nat) (rO : Nat → Nat) (S : Nat → Int32) : Prop := (WL A w r ((1000 * b + 7)) n rO) ∧ (n ≤ 120) ∧ (∀ i, i < n → ObI A w (rO i) (rlb S b i) 17 89 8 (rdFn S i))
theorem WRd.l {A : Hp} {w : Lb} {b r n : Nat} {rO : Nat → Nat} {S : Nat → Int32} (hse1f : WRd A w b r n rO S) : WL A w r ((1000 * b + 7)) n rO := hse1f.1
theorem WRd.n120 {A : Hp} {w : Lb} {b r n : Nat} {rO : Nat → Nat} {S : Nat → Int32} (hse1f : WRd A w b r n rO S) : n ≤ 120 := hse1f.2.1
theorem WRd.o {A : Hp} {w : Lb} {b r n : Nat} {rO : Nat → Nat} {S : Nat → Int32} (hse1f : WRd A w b r n rO S) : ∀ i, i < n → ObI A w (rO i) (rlb S b i) 17 89 8 (rdFn S i) := hse1f.2.2
theorem dv17_k : ∀ k, k < 8 → dv17 (89 + k) = some (.int (nI 0)) := by
  intro k hk
  match k, hk with
  | 0, _ => rfl
  | 1, _ => rfl
  | 2, _ => rfl
  | 3, _ => rfl
  | 4, _ => rfl
  | 5, _ => rfl
  | 6, _ => rfl
  | 7, _ => rfl
section
variable {A A' : Hp} {w w' : Lb} {X : Nat → Prop} {b p q s a v r bl mk y l i d c u n : Nat} {S S' : Nat → Int32} {f g : Nat → Int32} {rO : Nat → Nat} {x z t k1 : Int32}
theorem rlb_c : rlb S b i = 0 ∨ rlb S b i = (1000 * b + (100 + i)) := by
  unfold rlb
  split
  · exact Or.inl rfl
  · exact Or.inr rfl
theorem WRd.fr (h : WRd A w b r n rO S) (k : Fr A w A' w' X c u) (h7 : ¬ X ((1000 * b + 7))) (h0 : ¬ X 0) (hx : ∀ i, i < 120 → ¬ X ((1000 * b + (100 + i)))) : WRd A' w' b r n rO S := ⟨h.l.fr k h7, h.n120, fun i hi => (h.o i hi).fr k (by
  rcases rlb_c (S := S) (b := b) (i := i) with e | e <;> rw [e]
  · exact h0
  · exact hx i (by have := h.n120; omega))⟩
theorem WRd.sc (h : WRd A w b r n rO S) (hS : ∀ j, 280 ≤ j → j < 280 + 7 * n → S' j = S j) : WRd A w b r n rO S' := ⟨h.l, h.n120, fun i hi => by
  have e : rlb S' b i = rlb S b i := by unfold rlb; rw [hS _ (by omega) (by omega)]
  rw [e]
  refine (h.o i hi).to (fun k hk => ?_)
  unfold rdFn
  rw [hS _ (by omega) (by omega), hS _ (by omega) (by omega), hS _ (by omega) (by omega), hS _ (by omega) (by omega), hS _ (by omega) (by omega), hS _ (by omega) (by omega), hS _ (by omega) (by omega)]⟩
/-- one read changes that isn't billed -/
theorem WRd.up (h : WRd A w b r n rO S) (hi : i < n) (k : Fr A w A' w' (fun l => l = (1000 * b + (100 + i))) c u) (hn : ObI A' w' (rO i) (rlb S' b i) 17 89 8 (rdFn S' i)) (hS : ∀ j, 280 ≤ j → j < 280 + 7 * n → (j < 280 + 7 * i ∨ 280 + 7 * i + 7 ≤ j) → S' j = S j) : WRd A' w' b r n rO S' := by
  obtain ⟨l, n120, o⟩ := h
  refine ⟨l.fr k (by omega), n120, fun j hj => ?_⟩
  by_cases z : j = i
  · rw [z]; exact hn
  · have e : rlb S' b j = rlb S b j := by unfold rlb; rw [hS _ (by omega) (by omega) (by omega)]
    rw [e]
    refine ((o j hj).fr k ?_).to (fun m hm => ?_)
    · rcases rlb_c (S := S) (b := b) (i := j) with e2 | e2 <;> rw [e2] <;> omega
    · unfold rdFn
      rw [hS _ (by omega) (by omega) (by omega), hS _ (by omega) (by omega) (by omega), hS _ (by omega) (by omega) (by omega), hS _ (by omega) (by omega) (by omega), hS _ (by omega) (by omega) (by omega), hS _ (by omega) (by omega) (by omega), hS _ (by omega) (by omega) (by omega)]
/-- a read laid -/
def reH (A : Hp) (x z t k1 : Int32) : Hp := setf (setf (setf (setf (setf (newo A 17 8 dv17) (nx A) 96 (.int nN)) (nx A) 89 (.int x)) (nx A) 90 (.int z)) (nx A) 91 (.int t)) (nx A) 92 (.int k1)
theorem reH_o : ObI (reH A x z t k1) (upL w (nx A) l) (nx A) l 17 89 8 (fun k => if k = 0 then x else if k = 1 then z else if k = 2 then t else if k = 3 then k1 else if k = 7 then nN else nI 0) := by
  have h0 : ObI (newo A 17 8 dv17) (upL w (nx A) l) (nx A) l 17 89 8 (fun _ => nI 0) := ⟨gc_new rfl, upL_is rfl, fun k hk => by rw [gf_new rfl]; exact dv17_k k hk⟩
  exact (((((h0.set 7 nN).set 0 x).set 1 z).set 2 t).set 3 k1).to (fun k hk => by grind)
theorem reH_fr : Fr A w (reH A x z t k1) (upL w (nx A) l) X 1 8 := ((((Fr.nwo.stn (Nat.le_refl _)).stn (Nat.le_refl _)).stn (Nat.le_refl _)).stn (Nat.le_refl _)).stn (Nat.le_refl _)
theorem bool_w {k1 : Int32} (h : k1 = nI 0 ∨ k1 = nI 1) : okv 5 (.int k1) = true := by rcases h with h | h <;> rw [h] <;> decide
theorem m_235 (hk : k1 = nI 0 ∨ k1 = nI 1) : evG TB (d + 2) 235 [.ref (nx A), .int x, .int z, .int t, .int k1] (newo A 17 8 dv17) = some (.inl none, reH A x z t k1) := by
  unfold reH
  have e89 := dv17_k 0 (by decide)
  have e90 := dv17_k 1 (by decide)
  have e91 := dv17_k 2 (by decide)
  have e92 := dv17_k 3 (by decide)
  have e96 := dv17_k 7 (by decide)
  rw [show 89 + 0 = 89 from rfl] at e89
  rw [show 89 + 1 = 90 from rfl] at e90
  rw [show 89 + 2 = 91 from rfl] at e91
  rw [show 89 + 3 = 92 from rfl] at e92
  rw [show 89 + 7 = 96 from rfl] at e96
  have o5 := bool_w hk
  simp (disch := first | omega | (simp (disch := omega) only [nx_setf, nx_seta, nx_newo, nx_newa]; omega)) only [e_235, x_235_0, x_235_1, x_235_4, x_235_5, x_235_6, x_235_9, x_235_10, x_235_11, x_235_14, x_235_15, x_235_16, x_235_19, x_235_20, x_235_21, x_235_24, x_235_25, x_235_27, x_235_30, kv_s, ki_s, kj_s, kd_s, kq_s, kq_n, kq_o, ka_s, kc_r, kc_t, kc0_r, kc0_t, kch_r, kc0h_r, kw_s, kw0_s, kwh_s, kw0h_s, rg_ref, rg_null, rg_rf, ck_t, sel_some, lkn_hd, Option.isSome_some, Bool.true_and, Bool.and_true, okv_i, okv_l, okv_r, okv_n, okv_rf, okv_b, okv_0, okv_1, okv_f, okv_d, c1_i, c1_r, c1_n, c1_rf, c1_f, nI_add, n_mul, n_sub, n_pred, n_eq, n_le, n_lt, n_neN, n_Nne, N_lt, N_le, n_ltN, n_leN, rdI_n, rdJ_n, rdD_n, wrI_n, wrI_z0, wrI_z1, wrI_zb, wrJ_n, wrD_n, aln_s, okn_n, upd_is, upd_ne, Nat.add_zero, Nat.add_sub_cancel, decide_true, decide_false, cond_true, cond_false, if_true, if_false, ite_not, not_true_eq_false, not_false_eq_true, Nat.reduceEqDiff, Nat.reduceAdd, Nat.reduceMul, Nat.reduceSub, Nat.reduceLeDiff, gf_setf_ne, gf_setf_p, gf_setf_is, va_rf_s, va_rf_n, gf_seta, ga_setf, gc_setf, gc_seta, ga_seta_ne, ga_seta_eq, gf_new, gc_new, gf_newo_o, gc_newo_o, ga_newo_o, ga_new, gf_newa_o, gc_newa_o, ga_newa_o, nx_setf, nx_seta, nx_newo, nx_newa, su_setf, su_seta, su_newo, su_newa, sg_setf, sg_seta, sg_newo, sg_newa, okq_n, e89, e90, e91, e92, e96, o5, ckT]
/-- what a read tells -/
theorem m_236 (h : ObI A w y l 17 89 8 (rdFn S i)) (hk : S (280 + 7 * i + 3) = nI 0 ∨ S (280 + 7 * i + 3) = nI 1) {j : Nat} (hj : j < 7) : evG TB (d + 1) 236 [.ref y, .int (nI j)] A = some (.inl (some (.int (S (280 + 7 * i + j)))), A) := by
  have h0 : gf A y 93 = some (.int (S (280 + 7 * i))) := h.fs 4 (by decide)
  have h1 : gf A y 90 = some (.int (S (280 + 7 * i + 1))) := h.fs 1 (by decide)
  have h2 : gf A y 91 = some (.int (S (280 + 7 * i + 2))) := h.fs 2 (by decide)
  have h3 : gf A y 92 = some (.int (S (280 + 7 * i + 3))) := h.fs 3 (by decide)
  have h4 : gf A y 94 = some (.int (S (280 + 7 * i + 4))) := h.fs 5 (by decide)
  have h5 : gf A y 95 = some (.int (S (280 + 7 * i + 5))) := h.fs 6 (by decide)
  have h6 : gf A y 96 = some (.int (S (280 + 7 * i + 6))) := h.fs 7 (by decide)
  have : j = 0 ∨ j = 1 ∨ j = 2 ∨ j = 3 ∨ j = 4 ∨ j = 5 ∨ j = 6 := by omega
  have s0 : swt 0 [40, 45, 50, 55, 68, 73] 78 (nI 0) = 40 := by decide
  have s1 : swt 0 [40, 45, 50, 55, 68, 73] 78 (nI 1) = 45 := by decide
  have s2 : swt 0 [40, 45, 50, 55, 68, 73] 78 (nI 2) = 50 := by decide
  have s3 : swt 0 [40, 45, 50, 55, 68, 73] 78 (nI 3) = 55 := by decide
  have s4 : swt 0 [40, 45, 50, 55, 68, 73] 78 (nI 4) = 68 := by decide
  have s5 : swt 0 [40, 45, 50, 55, 68, 73] 78 (nI 5) = 73 := by decide
  have s6 : swt 0 [40, 45, 50, 55, 68, 73] 78 (nI 6) = 78 := by decide
  rcases this with e | e | e | e | e | e | e <;> subst e
  · simp (disch := first | omega | (simp (disch := omega) only [nx_setf, nx_seta, nx_newo, nx_newa]; omega)) only [e_236, x_236_0, x_236_1, x_236_40, x_236_41, x_236_44, x_236_45, x_236_46, x_236_49, x_236_50, x_236_51, x_236_54, x_236_55, x_236_56, x_236_59, x_236_62, x_236_63, x_236_66, x_236_67, x_236_68, x_236_69, x_236_72, x_236_73, x_236_74, x_236_77, x_236_78, x_236_79, x_236_82, kv_s, ki_s, kj_s, kd_s, kq_s, kq_n, kq_o, ka_s, kc_r, kc_t, kc0_r, kc0_t, kch_r, kc0h_r, kw_s, kw0_s, kwh_s, kw0h_s, rg_ref, rg_null, rg_rf, ck_t, sel_some, lkn_hd, Option.isSome_some, Bool.true_and, Bool.and_true, okv_i, okv_l, okv_r, okv_n, okv_rf, okv_b, okv_0, okv_1, okv_f, okv_d, c1_i, c1_r, c1_n, c1_rf, c1_f, nI_add, n_mul, n_sub, n_pred, n_eq, n_le, n_lt, n_neN, n_Nne, N_lt, N_le, n_ltN, n_leN, rdI_n, rdJ_n, rdD_n, wrI_n, wrI_z0, wrI_z1, wrI_zb, wrJ_n, wrD_n, aln_s, okn_n, upd_is, upd_ne, Nat.add_zero, Nat.add_sub_cancel, decide_true, decide_false, cond_true, cond_false, if_true, if_false, ite_not, not_true_eq_false, not_false_eq_true, Nat.reduceEqDiff, Nat.reduceAdd, Nat.reduceMul, Nat.reduceSub, Nat.reduceLeDiff, s0, h0, Nat.add_zero]
  · simp (disch := first | omega | (simp (disch := omega) only [nx_setf, nx_seta, nx_newo, nx_newa]; omega)) only [e_236, x_236_0, x_236_1, x_236_40, x_236_41, x_236_44, x_236_45, x_236_46, x_236_49, x_236_50, x_236_51, x_236_54, x_236_55, x_236_56, x_236_59, x_236_62, x_236_63, x_236_66, x_236_67, x_236_68, x_236_69, x_236_72, x_236_73, x_236_74, x_236_77, x_236_78, x_236_79, x_236_82, kv_s, ki_s, kj_s, kd_s, kq_s, kq_n, kq_o, ka_s, kc_r, kc_t, kc0_r, kc0_t, kch_r, kc0h_r, kw_s, kw0_s, kwh_s, kw0h_s, rg_ref, rg_null, rg_rf, ck_t, sel_some, lkn_hd, Option.isSome_some, Bool.true_and, Bool.and_true, okv_i, okv_l, okv_r, okv_n, okv_rf, okv_b, okv_0, okv_1, okv_f, okv_d, c1_i, c1_r, c1_n, c1_rf, c1_f, nI_add, n_mul, n_sub, n_pred, n_eq, n_le, n_lt, n_neN, n_Nne, N_lt, N_le, n_ltN, n_leN, rdI_n, rdJ_n, rdD_n, wrI_n, wrI_z0, wrI_z1, wrI_zb, wrJ_n, wrD_n, aln_s, okn_n, upd_is, upd_ne, Nat.add_zero, Nat.add_sub_cancel, decide_true, decide_false, cond_true, cond_false, if_true, if_false, ite_not, not_true_eq_false, not_false_eq_true, Nat.reduceEqDiff, Nat.reduceAdd, Nat.reduceMul, Nat.reduceSub, Nat.reduceLeDiff, s1, h1]
  · simp (disch := first | omega | (simp (disch := omega) only [nx_setf, nx_seta, nx_newo, nx_newa]; omega)) only [e_236, x_236_0, x_236_1, x_236_40, x_236_41, x_236_44, x_236_45, x_236_46, x_236_49, x_236_50, x_236_51, x_236_54, x_236_55, x_236_56, x_236_59, x_236_62, x_236_63, x_236_66, x_236_67, x_236_68, x_236_69, x_236_72, x_236_73, x_236_74, x_236_77, x_236_78, x_236_79, x_236_82, kv_s, ki_s, kj_s, kd_s, kq_s, kq_n, kq_o, ka_s, kc_r, kc_t, kc0_r, kc0_t, kch_r, kc0h_r, kw_s, kw0_s, kwh_s, kw0h_s, rg_ref, rg_null, rg_rf, ck_t, sel_some, lkn_hd, Option.isSome_some, Bool.true_and, Bool.and_true, okv_i, okv_l, okv_r, okv_n, okv_rf, okv_b, okv_0, okv_1, okv_f, okv_d, c1_i, c1_r, c1_n, c1_rf, c1_f, nI_add, n_mul, n_sub, n_pred, n_eq, n_le, n_lt, n_neN, n_Nne, N_lt, N_le, n_ltN, n_leN, rdI_n, rdJ_n, rdD_n, wrI_n, wrI_z0, wrI_z1, wrI_zb, wrJ_n, wrD_n, aln_s, okn_n, upd_is, upd_ne, Nat.add_zero, Nat.add_sub_cancel, decide_true, decide_false, cond_true, cond_false, if_true, if_false, ite_not, not_true_eq_false, not_false_eq_true, Nat.reduceEqDiff, Nat.reduceAdd, Nat.reduceMul, Nat.reduceSub, Nat.reduceLeDiff, s2, h2]
  · rcases hk with e3 | e3
    · rw [e3] at h3 ⊢; simp (disch := first | omega | (simp (disch := omega) only [nx_setf, nx_seta, nx_newo, nx_newa]; omega)) only [e_236, x_236_0, x_236_1, x_236_40, x_236_41, x_236_44, x_236_45, x_236_46, x_236_49, x_236_50, x_236_51, x_236_54, x_236_55, x_236_56, x_236_59, x_236_62, x_236_63, x_236_66, x_236_67, x_236_68, x_236_69, x_236_72, x_236_73, x_236_74, x_236_77, x_236_78, x_236_79, x_236_82, kv_s, ki_s, kj_s, kd_s, kq_s, kq_n, kq_o, ka_s, kc_r, kc_t, kc0_r, kc0_t, kch_r, kc0h_r, kw_s, kw0_s, kwh_s, kw0h_s, rg_ref, rg_null, rg_rf, ck_t, sel_some, lkn_hd, Option.isSome_some, Bool.true_and, Bool.and_true, okv_i, okv_l, okv_r, okv_n, okv_rf, okv_b, okv_0, okv_1, okv_f, okv_d, c1_i, c1_r, c1_n, c1_rf, c1_f, nI_add, n_mul, n_sub, n_pred, n_eq, n_le, n_lt, n_neN, n_Nne, N_lt, N_le, n_ltN, n_leN, rdI_n, rdJ_n, rdD_n, wrI_n, wrI_z0, wrI_z1, wrI_zb, wrJ_n, wrD_n, aln_s, okn_n, upd_is, upd_ne, Nat.add_zero, Nat.add_sub_cancel, decide_true, decide_false, cond_true, cond_false, if_true, if_false, ite_not, not_true_eq_false, not_false_eq_true, Nat.reduceEqDiff, Nat.reduceAdd, Nat.reduceMul, Nat.reduceSub, Nat.reduceLeDiff, s3, h3]
    · rw [e3] at h3 ⊢; simp (disch := first | omega | (simp (disch := omega) only [nx_setf, nx_seta, nx_newo, nx_newa]; omega)) only [e_236, x_236_0, x_236_1, x_236_40, x_236_41, x_236_44, x_236_45, x_236_46, x_236_49, x_236_50, x_236_51, x_236_54, x_236_55, x_236_56, x_236_59, x_236_62, x_236_63, x_236_66, x_236_67, x_236_68, x_236_69, x_236_72, x_236_73, x_236_74, x_236_77, x_236_78, x_236_79, x_236_82, kv_s, ki_s, kj_s, kd_s, kq_s, kq_n, kq_o, ka_s, kc_r, kc_t, kc0_r, kc0_t, kch_r, kc0h_r, kw_s, kw0_s, kwh_s, kw0h_s, rg_ref, rg_null, rg_rf, ck_t, sel_some, lkn_hd, Option.isSome_some, Bool.true_and, Bool.and_true, okv_i, okv_l, okv_r, okv_n, okv_rf, okv_b, okv_0, okv_1, okv_f, okv_d, c1_i, c1_r, c1_n, c1_rf, c1_f, nI_add, n_mul, n_sub, n_pred, n_eq, n_le, n_lt, n_neN, n_Nne, N_lt, N_le, n_ltN, n_leN, rdI_n, rdJ_n, rdD_n, wrI_n, wrI_z0, wrI_z1, wrI_zb, wrJ_n, wrD_n, aln_s, okn_n, upd_is, upd_ne, Nat.add_zero, Nat.add_sub_cancel, decide_true, decide_false, cond_true, cond_false, if_true, if_false, ite_not, not_true_eq_false, not_false_eq_true, Nat.reduceEqDiff, Nat.reduceAdd, Nat.reduceMul, Nat.reduceSub, Nat.reduceLeDiff, s3, h3]
  · simp (disch := first | omega | (simp (disch := omega) only [nx_setf, nx_seta, nx_newo, nx_newa]; omega)) only [e_236, x_236_0, x_236_1, x_236_40, x_236_41, x_236_44, x_236_45, x_236_46, x_236_49, x_236_50, x_236_51, x_236_54, x_236_55, x_236_56, x_236_59, x_236_62, x_236_63, x_236_66, x_236_67, x_236_68, x_236_69, x_236_72, x_236_73, x_236_74, x_236_77, x_236_78, x_236_79, x_236_82, kv_s, ki_s, kj_s, kd_s, kq_s, kq_n, kq_o, ka_s, kc_r, kc_t, kc0_r, kc0_t, kch_r, kc0h_r, kw_s, kw0_s, kwh_s, kw0h_s, rg_ref, rg_null, rg_rf, ck_t, sel_some, lkn_hd, Option.isSome_some, Bool.true_and, Bool.and_true, okv_i, okv_l, okv_r, okv_n, okv_rf, okv_b, okv_0, okv_1, okv_f, okv_d, c1_i, c1_r, c1_n, c1_rf, c1_f, nI_add, n_mul, n_sub, n_pred, n_eq, n_le, n_lt, n_neN, n_Nne, N_lt, N_le, n_ltN, n_leN, rdI_n, rdJ_n, rdD_n, wrI_n, wrI_z0, wrI_z1, wrI_zb, wrJ_n, wrD_n, aln_s, okn_n, upd_is, upd_ne, Nat.add_zero, Nat.add_sub_cancel, decide_true, decide_false, cond_true, cond_false, if_true, if_false, ite_not, not_true_eq_false, not_false_eq_true, Nat.reduceEqDiff, Nat.reduceAdd, Nat.reduceMul, Nat.reduceSub, Nat.reduceLeDiff, s4, h4]
  · simp (disch := first | omega | (simp (disch := omega) only [nx_setf, nx_seta, nx_newo, nx_newa]; omega)) only [e_236, x_236_0, x_236_1, x_236_40, x_236_41, x_236_44, x_236_45, x_236_46, x_236_49, x_236_50, x_236_51, x_236_54, x_236_55, x_236_56, x_236_59, x_236_62, x_236_63, x_236_66, x_236_67, x_236_68, x_236_69, x_236_72, x_236_73, x_236_74, x_236_77, x_236_78, x_236_79, x_236_82, kv_s, ki_s, kj_s, kd_s, kq_s, kq_n, kq_o, ka_s, kc_r, kc_t, kc0_r, kc0_t, kch_r, kc0h_r, kw_s, kw0_s, kwh_s, kw0h_s, rg_ref, rg_null, rg_rf, ck_t, sel_some, lkn_hd, Option.isSome_some, Bool.true_and, Bool.and_true, okv_i, okv_l, okv_r, okv_n, okv_rf, okv_b, okv_0, okv_1, okv_f, okv_d, c1_i, c1_r, c1_n, c1_rf, c1_f, nI_add, n_mul, n_sub, n_pred, n_eq, n_le, n_lt, n_neN, n_Nne, N_lt, N_le, n_ltN, n_leN, rdI_n, rdJ_n, rdD_n, wrI_n, wrI_z0, wrI_z1, wrI_zb, wrJ_n, wrD_n, aln_s, okn_n, upd_is, upd_ne, Nat.add_zero, Nat.add_sub_cancel, decide_true, decide_false, cond_true, cond_false, if_true, if_false, ite_not, not_true_eq_false, not_false_eq_true, Nat.reduceEqDiff, Nat.reduceAdd, Nat.reduceMul, Nat.reduceSub, Nat.reduceLeDiff, s5, h5]
  · simp (disch := first | omega | (simp (disch := omega) only [nx_setf, nx_seta, nx_newo, nx_newa]; omega)) only [e_236, x_236_0, x_236_1, x_236_40, x_236_41, x_236_44, x_236_45, x_236_46, x_236_49, x_236_50, x_236_51, x_236_54, x_236_55, x_236_56, x_236_59, x_236_62, x_236_63, x_236_66, x_236_67, x_236_68, x_236_69, x_236_72, x_236_73, x_236_74, x_236_77, x_236_78, x_236_79, x_236_82, kv_s, ki_s, kj_s, kd_s, kq_s, kq_n, kq_o, ka_s, kc_r, kc_t, kc0_r, kc0_t, kch_r, kc0h_r, kw_s, kw0_s, kwh_s, kw0h_s, rg_ref, rg_null, rg_rf, ck_t, sel_some, lkn_hd, Option.isSome_some, Bool.true_and, Bool.and_true, okv_i, okv_l, okv_r, okv_n, okv_rf, okv_b, okv_0, okv_1, okv_f, okv_d, c1_i, c1_r, c1_n, c1_rf, c1_f, nI_add, n_mul, n_sub, n_pred, n_eq, n_le, n_lt, n_neN, n_Nne, N_lt, N_le, n_ltN, n_leN, rdI_n, rdJ_n, rdD_n, wrI_n, wrI_z0, wrI_z1, wrI_zb, wrJ_n, wrD_n, aln_s, okn_n, upd_is, upd_ne, Nat.add_zero, Nat.add_sub_cancel, decide_true, decide_false, cond_true, cond_false, if_true, if_false, ite_not, not_true_eq_false, not_false_eq_true, Nat.reduceEqDiff, Nat.reduceAdd, Nat.reduceMul, Nat.reduceSub, Nat.reduceLeDiff, s6, h6]
/-- a read copied -/
theorem m_237 (h : ObI A w y l 17 89 8 f) (hk : f 3 = nI 0 ∨ f 3 = nI 1) (l' : Nat) : ∃ A', evG TB (d + 3) 237 [.ref y] A = some (.inl (some (.ref (nx A))), A') ∧ ObI A' (upL w (nx A) l') (nx A) l' 17 89 8 f ∧ ∀ X, Fr A w A' (upL w (nx A) l') X 1 8 := by
  have hy := gc_lt h.c
  have h0 : gf A y 89 = some (.int (f 0)) := h.fs 0 (by decide)
  have h1 : gf A y 90 = some (.int (f 1)) := h.fs 1 (by decide)
  have h2 : gf A y 91 = some (.int (f 2)) := h.fs 2 (by decide)
  have h3 : gf A y 92 = some (.int (f 3)) := h.fs 3 (by decide)
  have no : ObI (reH A (f 0) (f 1) (f 2) (f 3)) (upL w (nx A) l') (nx A) l' 17 89 8 _ := reH_o
  have fr := fun X => reH_fr (A := A) (w := w) (l := l') (X := X) (x := f 0) (z := f 1) (t := f 2) (k1 := f 3)
  have yo : ∀ g v, gf A y g = some v → gf (reH A (f 0) (f 1) (f 2) (f 3)) y g = some v := fun g v hv => (fr (fun _ => False)).fd (fun z => z) hv
  refine ⟨setf (setf (setf (setf (reH A (f 0) (f 1) (f 2) (f 3)) (nx A) 93 (.int (f 4))) (nx A) 94 (.int (f 5))) (nx A) 95 (.int (f 6))) (nx A) 96 (.int (f 7)), ?_, ((((no.set 4 (f 4)).set 5 (f 5)).set 6 (f 6)).set 7 (f 7)).to (fun k hk => by grind), fun X => ((((fr X).stn (Nat.le_refl _)).stn (Nat.le_refl _)).stn (Nat.le_refl _)).stn (Nat.le_refl _)⟩
  have q235 := m_235 (A := A) (d := d) (x := f 0) (z := f 1) (t := f 2) hk
  have y4 : gf (reH A (f 0) (f 1) (f 2) (f 3)) y 93 = some (.int (f 4)) := yo _ _ (h.fs 4 (by decide))
  have y5 : gf (reH A (f 0) (f 1) (f 2) (f 3)) y 94 = some (.int (f 5)) := yo _ _ (h.fs 5 (by decide))
  have y6 : gf (reH A (f 0) (f 1) (f 2) (f 3)) y 95 = some (.int (f 6)) := yo _ _ (h.fs 6 (by decide))
  have y7 : gf (reH A (f 0) (f 1) (f 2) (f 3)) y 96 = some (.int (f 7)) := yo _ _ (h.fs 7 (by decide))
  have n4 : gf (reH A (f 0) (f 1) (f 2) (f 3)) (nx A) 93 = some (.int (nI 0)) := no.fs 4 (by decide)
  have n5 : gf (reH A (f 0) (f 1) (f 2) (f 3)) (nx A) 94 = some (.int (nI 0)) := no.fs 5 (by decide)
  have n6 : gf (reH A (f 0) (f 1) (f 2) (f 3)) (nx A) 95 = some (.int (nI 0)) := no.fs 6 (by decide)
  have n7 : gf (reH A (f 0) (f 1) (f 2) (f 3)) (nx A) 96 = some (.int nN) := no.fs 7 (by decide)
  have yn : y ≠ nx A := Nat.ne_of_lt hy
  have o5 := bool_w hk
  simp (disch := first | omega | (simp (disch := omega) only [nx_setf, nx_seta, nx_newo, nx_newa]; omega)) only [e_237, x_237_0, x_237_3, x_237_4, x_237_5, x_237_8, x_237_9, x_237_12, x_237_13, x_237_16, x_237_17, x_237_20, x_237_23, x_237_24, x_237_25, x_237_26, x_237_29, x_237_32, x_237_33, x_237_34, x_237_37, x_237_40, x_237_41, x_237_42, x_237_45, x_237_48, x_237_49, x_237_50, x_237_53, x_237_56, x_237_57, kv_s, ki_s, kj_s, kd_s, kq_s, kq_n, kq_o, ka_s, kc_r, kc_t, kc0_r, kc0_t, kch_r, kc0h_r, kw_s, kw0_s, kwh_s, kw0h_s, rg_ref, rg_null, rg_rf, ck_t, sel_some, lkn_hd, Option.isSome_some, Bool.true_and, Bool.and_true, okv_i, okv_l, okv_r, okv_n, okv_rf, okv_b, okv_0, okv_1, okv_f, okv_d, c1_i, c1_r, c1_n, c1_rf, c1_f, nI_add, n_mul, n_sub, n_pred, n_eq, n_le, n_lt, n_neN, n_Nne, N_lt, N_le, n_ltN, n_leN, rdI_n, rdJ_n, rdD_n, wrI_n, wrI_z0, wrI_z1, wrI_zb, wrJ_n, wrD_n, aln_s, okn_n, upd_is, upd_ne, Nat.add_zero, Nat.add_sub_cancel, decide_true, decide_false, cond_true, cond_false, if_true, if_false, ite_not, not_true_eq_false, not_false_eq_true, Nat.reduceEqDiff, Nat.reduceAdd, Nat.reduceMul, Nat.reduceSub, Nat.reduceLeDiff, gf_setf_ne, gf_setf_p, gf_setf_is, va_rf_s, va_rf_n, gf_seta, ga_setf, gc_setf, gc_seta, ga_seta_ne, ga_seta_eq, gf_new, gc_new, gf_newo_o, gc_newo_o, ga_newo_o, ga_new, gf_newa_o, gc_newa_o, ga_newa_o, nx_setf, nx_seta, nx_newo, nx_newa, su_setf, su_seta, su_newo, su_newa, sg_setf, sg_seta, sg_newo, sg_newa, okq_n, h0, h1, h2, h3, q235, y4, y5, y6, y7, n4, n5, n6, n7, o5, Option.isSome_some]
end
