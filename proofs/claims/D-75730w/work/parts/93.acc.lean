/-! the component's accounts -/
abbrev acA (e : Nat → Option Nat) : ArC := (7, (8, .inr (.inr (.inr (.inr e)))))
/-- an account object: balance percent after bills amounts refunds -/
abbrev AccO (A : Hp) (w : Lb) (y l : Nat) (f : Nat → Int32) : Prop := (gc A y = some 12) ∧ (w y = l) ∧ (gf A y 63 = some (.int (f 0))) ∧ (gf A y 64 = some (.int (f 1))) ∧ (gf A y 65 = some (.int (f 2))) ∧ (gf A y 66 = some (.int (f 3))) ∧ (gf A y 67 = some (.int (f 4))) ∧ (gf A y 68 = some (.int (f 5)))
theorem AccO.c {A : Hp} {w : Lb} {y l : Nat} {f : Nat → Int32} (hse1f : AccO A w y l f) : gc A y = some 12 := hse1f.1
theorem AccO.wy {A : Hp} {w : Lb} {y l : Nat} {f : Nat → Int32} (hse1f : AccO A w y l f) : w y = l := hse1f.2.1
theorem AccO.f0 {A : Hp} {w : Lb} {y l : Nat} {f : Nat → Int32} (hse1f : AccO A w y l f) : gf A y 63 = some (.int (f 0)) := hse1f.2.2.1
theorem AccO.f1 {A : Hp} {w : Lb} {y l : Nat} {f : Nat → Int32} (hse1f : AccO A w y l f) : gf A y 64 = some (.int (f 1)) := hse1f.2.2.2.1
theorem AccO.f2 {A : Hp} {w : Lb} {y l : Nat} {f : Nat → Int32} (hse1f : AccO A w y l f) : gf A y 65 = some (.int (f 2)) := hse1f.2.2.2.2.1
theorem AccO.f3 {A : Hp} {w : Lb} {y l : Nat} {f : Nat → Int32} (hse1f : AccO A w y l f) : gf A y 66 = some (.int (f 3)) := hse1f.2.2.2.2.2.1
theorem AccO.f4 {A : Hp} {w : Lb} {y l : Nat} {f : Nat → Int32} (hse1f : AccO A w y l f) : gf A y 67 = some (.int (f 4)) := hse1f.2.2.2.2.2.2.1
theorem AccO.f5 {A : Hp} {w : Lb} {y l : Nat} {f : Nat → Int32} (hse1f : AccO A w y l f) : gf A y 68 = some (.int (f 5)) := hse1f.2.2.2.2.2.2.2
def acF (S : Nat → Int32) (i : Nat) : Nat → Int32 := fun k => S (187 + 6 * i + k)
abbrev WAc (A : Hp) (w : Lb) (b a n : Nat) (aO : Nat → Nat) (S : Nat → Int32) : Prop := (w a = (1000 * b + 5)) ∧ (n ≤ 8) ∧ (∃ e, ga A a = some (acA e) ∧ ∀ i, i < n → e i = some (aO i) ∧ AccO A w (aO i) ((1000 * b + (20 + i))) (acF S i))
theorem WAc.wa {A : Hp} {w : Lb} {b a n : Nat} {aO : Nat → Nat} {S : Nat → Int32} (hse1f : WAc A w b a n aO S) : w a = (1000 * b + 5) := hse1f.1
theorem WAc.n8 {A : Hp} {w : Lb} {b a n : Nat} {aO : Nat → Nat} {S : Nat → Int32} (hse1f : WAc A w b a n aO S) : n ≤ 8 := hse1f.2.1
theorem WAc.e {A : Hp} {w : Lb} {b a n : Nat} {aO : Nat → Nat} {S : Nat → Int32} (hse1f : WAc A w b a n aO S) : ∃ e, ga A a = some (acA e) ∧ ∀ i, i < n → e i = some (aO i) ∧ AccO A w (aO i) ((1000 * b + (20 + i))) (acF S i) := hse1f.2.2
/-- the world's own object -/
abbrev WO (A : Hp) (w : Lb) (b p q s a v r bl mk : Nat) (n : Int32) : Prop := (gc A p = some 1) ∧ (w p = (1000 * b + 0)) ∧ (gf A p 6 = some (.ref q)) ∧ (gf A p 7 = some (.ref s)) ∧ (gf A p 8 = some (.ref a)) ∧ (gf A p 9 = some (.int n)) ∧ (gf A p 10 = some (.ref v)) ∧ (gf A p 11 = some (.ref r)) ∧ (gf A p 12 = some (.ref bl)) ∧ (gf A p 13 = some (.ref mk))
theorem WO.c {A : Hp} {w : Lb} {b p q s a v r bl mk : Nat} {n : Int32} (hse1f : WO A w b p q s a v r bl mk n) : gc A p = some 1 := hse1f.1
theorem WO.wp {A : Hp} {w : Lb} {b p q s a v r bl mk : Nat} {n : Int32} (hse1f : WO A w b p q s a v r bl mk n) : w p = (1000 * b + 0) := hse1f.2.1
theorem WO.f6 {A : Hp} {w : Lb} {b p q s a v r bl mk : Nat} {n : Int32} (hse1f : WO A w b p q s a v r bl mk n) : gf A p 6 = some (.ref q) := hse1f.2.2.1
theorem WO.f7 {A : Hp} {w : Lb} {b p q s a v r bl mk : Nat} {n : Int32} (hse1f : WO A w b p q s a v r bl mk n) : gf A p 7 = some (.ref s) := hse1f.2.2.2.1
theorem WO.f8 {A : Hp} {w : Lb} {b p q s a v r bl mk : Nat} {n : Int32} (hse1f : WO A w b p q s a v r bl mk n) : gf A p 8 = some (.ref a) := hse1f.2.2.2.2.1
theorem WO.f9 {A : Hp} {w : Lb} {b p q s a v r bl mk : Nat} {n : Int32} (hse1f : WO A w b p q s a v r bl mk n) : gf A p 9 = some (.int n) := hse1f.2.2.2.2.2.1
theorem WO.f10 {A : Hp} {w : Lb} {b p q s a v r bl mk : Nat} {n : Int32} (hse1f : WO A w b p q s a v r bl mk n) : gf A p 10 = some (.ref v) := hse1f.2.2.2.2.2.2.1
theorem WO.f11 {A : Hp} {w : Lb} {b p q s a v r bl mk : Nat} {n : Int32} (hse1f : WO A w b p q s a v r bl mk n) : gf A p 11 = some (.ref r) := hse1f.2.2.2.2.2.2.2.1
theorem WO.f12 {A : Hp} {w : Lb} {b p q s a v r bl mk : Nat} {n : Int32} (hse1f : WO A w b p q s a v r bl mk n) : gf A p 12 = some (.ref bl) := hse1f.2.2.2.2.2.2.2.2.1
theorem WO.f13 {A : Hp} {w : Lb} {b p q s a v r bl mk : Nat} {n : Int32} (hse1f : WO A w b p q s a v r bl mk n) : gf A p 13 = some (.ref mk) := hse1f.2.2.2.2.2.2.2.2.2
theorem dv12_63 : dv12 63 = some (.int (nI 0)) := rfl
theorem dv12_64 : dv12 64 = some (.int (nI 0)) := rfl
theorem dv12_65 : dv12 65 = some (.int (nI 0)) := rfl
theorem dv12_66 : dv12 66 = some (.int (nI 0)) := rfl
theorem dv12_67 : dv12 67 = some (.int (nI 0)) := rfl
theorem dv12_68 : dv12 68 = some (.int (nI 0)) := rfl
section
variable {A A' : Hp} {w w' : Lb} {X : Nat → Prop} {b p q s a v r bl mk y l i d c u n : Nat} {S S' : Nat → Int32} {f g : Nat → Int32} {aO : Nat → Nat} {x z t : Int32}
theorem AccO.fr (h : AccO A w y l f) (k : Fr A w A' w' X c u) (hl : ¬ X l) : AccO A' w' y l f := by
  obtain ⟨c1, wy, f0, f1, f2, f3, f4, f5⟩ := h
  have hy : ¬ X (w y) := by rw [wy]; exact hl
  exact ⟨k.cc c1, by rw [k.lb hy (gc_lt c1)]; exact wy, k.fd hy f0, k.fd hy f1, k.fd hy f2, k.fd hy f3, k.fd hy f4, k.fd hy f5⟩
theorem AccO.to (h : AccO A w y l f) (e : ∀ k, k < 6 → g k = f k) : AccO A w y l g := by
  obtain ⟨c1, wy, f0, f1, f2, f3, f4, f5⟩ := h
  exact ⟨c1, wy, by rw [e 0 (by decide)]; exact f0, by rw [e 1 (by decide)]; exact f1, by rw [e 2 (by decide)]; exact f2, by rw [e 3 (by decide)]; exact f3, by rw [e 4 (by decide)]; exact f4, by rw [e 5 (by decide)]; exact f5⟩
theorem WAc.fr (h : WAc A w b a n aO S) (k : Fr A w A' w' X c u) (h5 : ¬ X ((1000 * b + 5))) (hx : ∀ i, i < 8 → ¬ X ((1000 * b + (20 + i)))) : WAc A' w' b a n aO S := by
  obtain ⟨wa, n8, e, e1, e2⟩ := h
  have ha : ¬ X (w a) := by rw [wa]; exact h5
  exact ⟨by rw [k.lb ha (ga_lt e1)]; exact wa, n8, e, k.ar ha e1, fun i hi => ⟨(e2 i hi).1, (e2 i hi).2.fr k (hx i (by omega))⟩⟩
theorem WAc.sc (h : WAc A w b a n aO S) (hS : ∀ k, 187 ≤ k → k < 235 → S' k = S k) : WAc A w b a n aO S' := by
  obtain ⟨wa, n8, e, e1, e2⟩ := h
  exact ⟨wa, n8, e, e1, fun i hi => ⟨(e2 i hi).1, (e2 i hi).2.to (fun k hk => hS _ (by omega) (by omega))⟩⟩
theorem WO.fr (h : WO A w b p q s a v r bl mk x) (k : Fr A w A' w' X c u) (h0 : ¬ X ((1000 * b + 0))) : WO A' w' b p q s a v r bl mk x := by
  obtain ⟨c1, wp, f6, f7, f8, f9, f10, f11, f12, f13⟩ := h
  have hp : ¬ X (w p) := by rw [wp]; exact h0
  exact ⟨k.cc c1, by rw [k.lb hp (gc_lt c1)]; exact wp, k.fd hp f6, k.fd hp f7, k.fd hp f8, k.fd hp f9, k.fd hp f10, k.fd hp f11, k.fd hp f12, k.fd hp f13⟩
/-- one account changes -/
theorem WAc.up (h : WAc A w b a n aO S) (hi : i < n) (k : Fr A w A' w' (fun l => l = (1000 * b + (20 + i))) c u) (hn : AccO A' w' (aO i) ((1000 * b + (20 + i))) (acF S' i)) (hS : ∀ j, 187 ≤ j → j < 235 → (j < 187 + 6 * i ∨ 187 + 6 * i + 6 ≤ j) → S' j = S j) : WAc A' w' b a n aO S' := by
  obtain ⟨wa, n8, e, e1, e2⟩ := h
  have ha : ¬ (w a = (1000 * b + (20 + i))) := by rw [wa]; omega
  refine ⟨by rw [k.lb ha (ga_lt e1)]; exact wa, n8, e, k.ar ha e1, fun j hj => ⟨(e2 j hj).1, ?_⟩⟩
  by_cases z : j = i
  · rw [z]; exact hn
  · refine ((e2 j hj).2.fr k (by omega)).to (fun m hm => hS _ (by omega) (by omega) (by omega))
theorem AccO.set (h : AccO A w y l f) {j : Nat} (hj : j < 6) : AccO (setf A y (63 + j) (.int x)) w y l (fun k => if k = j then x else f k) := by
  obtain ⟨c1, wy, f0, f1, f2, f3, f4, f5⟩ := h
  have hy := gc_lt c1
  have key : ∀ k, k < 6 → gf A y (63 + k) = some (.int (f k)) → gf (setf A y (63 + j) (.int x)) y (63 + k) = some (.int (if k = j then x else f k)) := fun k hk hf => by
    by_cases z : k = j
    · rw [if_pos z, z]; exact gf_setf_is hy
    · rw [if_neg z, gf_setf_ne (by omega)]; exact hf
  exact ⟨c1, wy, key 0 (by decide) f0, key 1 (by decide) f1, key 2 (by decide) f2, key 3 (by decide) f3, key 4 (by decide) f4, key 5 (by decide) f5⟩
theorem m_420 (h : AccO A w y l f) : evG TB (d + 1) 420 [.ref y, .int x] A = some (.inl (some (.int (if f 3 + x < f 2 then nI 0 else f 1))), A) := by
  rcases pc (f 3 + x < f 2) with e | e
  · simp (disch := first | omega | (simp (disch := omega) only [nx_setf, nx_seta, nx_newo, nx_newa]; omega)) only [e_420, x_420_0, x_420_1, x_420_4, x_420_5, x_420_6, x_420_7, x_420_10, x_420_13, x_420_14, x_420_17, x_420_20, x_420_21, kv_s, ki_s, kj_s, kd_s, kq_s, kq_n, kq_o, ka_s, kc_r, kc_t, kc0_r, kc0_t, kch_r, kc0h_r, kw_s, kw0_s, kwh_s, kw0h_s, rg_ref, rg_null, rg_rf, ck_t, sel_some, lkn_hd, Option.isSome_some, Bool.true_and, Bool.and_true, okv_i, okv_l, okv_r, okv_n, okv_rf, okv_b, okv_0, okv_1, okv_f, okv_d, c1_i, c1_r, c1_n, c1_rf, c1_f, nI_add, n_mul, n_sub, n_pred, n_eq, n_le, n_lt, n_neN, n_Nne, N_lt, N_le, n_ltN, n_leN, rdI_n, rdJ_n, rdD_n, wrI_n, wrI_z0, wrI_z1, wrI_zb, wrJ_n, wrD_n, aln_s, okn_n, upd_is, upd_ne, Nat.add_zero, Nat.add_sub_cancel, decide_true, decide_false, cond_true, cond_false, if_true, if_false, ite_not, not_true_eq_false, not_false_eq_true, Nat.reduceEqDiff, Nat.reduceAdd, Nat.reduceMul, Nat.reduceSub, Nat.reduceLeDiff, h.f1, h.f2, h.f3, e]
  · simp (disch := first | omega | (simp (disch := omega) only [nx_setf, nx_seta, nx_newo, nx_newa]; omega)) only [e_420, x_420_0, x_420_1, x_420_4, x_420_5, x_420_6, x_420_7, x_420_10, x_420_13, x_420_14, x_420_17, x_420_20, x_420_21, kv_s, ki_s, kj_s, kd_s, kq_s, kq_n, kq_o, ka_s, kc_r, kc_t, kc0_r, kc0_t, kch_r, kc0h_r, kw_s, kw0_s, kwh_s, kw0h_s, rg_ref, rg_null, rg_rf, ck_t, sel_some, lkn_hd, Option.isSome_some, Bool.true_and, Bool.and_true, okv_i, okv_l, okv_r, okv_n, okv_rf, okv_b, okv_0, okv_1, okv_f, okv_d, c1_i, c1_r, c1_n, c1_rf, c1_f, nI_add, n_mul, n_sub, n_pred, n_eq, n_le, n_lt, n_neN, n_Nne, N_lt, N_le, n_ltN, n_leN, rdI_n, rdJ_n, rdD_n, wrI_n, wrI_z0, wrI_z1, wrI_zb, wrJ_n, wrD_n, aln_s, okn_n, upd_is, upd_ne, Nat.add_zero, Nat.add_sub_cancel, decide_true, decide_false, cond_true, cond_false, if_true, if_false, ite_not, not_true_eq_false, not_false_eq_true, Nat.reduceEqDiff, Nat.reduceAdd, Nat.reduceMul, Nat.reduceSub, Nat.reduceLeDiff, h.f1, h.f2, h.f3, e]
theorem m_421 (h : AccO A w y l f) : evG TB (d + 1) 421 [.ref y, .int x] A = some (.inl none, setf (setf (setf A y 63 (.int (f 0 - x))) y 67 (.int (f 4 + x))) y 66 (.int (f 3 + nI 1))) ∧ AccO (setf (setf (setf A y 63 (.int (f 0 - x))) y 67 (.int (f 4 + x))) y 66 (.int (f 3 + nI 1))) w y l (fun k => if k = 0 then f 0 - x else if k = 4 then f 4 + x else if k = 3 then f 3 + nI 1 else f k) ∧ Fr A w (setf (setf (setf A y 63 (.int (f 0 - x))) y 67 (.int (f 4 + x))) y 66 (.int (f 3 + nI 1))) w (fun z => z = l) 0 0 := by
  have hy := gc_lt h.c
  refine ⟨?_, ((((h.set (x := f 0 - x) (j := 0) (by decide)).set (x := f 4 + x) (j := 4) (by decide)).set (x := f 3 + nI 1) (j := 3) (by decide))).to (fun k hk => by grind), ((Fr.stf h.wy).trans (Fr.stf h.wy)).trans (Fr.stf h.wy)⟩
  simp (disch := first | omega | (simp (disch := omega) only [nx_setf, nx_seta, nx_newo, nx_newa]; omega)) only [e_421, x_421_0, x_421_1, x_421_2, x_421_5, x_421_6, x_421_7, x_421_10, x_421_11, x_421_12, x_421_15, x_421_16, x_421_17, x_421_20, x_421_21, x_421_22, x_421_25, x_421_26, x_421_27, x_421_30, kv_s, ki_s, kj_s, kd_s, kq_s, kq_n, kq_o, ka_s, kc_r, kc_t, kc0_r, kc0_t, kch_r, kc0h_r, kw_s, kw0_s, kwh_s, kw0h_s, rg_ref, rg_null, rg_rf, ck_t, sel_some, lkn_hd, Option.isSome_some, Bool.true_and, Bool.and_true, okv_i, okv_l, okv_r, okv_n, okv_rf, okv_b, okv_0, okv_1, okv_f, okv_d, c1_i, c1_r, c1_n, c1_rf, c1_f, nI_add, n_mul, n_sub, n_pred, n_eq, n_le, n_lt, n_neN, n_Nne, N_lt, N_le, n_ltN, n_leN, rdI_n, rdJ_n, rdD_n, wrI_n, wrI_z0, wrI_z1, wrI_zb, wrJ_n, wrD_n, aln_s, okn_n, upd_is, upd_ne, Nat.add_zero, Nat.add_sub_cancel, decide_true, decide_false, cond_true, cond_false, if_true, if_false, ite_not, not_true_eq_false, not_false_eq_true, Nat.reduceEqDiff, Nat.reduceAdd, Nat.reduceMul, Nat.reduceSub, Nat.reduceLeDiff, gf_setf_ne, gf_setf_p, gf_setf_is, va_rf_s, va_rf_n, gf_seta, ga_setf, gc_setf, gc_seta, ga_seta_ne, ga_seta_eq, gf_new, gc_new, gf_newo_o, gc_newo_o, ga_newo_o, ga_new, gf_newa_o, gc_newa_o, ga_newa_o, nx_setf, nx_seta, nx_newo, nx_newa, su_setf, su_seta, su_newo, su_newa, sg_setf, sg_seta, sg_newo, sg_newa, okq_n, h.f0, h.f3, h.f4]
theorem m_422 (h : AccO A w y l f) : evG TB (d + 1) 422 [.ref y, .int x] A = some (.inl none, setf (setf A y 63 (.int (f 0 + x))) y 68 (.int (f 5 + x))) ∧ AccO (setf (setf A y 63 (.int (f 0 + x))) y 68 (.int (f 5 + x))) w y l (fun k => if k = 0 then f 0 + x else if k = 5 then f 5 + x else f k) ∧ Fr A w (setf (setf A y 63 (.int (f 0 + x))) y 68 (.int (f 5 + x))) w (fun z => z = l) 0 0 := by
  have hy := gc_lt h.c
  refine ⟨?_, ((h.set (x := f 0 + x) (j := 0) (by decide)).set (x := f 5 + x) (j := 5) (by decide)).to (fun k hk => by grind), (Fr.stf h.wy).trans (Fr.stf h.wy)⟩
  simp (disch := first | omega | (simp (disch := omega) only [nx_setf, nx_seta, nx_newo, nx_newa]; omega)) only [e_422, x_422_0, x_422_1, x_422_2, x_422_5, x_422_6, x_422_7, x_422_10, x_422_11, x_422_12, x_422_15, x_422_16, x_422_17, x_422_20, kv_s, ki_s, kj_s, kd_s, kq_s, kq_n, kq_o, ka_s, kc_r, kc_t, kc0_r, kc0_t, kch_r, kc0h_r, kw_s, kw0_s, kwh_s, kw0h_s, rg_ref, rg_null, rg_rf, ck_t, sel_some, lkn_hd, Option.isSome_some, Bool.true_and, Bool.and_true, okv_i, okv_l, okv_r, okv_n, okv_rf, okv_b, okv_0, okv_1, okv_f, okv_d, c1_i, c1_r, c1_n, c1_rf, c1_f, nI_add, n_mul, n_sub, n_pred, n_eq, n_le, n_lt, n_neN, n_Nne, N_lt, N_le, n_ltN, n_leN, rdI_n, rdJ_n, rdD_n, wrI_n, wrI_z0, wrI_z1, wrI_zb, wrJ_n, wrD_n, aln_s, okn_n, upd_is, upd_ne, Nat.add_zero, Nat.add_sub_cancel, decide_true, decide_false, cond_true, cond_false, if_true, if_false, ite_not, not_true_eq_false, not_false_eq_true, Nat.reduceEqDiff, Nat.reduceAdd, Nat.reduceMul, Nat.reduceSub, Nat.reduceLeDiff, gf_setf_ne, gf_setf_p, gf_setf_is, va_rf_s, va_rf_n, gf_seta, ga_setf, gc_setf, gc_seta, ga_seta_ne, ga_seta_eq, gf_new, gc_new, gf_newo_o, gc_newo_o, ga_newo_o, ga_new, gf_newa_o, gc_newa_o, ga_newa_o, nx_setf, nx_seta, nx_newo, nx_newa, su_setf, su_seta, su_newo, su_newa, sg_setf, sg_seta, sg_newo, sg_newa, okq_n, h.f0, h.f5]
/-- an account laid -/
def acH (A : Hp) (x z t : Int32) : Hp := setf (setf (setf (newo A 12 6 dv12) (nx A) 63 (.int x)) (nx A) 64 (.int z)) (nx A) 65 (.int t)
theorem acH_o (hl : l ≠ 0 ∨ True) : AccO (acH A x z t) (upL w (nx A) l) (nx A) l (fun k => if k = 0 then x else if k = 1 then z else if k = 2 then t else nI 0) := by
  unfold acH
  refine ⟨?_, upL_is rfl, ?_, ?_, ?_, ?_, ?_, ?_⟩
  · simp (disch := first | omega | (simp (disch := omega) only [nx_setf, nx_seta, nx_newo, nx_newa]; omega)) only [gf_setf_ne, gf_setf_p, gf_setf_is, va_rf_s, va_rf_n, gf_seta, ga_setf, gc_setf, gc_seta, ga_seta_ne, ga_seta_eq, gf_new, gc_new, gf_newo_o, gc_newo_o, ga_newo_o, ga_new, gf_newa_o, gc_newa_o, ga_newa_o, nx_setf, nx_seta, nx_newo, nx_newa, su_setf, su_seta, su_newo, su_newa, sg_setf, sg_seta, sg_newo, sg_newa, okq_n]
  · simp (disch := first | omega | (simp (disch := omega) only [nx_setf, nx_seta, nx_newo, nx_newa]; omega)) only [gf_setf_ne, gf_setf_p, gf_setf_is, va_rf_s, va_rf_n, gf_seta, ga_setf, gc_setf, gc_seta, ga_seta_ne, ga_seta_eq, gf_new, gc_new, gf_newo_o, gc_newo_o, ga_newo_o, ga_new, gf_newa_o, gc_newa_o, ga_newa_o, nx_setf, nx_seta, nx_newo, nx_newa, su_setf, su_seta, su_newo, su_newa, sg_setf, sg_seta, sg_newo, sg_newa, okq_n]; rfl
  · simp (disch := first | omega | (simp (disch := omega) only [nx_setf, nx_seta, nx_newo, nx_newa]; omega)) only [gf_setf_ne, gf_setf_p, gf_setf_is, va_rf_s, va_rf_n, gf_seta, ga_setf, gc_setf, gc_seta, ga_seta_ne, ga_seta_eq, gf_new, gc_new, gf_newo_o, gc_newo_o, ga_newo_o, ga_new, gf_newa_o, gc_newa_o, ga_newa_o, nx_setf, nx_seta, nx_newo, nx_newa, su_setf, su_seta, su_newo, su_newa, sg_setf, sg_seta, sg_newo, sg_newa, okq_n]; rfl
  · simp (disch := first | omega | (simp (disch := omega) only [nx_setf, nx_seta, nx_newo, nx_newa]; omega)) only [gf_setf_ne, gf_setf_p, gf_setf_is, va_rf_s, va_rf_n, gf_seta, ga_setf, gc_setf, gc_seta, ga_seta_ne, ga_seta_eq, gf_new, gc_new, gf_newo_o, gc_newo_o, ga_newo_o, ga_new, gf_newa_o, gc_newa_o, ga_newa_o, nx_setf, nx_seta, nx_newo, nx_newa, su_setf, su_seta, su_newo, su_newa, sg_setf, sg_seta, sg_newo, sg_newa, okq_n]; rfl
  · simp (disch := first | omega | (simp (disch := omega) only [nx_setf, nx_seta, nx_newo, nx_newa]; omega)) only [gf_setf_ne, gf_setf_p, gf_setf_is, va_rf_s, va_rf_n, gf_seta, ga_setf, gc_setf, gc_seta, ga_seta_ne, ga_seta_eq, gf_new, gc_new, gf_newo_o, gc_newo_o, ga_newo_o, ga_new, gf_newa_o, gc_newa_o, ga_newa_o, nx_setf, nx_seta, nx_newo, nx_newa, su_setf, su_seta, su_newo, su_newa, sg_setf, sg_seta, sg_newo, sg_newa, okq_n, dv12_66]; rfl
  · simp (disch := first | omega | (simp (disch := omega) only [nx_setf, nx_seta, nx_newo, nx_newa]; omega)) only [gf_setf_ne, gf_setf_p, gf_setf_is, va_rf_s, va_rf_n, gf_seta, ga_setf, gc_setf, gc_seta, ga_seta_ne, ga_seta_eq, gf_new, gc_new, gf_newo_o, gc_newo_o, ga_newo_o, ga_new, gf_newa_o, gc_newa_o, ga_newa_o, nx_setf, nx_seta, nx_newo, nx_newa, su_setf, su_seta, su_newo, su_newa, sg_setf, sg_seta, sg_newo, sg_newa, okq_n, dv12_67]; rfl
  · simp (disch := first | omega | (simp (disch := omega) only [nx_setf, nx_seta, nx_newo, nx_newa]; omega)) only [gf_setf_ne, gf_setf_p, gf_setf_is, va_rf_s, va_rf_n, gf_seta, ga_setf, gc_setf, gc_seta, ga_seta_ne, ga_seta_eq, gf_new, gc_new, gf_newo_o, gc_newo_o, ga_newo_o, ga_new, gf_newa_o, gc_newa_o, ga_newa_o, nx_setf, nx_seta, nx_newo, nx_newa, su_setf, su_seta, su_newo, su_newa, sg_setf, sg_seta, sg_newo, sg_newa, okq_n, dv12_68]; rfl
theorem acH_fr : Fr A w (acH A x z t) (upL w (nx A) l) X 1 6 := ((Fr.nwo.stn (Nat.le_refl _)).stn (Nat.le_refl _)).stn (Nat.le_refl _)
/-- an account more -/
theorem m_258 (h : WAc A w b a n aO S) (o : WO A w b p q s a v r bl mk (nI n)) (hn : n < 8) (hS : ∀ j, 187 ≤ j → j < 187 + 6 * n → S' j = S j) (hx : S' (187 + 6 * n) = x ∧ S' (187 + 6 * n + 1) = z ∧ S' (187 + 6 * n + 2) = t ∧ S' (187 + 6 * n + 3) = nI 0 ∧ S' (187 + 6 * n + 4) = nI 0 ∧ S' (187 + 6 * n + 5) = nI 0) :
    ∃ A' w', evG TB (d + 2) 258 [.ref p, .int x, .int z, .int t] A = some (.inl (some (.int (nI n))), A') ∧ WAc A' w' b a (n + 1) (updN aO n (nx A)) S' ∧ WO A' w' b p q s a v r bl mk (nI (n + 1)) ∧ Fr A w A' w' (fun l => l = (1000 * b + 0) ∨ l = (1000 * b + 5)) 1 6 := by
  have o' := o
  obtain ⟨c1, wp, f6, f7, f8, f9, f10, f11, f12, f13⟩ := o
  obtain ⟨wa, n8, e, e1, e2⟩ := h
  have hp := gc_lt c1
  have la := ga_lt e1
  have wp' : upL w (nx A) ((1000 * b + (20 + n))) p = (1000 * b + 0) := by rw [upL_ne (Nat.ne_of_lt hp)]; exact wp
  have wa' : upL w (nx A) ((1000 * b + (20 + n))) a = (1000 * b + 5) := by rw [upL_ne (Nat.ne_of_lt la)]; exact wa
  have fa : Fr A w (acH A x z t) (upL w (nx A) ((1000 * b + (20 + n)))) (fun l => l = (1000 * b + 0) ∨ l = (1000 * b + 5)) 1 6 := acH_fr
  have no : AccO (acH A x z t) (upL w (nx A) ((1000 * b + (20 + n)))) (nx A) ((1000 * b + (20 + n))) _ := acH_o (Or.inr trivial)
  have fb : Fr (acH A x z t) (upL w (nx A) ((1000 * b + (20 + n)))) (setf (seta (acH A x z t) a (acA (va_up e n (some (nx A))))) p 9 (.int (nI (n + 1)))) (upL w (nx A) ((1000 * b + (20 + n)))) (fun l => l = (1000 * b + 0) ∨ l = (1000 * b + 5)) 0 0 := (Fr.sta (Or.inr wa')).trans (Fr.stf (Or.inl wp'))
  have f := (fa.trans fb).mono (fun _ h => h) (c' := 1) (s' := 6) (Nat.le_refl _) (Nat.le_refl _)
  have la2 : a < nx (acH A x z t) := Nat.lt_succ_of_lt la
  have hp2 : p < nx (acH A x z t) := Nat.lt_succ_of_lt hp
  have po : ∀ g, gf (acH A x z t) p g = gf A p g := fun g => by unfold acH; simp (disch := first | omega | (simp (disch := omega) only [nx_setf, nx_seta, nx_newo, nx_newa]; omega)) only [gf_setf_ne, gf_setf_p, gf_setf_is, va_rf_s, va_rf_n, gf_seta, ga_setf, gc_setf, gc_seta, ga_seta_ne, ga_seta_eq, gf_new, gc_new, gf_newo_o, gc_newo_o, ga_newo_o, ga_new, gf_newa_o, gc_newa_o, ga_newa_o, nx_setf, nx_seta, nx_newo, nx_newa, su_setf, su_seta, su_newo, su_newa, sg_setf, sg_seta, sg_newo, sg_newa, okq_n]
  have hoo : ∀ g v, g ≠ 9 → gf A p g = some v → gf (setf (seta (acH A x z t) a (acA (va_up e n (some (nx A))))) p 9 (.int (nI (n + 1)))) p g = some v := fun g v hg hv => by
    rw [gf_setf_ne hg, gf_seta, po g]; exact hv
  refine ⟨_, _, ?_, ⟨wa', hn, va_up e n (some (nx A)), ?_, fun i hi => ?_⟩, ⟨f.cc c1, wp', hoo _ _ (by decide) f6, hoo _ _ (by decide) f7, hoo _ _ (by decide) f8, gf_setf_is hp2, hoo _ _ (by decide) f10, hoo _ _ (by decide) f11, hoo _ _ (by decide) f12, hoo _ _ (by decide) f13⟩, f⟩
  · have q419 : evG TB (d + 1) 419 [.ref (nx A), .int x, .int z, .int t] (newo A 12 6 dv12) = some (.inl none, acH A x z t) := by
      unfold acH
      simp (disch := first | omega | (simp (disch := omega) only [nx_setf, nx_seta, nx_newo, nx_newa]; omega)) only [e_419, x_419_0, x_419_1, x_419_4, x_419_5, x_419_6, x_419_9, x_419_10, x_419_11, x_419_14, x_419_15, x_419_16, x_419_19, kv_s, ki_s, kj_s, kd_s, kq_s, kq_n, kq_o, ka_s, kc_r, kc_t, kc0_r, kc0_t, kch_r, kc0h_r, kw_s, kw0_s, kwh_s, kw0h_s, rg_ref, rg_null, rg_rf, ck_t, sel_some, lkn_hd, Option.isSome_some, Bool.true_and, Bool.and_true, okv_i, okv_l, okv_r, okv_n, okv_rf, okv_b, okv_0, okv_1, okv_f, okv_d, c1_i, c1_r, c1_n, c1_rf, c1_f, nI_add, n_mul, n_sub, n_pred, n_eq, n_le, n_lt, n_neN, n_Nne, N_lt, N_le, n_ltN, n_leN, rdI_n, rdJ_n, rdD_n, wrI_n, wrI_z0, wrI_z1, wrI_zb, wrJ_n, wrD_n, aln_s, okn_n, upd_is, upd_ne, Nat.add_zero, Nat.add_sub_cancel, decide_true, decide_false, cond_true, cond_false, if_true, if_false, ite_not, not_true_eq_false, not_false_eq_true, Nat.reduceEqDiff, Nat.reduceAdd, Nat.reduceMul, Nat.reduceSub, Nat.reduceLeDiff, gf_setf_ne, gf_setf_p, gf_setf_is, va_rf_s, va_rf_n, gf_seta, ga_setf, gc_setf, gc_seta, ga_seta_ne, ga_seta_eq, gf_new, gc_new, gf_newo_o, gc_newo_o, ga_newo_o, ga_new, gf_newa_o, gc_newa_o, ga_newa_o, nx_setf, nx_seta, nx_newo, nx_newa, su_setf, su_seta, su_newo, su_newa, sg_setf, sg_seta, sg_newo, sg_newa, okq_n, dv12_63, dv12_64, dv12_65]
    have wr : wrQ (some (acA e)) (nI n) (some (nx A)) = some (acA (va_up e n (some (nx A)))) := wrQ_n (by omega) (by omega) (by omega)
    have ok : okq (acH A x z t) [12] (.ref (nx A)) = true := by
      show cin (gcs _ (nx A)) [12] = true
      rw [gcs_d no.c]; rfl
    have at7 : atag (some (acA e)) 7 = true := rfl
    have e1' : ga (acH A x z t) a = some (acA e) := by unfold acH; simp (disch := first | omega | (simp (disch := omega) only [nx_setf, nx_seta, nx_newo, nx_newa]; omega)) only [gf_setf_ne, gf_setf_p, gf_setf_is, va_rf_s, va_rf_n, gf_seta, ga_setf, gc_setf, gc_seta, ga_seta_ne, ga_seta_eq, gf_new, gc_new, gf_newo_o, gc_newo_o, ga_newo_o, ga_new, gf_newa_o, gc_newa_o, ga_newa_o, nx_setf, nx_seta, nx_newo, nx_newa, su_setf, su_seta, su_newo, su_newa, sg_setf, sg_seta, sg_newo, sg_newa, okq_n, e1]
    have p9 : gf (acH A x z t) p 9 = some (.int (nI n)) := (po 9).trans f9
    simp (disch := first | omega | (simp (disch := omega) only [nx_setf, nx_seta, nx_newo, nx_newa]; omega)) only [e_258, x_258_0, x_258_1, x_258_4, x_258_5, x_258_8, x_258_11, x_258_12, x_258_13, x_258_14, x_258_15, x_258_18r, x_258_18n, x_258_19, x_258_20, x_258_21, x_258_24, x_258_25, x_258_26, x_258_29, x_258_30, x_258_33, x_258_34, x_258_35, kv_s, ki_s, kj_s, kd_s, kq_s, kq_n, kq_o, ka_s, kc_r, kc_t, kc0_r, kc0_t, kch_r, kc0h_r, kw_s, kw0_s, kwh_s, kw0h_s, rg_ref, rg_null, rg_rf, ck_t, sel_some, lkn_hd, Option.isSome_some, Bool.true_and, Bool.and_true, okv_i, okv_l, okv_r, okv_n, okv_rf, okv_b, okv_0, okv_1, okv_f, okv_d, c1_i, c1_r, c1_n, c1_rf, c1_f, nI_add, n_mul, n_sub, n_pred, n_eq, n_le, n_lt, n_neN, n_Nne, N_lt, N_le, n_ltN, n_leN, rdI_n, rdJ_n, rdD_n, wrI_n, wrI_z0, wrI_z1, wrI_zb, wrJ_n, wrD_n, aln_s, okn_n, upd_is, upd_ne, Nat.add_zero, Nat.add_sub_cancel, decide_true, decide_false, cond_true, cond_false, if_true, if_false, ite_not, not_true_eq_false, not_false_eq_true, Nat.reduceEqDiff, Nat.reduceAdd, Nat.reduceMul, Nat.reduceSub, Nat.reduceLeDiff, gf_setf_ne, gf_setf_p, gf_setf_is, va_rf_s, va_rf_n, gf_seta, ga_setf, gc_setf, gc_seta, ga_seta_ne, ga_seta_eq, gf_new, gc_new, gf_newo_o, gc_newo_o, ga_newo_o, ga_new, gf_newa_o, gc_newa_o, ga_newa_o, nx_setf, nx_seta, nx_newo, nx_newa, su_setf, su_seta, su_newo, su_newa, sg_setf, sg_seta, sg_newo, sg_newa, okq_n, f8, f9, q419, e1', wr, ok, at7, Bool.true_and, ckT, p9]
  · rw [ga_setf]; exact ga_seta_lt la2
  · by_cases hin : i = n
    · refine ⟨by rw [hin, updN_is rfl]; exact if_pos rfl, ?_⟩
      rw [updN_is hin, hin]
      refine (no.fr fb ?_).to (fun k hk => ?_)
      · omega
      · obtain ⟨x0, x1, x2, x3, x4, x5⟩ := hx
        show S' (187 + 6 * n + k) = _
        have : k = 0 ∨ k = 1 ∨ k = 2 ∨ k = 3 ∨ k = 4 ∨ k = 5 := by omega
        rcases this with k0 | k0 | k0 | k0 | k0 | k0 <;> subst k0
        · exact x0
        · exact x1
        · exact x2
        · exact x3
        · exact x4
        · exact x5
    · obtain ⟨g1, g2⟩ := e2 i (by omega)
      refine ⟨by rw [updN_ne hin]; exact (if_neg hin).trans g1, ?_⟩
      rw [updN_ne hin]
      exact (g2.fr f (by omega)).to (fun k hk => hS _ (by omega) (by omega))
theorem m_268n : evG TB (d + 1) 268 [.ref p, .int nN] A = some (.inl (some .null), A) := by
  simp (disch := first | omega | (simp (disch := omega) only [nx_setf, nx_seta, nx_newo, nx_newa]; omega)) only [e_268, x_268_0, x_268_1, x_268_2, x_268_5, x_268_6, x_268_9, x_268_10, x_268_13, x_268_14, x_268_15, kv_s, ki_s, kj_s, kd_s, kq_s, kq_n, kq_o, ka_s, kc_r, kc_t, kc0_r, kc0_t, kch_r, kc0h_r, kw_s, kw0_s, kwh_s, kw0h_s, rg_ref, rg_null, rg_rf, ck_t, sel_some, lkn_hd, Option.isSome_some, Bool.true_and, Bool.and_true, okv_i, okv_l, okv_r, okv_n, okv_rf, okv_b, okv_0, okv_1, okv_f, okv_d, c1_i, c1_r, c1_n, c1_rf, c1_f, nI_add, n_mul, n_sub, n_pred, n_eq, n_le, n_lt, n_neN, n_Nne, N_lt, N_le, n_ltN, n_leN, rdI_n, rdJ_n, rdD_n, wrI_n, wrI_z0, wrI_z1, wrI_zb, wrJ_n, wrD_n, aln_s, okn_n, upd_is, upd_ne, Nat.add_zero, Nat.add_sub_cancel, decide_true, decide_false, cond_true, cond_false, if_true, if_false, ite_not, not_true_eq_false, not_false_eq_true, Nat.reduceEqDiff, Nat.reduceAdd, Nat.reduceMul, Nat.reduceSub, Nat.reduceLeDiff, eq_self]
theorem m_268 (h : WAc A w b a n aO S) (o : WO A w b p q s a v r bl mk x) (hi : i < n) : evG TB (d + 1) 268 [.ref p, .int (nI i)] A = some (.inl (some (.ref (aO i))), A) := by
  obtain ⟨wa, n8, e, e1, e2⟩ := h
  have rd : rdQ (some (acA e)) (nI i) = some (some (aO i)) := by rw [rdQ_n (by omega) (by omega) (by omega), (e2 i hi).1]
  have f8 := o.f8
  simp (disch := first | omega | (simp (disch := omega) only [nx_setf, nx_seta, nx_newo, nx_newa]; omega)) only [e_268, x_268_0, x_268_1, x_268_2, x_268_5, x_268_6, x_268_9, x_268_10, x_268_13, x_268_14, x_268_15, kv_s, ki_s, kj_s, kd_s, kq_s, kq_n, kq_o, ka_s, kc_r, kc_t, kc0_r, kc0_t, kch_r, kc0h_r, kw_s, kw0_s, kwh_s, kw0h_s, rg_ref, rg_null, rg_rf, ck_t, sel_some, lkn_hd, Option.isSome_some, Bool.true_and, Bool.and_true, okv_i, okv_l, okv_r, okv_n, okv_rf, okv_b, okv_0, okv_1, okv_f, okv_d, c1_i, c1_r, c1_n, c1_rf, c1_f, nI_add, n_mul, n_sub, n_pred, n_eq, n_le, n_lt, n_neN, n_Nne, N_lt, N_le, n_ltN, n_leN, rdI_n, rdJ_n, rdD_n, wrI_n, wrI_z0, wrI_z1, wrI_zb, wrJ_n, wrD_n, aln_s, okn_n, upd_is, upd_ne, Nat.add_zero, Nat.add_sub_cancel, decide_true, decide_false, cond_true, cond_false, if_true, if_false, ite_not, not_true_eq_false, not_false_eq_true, Nat.reduceEqDiff, Nat.reduceAdd, Nat.reduceMul, Nat.reduceSub, Nat.reduceLeDiff, f8, e1, rd, va_rf_s]
theorem m_269n : evG TB (d + 2) 269 [.ref p, .null, .int x] A = some (.inl (some (.int (nI 0))), newo A 34 8 (fun _ => none)) := by
  simp (disch := first | omega | (simp (disch := omega) only [nx_setf, nx_seta, nx_newo, nx_newa]; omega)) only [e_269, x_269_0, x_269_1, x_269_2n, x_269_2, x_269_5, x_269_6, x_269_7, x_269_8, kv_s, ki_s, kj_s, kd_s, kq_s, kq_n, kq_o, ka_s, kc_r, kc_t, kc0_r, kc0_t, kch_r, kc0h_r, kw_s, kw0_s, kwh_s, kw0h_s, rg_ref, rg_null, rg_rf, ck_t, sel_some, lkn_hd, Option.isSome_some, Bool.true_and, Bool.and_true, okv_i, okv_l, okv_r, okv_n, okv_rf, okv_b, okv_0, okv_1, okv_f, okv_d, c1_i, c1_r, c1_n, c1_rf, c1_f, nI_add, n_mul, n_sub, n_pred, n_eq, n_le, n_lt, n_neN, n_Nne, N_lt, N_le, n_ltN, n_leN, rdI_n, rdJ_n, rdD_n, wrI_n, wrI_z0, wrI_z1, wrI_zb, wrJ_n, wrD_n, aln_s, okn_n, upd_is, upd_ne, Nat.add_zero, Nat.add_sub_cancel, decide_true, decide_false, cond_true, cond_false, if_true, if_false, ite_not, not_true_eq_false, not_false_eq_true, Nat.reduceEqDiff, Nat.reduceAdd, Nat.reduceMul, Nat.reduceSub, Nat.reduceLeDiff]
theorem m_269 (h : AccO A w y l f) : evG TB (d + 2) 269 [.ref p, .ref y, .int x] A = some (.inl (some (.int (if f 3 + x < f 2 then nI 0 else f 1))), A) := by
  have q := m_420 (d := d) (x := x) h
  simp (disch := first | omega | (simp (disch := omega) only [nx_setf, nx_seta, nx_newo, nx_newa]; omega)) only [e_269, x_269_0, x_269_1, x_269_2n, x_269_2, x_269_5, x_269_6, x_269_7, x_269_8, kv_s, ki_s, kj_s, kd_s, kq_s, kq_n, kq_o, ka_s, kc_r, kc_t, kc0_r, kc0_t, kch_r, kc0h_r, kw_s, kw0_s, kwh_s, kw0h_s, rg_ref, rg_null, rg_rf, ck_t, sel_some, lkn_hd, Option.isSome_some, Bool.true_and, Bool.and_true, okv_i, okv_l, okv_r, okv_n, okv_rf, okv_b, okv_0, okv_1, okv_f, okv_d, c1_i, c1_r, c1_n, c1_rf, c1_f, nI_add, n_mul, n_sub, n_pred, n_eq, n_le, n_lt, n_neN, n_Nne, N_lt, N_le, n_ltN, n_leN, rdI_n, rdJ_n, rdD_n, wrI_n, wrI_z0, wrI_z1, wrI_zb, wrJ_n, wrD_n, aln_s, okn_n, upd_is, upd_ne, Nat.add_zero, Nat.add_sub_cancel, decide_true, decide_false, cond_true, cond_false, if_true, if_false, ite_not, not_true_eq_false, not_false_eq_true, Nat.reduceEqDiff, Nat.reduceAdd, Nat.reduceMul, Nat.reduceSub, Nat.reduceLeDiff, h.c, q]
/-- an account copied -/
theorem m_423 (h : AccO A w y l f) (l' : Nat) : ∃ A', evG TB (d + 2) 423 [.ref y] A = some (.inl (some (.ref (nx A))), A') ∧ AccO A' (upL w (nx A) l') (nx A) l' f ∧ ∀ X, Fr A w A' (upL w (nx A) l') X 1 6 := by
  have hy := gc_lt h.c
  obtain ⟨c1, wy, f0, f1, f2, f3, f4, f5⟩ := h
  have no : AccO (acH A (f 0) (f 1) (f 2)) (upL w (nx A) l') (nx A) l' _ := acH_o (Or.inr trivial)
  have yo : ∀ g, gf (acH A (f 0) (f 1) (f 2)) y g = gf A y g := fun g => by unfold acH; simp (disch := first | omega | (simp (disch := omega) only [nx_setf, nx_seta, nx_newo, nx_newa]; omega)) only [gf_setf_ne, gf_setf_p, gf_setf_is, va_rf_s, va_rf_n, gf_seta, ga_setf, gc_setf, gc_seta, ga_seta_ne, ga_seta_eq, gf_new, gc_new, gf_newo_o, gc_newo_o, ga_newo_o, ga_new, gf_newa_o, gc_newa_o, ga_newa_o, nx_setf, nx_seta, nx_newo, nx_newa, su_setf, su_seta, su_newo, su_newa, sg_setf, sg_seta, sg_newo, sg_newa, okq_n]
  refine ⟨setf (setf (setf (acH A (f 0) (f 1) (f 2)) (nx A) 66 (.int (f 3))) (nx A) 67 (.int (f 4))) (nx A) 68 (.int (f 5)), ?_, ?_, fun X => ((acH_fr.stn (Nat.le_refl _)).stn (Nat.le_refl _)).stn (Nat.le_refl _)⟩
  · have q419 : evG TB (d + 1) 419 [.ref (nx A), .int (f 0), .int (f 1), .int (f 2)] (newo A 12 6 dv12) = some (.inl none, acH A (f 0) (f 1) (f 2)) := by
      unfold acH
      simp (disch := first | omega | (simp (disch := omega) only [nx_setf, nx_seta, nx_newo, nx_newa]; omega)) only [e_419, x_419_0, x_419_1, x_419_4, x_419_5, x_419_6, x_419_9, x_419_10, x_419_11, x_419_14, x_419_15, x_419_16, x_419_19, kv_s, ki_s, kj_s, kd_s, kq_s, kq_n, kq_o, ka_s, kc_r, kc_t, kc0_r, kc0_t, kch_r, kc0h_r, kw_s, kw0_s, kwh_s, kw0h_s, rg_ref, rg_null, rg_rf, ck_t, sel_some, lkn_hd, Option.isSome_some, Bool.true_and, Bool.and_true, okv_i, okv_l, okv_r, okv_n, okv_rf, okv_b, okv_0, okv_1, okv_f, okv_d, c1_i, c1_r, c1_n, c1_rf, c1_f, nI_add, n_mul, n_sub, n_pred, n_eq, n_le, n_lt, n_neN, n_Nne, N_lt, N_le, n_ltN, n_leN, rdI_n, rdJ_n, rdD_n, wrI_n, wrI_z0, wrI_z1, wrI_zb, wrJ_n, wrD_n, aln_s, okn_n, upd_is, upd_ne, Nat.add_zero, Nat.add_sub_cancel, decide_true, decide_false, cond_true, cond_false, if_true, if_false, ite_not, not_true_eq_false, not_false_eq_true, Nat.reduceEqDiff, Nat.reduceAdd, Nat.reduceMul, Nat.reduceSub, Nat.reduceLeDiff, gf_setf_ne, gf_setf_p, gf_setf_is, va_rf_s, va_rf_n, gf_seta, ga_setf, gc_setf, gc_seta, ga_seta_ne, ga_seta_eq, gf_new, gc_new, gf_newo_o, gc_newo_o, ga_newo_o, ga_new, gf_newa_o, gc_newa_o, ga_newa_o, nx_setf, nx_seta, nx_newo, nx_newa, su_setf, su_seta, su_newo, su_newa, sg_setf, sg_seta, sg_newo, sg_newa, okq_n, dv12_63, dv12_64, dv12_65]
    have y3 := (yo 66).trans f3
    have y4 := (yo 67).trans f4
    have y5 := (yo 68).trans f5
    have n3 := no.f3
    have n4 := no.f4
    have n5 := no.f5
    have yn : y ≠ nx A := Nat.ne_of_lt hy
    simp (disch := first | omega | (simp (disch := omega) only [nx_setf, nx_seta, nx_newo, nx_newa]; omega)) only [e_423, x_423_0, x_423_3, x_423_4, x_423_5, x_423_8, x_423_9, x_423_12, x_423_13, x_423_16, x_423_19, x_423_20, x_423_21, x_423_22, x_423_25, x_423_28, x_423_29, x_423_30, x_423_33, x_423_36, x_423_37, x_423_38, x_423_41, x_423_44, x_423_45, kv_s, ki_s, kj_s, kd_s, kq_s, kq_n, kq_o, ka_s, kc_r, kc_t, kc0_r, kc0_t, kch_r, kc0h_r, kw_s, kw0_s, kwh_s, kw0h_s, rg_ref, rg_null, rg_rf, ck_t, sel_some, lkn_hd, Option.isSome_some, Bool.true_and, Bool.and_true, okv_i, okv_l, okv_r, okv_n, okv_rf, okv_b, okv_0, okv_1, okv_f, okv_d, c1_i, c1_r, c1_n, c1_rf, c1_f, nI_add, n_mul, n_sub, n_pred, n_eq, n_le, n_lt, n_neN, n_Nne, N_lt, N_le, n_ltN, n_leN, rdI_n, rdJ_n, rdD_n, wrI_n, wrI_z0, wrI_z1, wrI_zb, wrJ_n, wrD_n, aln_s, okn_n, upd_is, upd_ne, Nat.add_zero, Nat.add_sub_cancel, decide_true, decide_false, cond_true, cond_false, if_true, if_false, ite_not, not_true_eq_false, not_false_eq_true, Nat.reduceEqDiff, Nat.reduceAdd, Nat.reduceMul, Nat.reduceSub, Nat.reduceLeDiff, gf_setf_ne, gf_setf_p, gf_setf_is, va_rf_s, va_rf_n, gf_seta, ga_setf, gc_setf, gc_seta, ga_seta_ne, ga_seta_eq, gf_new, gc_new, gf_newo_o, gc_newo_o, ga_newo_o, ga_new, gf_newa_o, gc_newa_o, ga_newa_o, nx_setf, nx_seta, nx_newo, nx_newa, su_setf, su_seta, su_newo, su_newa, sg_setf, sg_seta, sg_newo, sg_newa, okq_n, f0, f1, f2, q419, y3, y4, y5, n3, n4, n5, Option.isSome_some]
  · exact (((no.set (x := f 3) (j := 3) (by decide)).set (x := f 4) (j := 4) (by decide)).set (x := f 5) (j := 5) (by decide)).to (fun k hk => by grind)
end
