/-! the component's network: a new one, a copy -/
theorem dv2_14 : dv2 14 = some .null := rfl
theorem dv2_15 : dv2 15 = some (.int (nI 0)) := rfl
theorem dv2_16 : dv2 16 = some .null := rfl
theorem dv2_17 : dv2 17 = some (.int (nI 0)) := rfl
section
variable {A A' : Hp} {w w' : Lb} {X : Nat → Prop} {b b' q y j i d c s R : Nat} {S S' : Nat → Int32} {m t x : Int32} {o : Option Nat}
theorem rdF_0 {a a' : Int32} {i : Nat} : rdF S a a' i 0 = nN := rfl
/-- a new network -/
theorem m_282 (hc : gc A q = some 2) (hw : w q = (1000 * b + 2)) (h14 : gf A q 14 = some .null) (h15 : gf A q 15 = some (.int (nI 0))) (h16 : gf A q 16 = some .null) (h17 : gf A q 17 = some (.int (nI 0))) (hS : S 8 = nI 0 ∧ S 9 = nI 0 ∧ ∀ g, g < 12 → S (15 + g) = nI 0) : ∃ A' w', evG TB (d + 2) 282 [.ref q] A = some (.inl none, A') ∧ WNt A' w' b q S ∧ Fr A w A' w' (fun l => l = (1000 * b + 2)) 2 156 := by
  have hq := gc_lt hc
  have qn : q ≠ nx A := Nat.ne_of_lt hq
  have qn1 : q ≠ nx A + 1 := by omega
  have c9 : cS S 9 = 0 := by unfold cS; rw [hS.2.1]; exact n_cl (by decide)
  have wq1 : upL w (nx A) ((1000 * b + 3)) q = (1000 * b + 2) := by rw [upL_ne qn]; exact hw
  have wq2 : upL (upL w (nx A) ((1000 * b + 3))) (nx A + 1) ((1000 * b + 4)) q = (1000 * b + 2) := by rw [upL_ne qn1]; exact wq1
  have f1 : Fr A w (newa A (zar 0 12)) (upL w (nx A) ((1000 * b + 3))) (fun l => l = (1000 * b + 2)) 1 12 := Fr.nwa
  have f2 := f1.trans (Fr.stf (p := q) (f := 14) (v := .ref (nx A)) wq1)
  have f3 := f2.trans (Fr.nwa (x := zar 6 144) (l := (1000 * b + 4)))
  have f4 := (f3.trans (Fr.stf (p := q) (f := 16) (v := .ref (nx A + 1)) wq2)).mono (fun _ h => h) (c' := 2) (s' := 156) (by decide) (by decide)
  refine ⟨_, _, ?_, ⟨f4.cc hc, wq2, ⟨nx A, fun _ => 0, ?_, ?_, ?_, fun g hg => (hS.2.2 g hg).symm⟩, ?_, ?_, ⟨nx A + 1, fun _ => none, ?_, upL_is rfl, ?_, fun i j hi hj => ?_⟩⟩, f4⟩
  · simp (disch := first | omega | (simp (disch := omega) only [nx_setf, nx_seta, nx_newo, nx_newa]; omega)) only [e_282, x_282_0, x_282_1, x_282_4, x_282_5, x_282_7, x_282_9, x_282_12, x_282_13, x_282_16, x_282_19, x_282_22, kv_s, ki_s, kj_s, kd_s, kq_s, kq_n, kq_o, ka_s, kc_r, kc_t, kc0_r, kc0_t, kch_r, kc0h_r, kw_s, kw0_s, kwh_s, kw0h_s, rg_ref, rg_null, rg_rf, ck_t, sel_some, lkn_hd, Option.isSome_some, Bool.true_and, Bool.and_true, okv_i, okv_l, okv_r, okv_n, okv_rf, okv_b, okv_0, okv_1, okv_f, okv_d, c1_i, c1_r, c1_n, c1_rf, c1_f, nI_add, n_mul, n_sub, n_pred, n_eq, n_le, n_lt, n_neN, n_Nne, N_lt, N_le, n_ltN, n_leN, rdI_n, rdJ_n, rdD_n, wrI_n, wrI_z0, wrI_z1, wrI_zb, wrJ_n, wrD_n, aln_s, okn_n, upd_is, upd_ne, Nat.add_zero, Nat.add_sub_cancel, decide_true, decide_false, cond_true, cond_false, if_true, if_false, ite_not, not_true_eq_false, not_false_eq_true, Nat.reduceEqDiff, Nat.reduceAdd, Nat.reduceMul, Nat.reduceSub, Nat.reduceLeDiff, gf_setf_ne, gf_setf_p, gf_setf_is, va_rf_s, va_rf_n, gf_seta, ga_setf, gc_setf, gc_seta, ga_seta_ne, ga_seta_eq, gf_new, gc_new, gf_newo_o, gc_newo_o, ga_newo_o, ga_new, gf_newa_o, gc_newa_o, ga_newa_o, nx_setf, nx_seta, nx_newo, nx_newa, su_setf, su_seta, su_newo, su_newa, sg_setf, sg_seta, sg_newo, sg_newa, okq_n, h14, h16, n_cl]
  · simp (disch := first | omega | (simp (disch := omega) only [nx_setf, nx_seta, nx_newo, nx_newa]; omega)) only [gf_setf_ne, gf_setf_p, gf_setf_is, va_rf_s, va_rf_n, gf_seta, ga_setf, gc_setf, gc_seta, ga_seta_ne, ga_seta_eq, gf_new, gc_new, gf_newo_o, gc_newo_o, ga_newo_o, ga_new, gf_newa_o, gc_newa_o, ga_newa_o, nx_setf, nx_seta, nx_newo, nx_newa, su_setf, su_seta, su_newo, su_newa, sg_setf, sg_seta, sg_newo, sg_newa, okq_n]
  · rw [upL_ne (by omega)]; exact upL_is rfl
  · have e1 : nx (setf (newa A (zar 0 12)) q 14 (.ref (nx A))) = nx A + 1 := rfl
    rw [ga_setf, ga_newa_o (by rw [e1]; omega), ga_setf]
    exact ga_newa
  · rw [hS.1]; simp (disch := first | omega | (simp (disch := omega) only [nx_setf, nx_seta, nx_newo, nx_newa]; omega)) only [gf_setf_ne, gf_setf_p, gf_setf_is, va_rf_s, va_rf_n, gf_seta, ga_setf, gc_setf, gc_seta, ga_seta_ne, ga_seta_eq, gf_new, gc_new, gf_newo_o, gc_newo_o, ga_newo_o, ga_new, gf_newa_o, gc_newa_o, ga_newa_o, nx_setf, nx_seta, nx_newo, nx_newa, su_setf, su_seta, su_newo, su_newa, sg_setf, sg_seta, sg_newo, sg_newa, okq_n, h15]
  · rw [hS.2.1]; simp (disch := first | omega | (simp (disch := omega) only [nx_setf, nx_seta, nx_newo, nx_newa]; omega)) only [gf_setf_ne, gf_setf_p, gf_setf_is, va_rf_s, va_rf_n, gf_seta, ga_setf, gc_setf, gc_seta, ga_seta_ne, ga_seta_eq, gf_new, gc_new, gf_newo_o, gc_newo_o, ga_newo_o, ga_new, gf_newa_o, gc_newa_o, ga_newa_o, nx_setf, nx_seta, nx_newo, nx_newa, su_setf, su_seta, su_newo, su_newa, sg_setf, sg_seta, sg_newo, sg_newa, okq_n, h17]
  · simp (disch := first | omega | (simp (disch := omega) only [nx_setf, nx_seta, nx_newo, nx_newa]; omega)) only [gf_setf_ne, gf_setf_p, gf_setf_is, va_rf_s, va_rf_n, gf_seta, ga_setf, gc_setf, gc_seta, ga_seta_ne, ga_seta_eq, gf_new, gc_new, gf_newo_o, gc_newo_o, ga_newo_o, ga_new, gf_newa_o, gc_newa_o, ga_newa_o, nx_setf, nx_seta, nx_newo, nx_newa, su_setf, su_seta, su_newo, su_newa, sg_setf, sg_seta, sg_newo, sg_newa, okq_n]
  · rw [ga_setf]
    exact ga_newa
  · rw [c9]; exact rfl
/-- a network copied -/
theorem m_286 (h : WNt A w b q S) (hR : cS S 9 ≤ 40) (b' : Nat) : ∃ A' w' q', evG TB (d + 3) 286 [.ref q] A = some (.inl (some (.ref q')), A') ∧ WNt A' w' b' q' S ∧ nx A ≤ q' ∧ ∀ X, Fr A w A' w' X 5 316 := by
  have h0 := h
  obtain ⟨c1, wq, ⟨a, g, m1, m2, m3, m4⟩, gn, rc, ⟨a', e, r1, r2, r3, r4⟩⟩ := h
  have hq := gc_lt c1
  have la := ga_lt m3
  have la' := ga_lt r3
  -- the object and its constructor
  have f0 : ∀ X, Fr A w (newo A 2 4 dv2) (upL w (nx A) ((1000 * b' + 2))) X 1 4 := fun X => Fr.nwo
  have wn0 : upL w (nx A) ((1000 * b' + 2)) (nx A) = (1000 * b' + 2) := upL_is rfl
  obtain ⟨Z, hZ⟩ : ∃ Z : Nat → Int32, Z 8 = nI 0 ∧ Z 9 = nI 0 ∧ ∀ g, g < 12 → Z (15 + g) = nI 0 := ⟨fun _ => nI 0, rfl, rfl, fun _ _ => rfl⟩
  -- its parts by hand: two arrays that are thrown away
  generalize hB : setf (newa (setf (newa (newo A 2 4 dv2) (zar 0 12)) (nx A) 14 (.ref (nx A + 1))) (zar 6 144)) (nx A) 16 (.ref (nx A + 2)) = B
  have nB : nx B = nx A + 3 := by rw [← hB]; rfl
  have q282 : evG TB (d + 2) 282 [.ref (nx A)] (newo A 2 4 dv2) = some (.inl none, B) := by
    rw [← hB]
    simp (disch := first | omega | (simp (disch := omega) only [nx_setf, nx_seta, nx_newo, nx_newa]; omega)) only [e_282, x_282_0, x_282_1, x_282_4, x_282_5, x_282_7, x_282_9, x_282_12, x_282_13, x_282_16, x_282_19, x_282_22, kv_s, ki_s, kj_s, kd_s, kq_s, kq_n, kq_o, ka_s, kc_r, kc_t, kc0_r, kc0_t, kch_r, kc0h_r, kw_s, kw0_s, kwh_s, kw0h_s, rg_ref, rg_null, rg_rf, ck_t, sel_some, lkn_hd, Option.isSome_some, Bool.true_and, Bool.and_true, okv_i, okv_l, okv_r, okv_n, okv_rf, okv_b, okv_0, okv_1, okv_f, okv_d, c1_i, c1_r, c1_n, c1_rf, c1_f, nI_add, n_mul, n_sub, n_pred, n_eq, n_le, n_lt, n_neN, n_Nne, N_lt, N_le, n_ltN, n_leN, rdI_n, rdJ_n, rdD_n, wrI_n, wrI_z0, wrI_z1, wrI_zb, wrJ_n, wrD_n, aln_s, okn_n, upd_is, upd_ne, Nat.add_zero, Nat.add_sub_cancel, decide_true, decide_false, cond_true, cond_false, if_true, if_false, ite_not, not_true_eq_false, not_false_eq_true, Nat.reduceEqDiff, Nat.reduceAdd, Nat.reduceMul, Nat.reduceSub, Nat.reduceLeDiff, gf_setf_ne, gf_setf_p, gf_setf_is, va_rf_s, va_rf_n, gf_seta, ga_setf, gc_setf, gc_seta, ga_seta_ne, ga_seta_eq, gf_new, gc_new, gf_newo_o, gc_newo_o, ga_newo_o, ga_new, gf_newa_o, gc_newa_o, ga_newa_o, nx_setf, nx_seta, nx_newo, nx_newa, su_setf, su_seta, su_newo, su_newa, sg_setf, sg_seta, sg_newo, sg_newa, okq_n, n_cl, dv2_14, dv2_16]
  have bo : ∀ p f, p < nx A → gf B p f = gf A p f := fun p f hp => by rw [← hB]; simp (disch := first | omega | (simp (disch := omega) only [nx_setf, nx_seta, nx_newo, nx_newa]; omega)) only [gf_setf_ne, gf_setf_p, gf_setf_is, va_rf_s, va_rf_n, gf_seta, ga_setf, gc_setf, gc_seta, ga_seta_ne, ga_seta_eq, gf_new, gc_new, gf_newo_o, gc_newo_o, ga_newo_o, ga_new, gf_newa_o, gc_newa_o, ga_newa_o, nx_setf, nx_seta, nx_newo, nx_newa, su_setf, su_seta, su_newo, su_newa, sg_setf, sg_seta, sg_newo, sg_newa, okq_n]
  have ba : ∀ p, p < nx A → ga B p = ga A p := fun p hp => by rw [← hB]; simp (disch := first | omega | (simp (disch := omega) only [nx_setf, nx_seta, nx_newo, nx_newa]; omega)) only [gf_setf_ne, gf_setf_p, gf_setf_is, va_rf_s, va_rf_n, gf_seta, ga_setf, gc_setf, gc_seta, ga_seta_ne, ga_seta_eq, gf_new, gc_new, gf_newo_o, gc_newo_o, ga_newo_o, ga_new, gf_newa_o, gc_newa_o, ga_newa_o, nx_setf, nx_seta, nx_newo, nx_newa, su_setf, su_seta, su_newo, su_newa, sg_setf, sg_seta, sg_newo, sg_newa, okq_n]
  have bc : gc B (nx A) = some 2 := by rw [← hB]; simp (disch := first | omega | (simp (disch := omega) only [nx_setf, nx_seta, nx_newo, nx_newa]; omega)) only [gf_setf_ne, gf_setf_p, gf_setf_is, va_rf_s, va_rf_n, gf_seta, ga_setf, gc_setf, gc_seta, ga_seta_ne, ga_seta_eq, gf_new, gc_new, gf_newo_o, gc_newo_o, ga_newo_o, ga_new, gf_newa_o, gc_newa_o, ga_newa_o, nx_setf, nx_seta, nx_newo, nx_newa, su_setf, su_seta, su_newo, su_newa, sg_setf, sg_seta, sg_newo, sg_newa, okq_n]
  have b14 : gf B (nx A) 14 = some (.ref (nx A + 1)) := by rw [← hB]; simp (disch := first | omega | (simp (disch := omega) only [nx_setf, nx_seta, nx_newo, nx_newa]; omega)) only [gf_setf_ne, gf_setf_p, gf_setf_is, va_rf_s, va_rf_n, gf_seta, ga_setf, gc_setf, gc_seta, ga_seta_ne, ga_seta_eq, gf_new, gc_new, gf_newo_o, gc_newo_o, ga_newo_o, ga_new, gf_newa_o, gc_newa_o, ga_newa_o, nx_setf, nx_seta, nx_newo, nx_newa, su_setf, su_seta, su_newo, su_newa, sg_setf, sg_seta, sg_newo, sg_newa, okq_n]
  have b15 : gf B (nx A) 15 = some (.int (nI 0)) := by rw [← hB]; simp (disch := first | omega | (simp (disch := omega) only [nx_setf, nx_seta, nx_newo, nx_newa]; omega)) only [gf_setf_ne, gf_setf_p, gf_setf_is, va_rf_s, va_rf_n, gf_seta, ga_setf, gc_setf, gc_seta, ga_seta_ne, ga_seta_eq, gf_new, gc_new, gf_newo_o, gc_newo_o, ga_newo_o, ga_new, gf_newa_o, gc_newa_o, ga_newa_o, nx_setf, nx_seta, nx_newo, nx_newa, su_setf, su_seta, su_newo, su_newa, sg_setf, sg_seta, sg_newo, sg_newa, okq_n, dv2_15]
  have b16 : gf B (nx A) 16 = some (.ref (nx A + 2)) := by rw [← hB]; simp (disch := first | omega | (simp (disch := omega) only [nx_setf, nx_seta, nx_newo, nx_newa]; omega)) only [gf_setf_ne, gf_setf_p, gf_setf_is, va_rf_s, va_rf_n, gf_seta, ga_setf, gc_setf, gc_seta, ga_seta_ne, ga_seta_eq, gf_new, gc_new, gf_newo_o, gc_newo_o, ga_newo_o, ga_new, gf_newa_o, gc_newa_o, ga_newa_o, nx_setf, nx_seta, nx_newo, nx_newa, su_setf, su_seta, su_newo, su_newa, sg_setf, sg_seta, sg_newo, sg_newa, okq_n]
  have b17 : gf B (nx A) 17 = some (.int (nI 0)) := by rw [← hB]; simp (disch := first | omega | (simp (disch := omega) only [nx_setf, nx_seta, nx_newo, nx_newa]; omega)) only [gf_setf_ne, gf_setf_p, gf_setf_is, va_rf_s, va_rf_n, gf_seta, ga_setf, gc_setf, gc_seta, ga_seta_ne, ga_seta_eq, gf_new, gc_new, gf_newo_o, gc_newo_o, ga_newo_o, ga_new, gf_newa_o, gc_newa_o, ga_newa_o, nx_setf, nx_seta, nx_newo, nx_newa, su_setf, su_seta, su_newo, su_newa, sg_setf, sg_seta, sg_newo, sg_newa, okq_n, dv2_17]
  have fB : ∀ X, Fr A w B (upL (upL (upL w (nx A) ((1000 * b' + 2))) (nx A + 1) 7) (nx A + 2) 7) X 3 160 := fun X => by
    rw [← hB]
    have e := ((((f0 X).trans (Fr.nwa (x := zar 0 12) (l := 7))).stn (p := nx A) (f := 14) (v := .ref (nx A + 1)) (Nat.le_refl _)).trans (Fr.nwa (x := zar 6 144) (l := 7))).stn (p := nx A) (f := 16) (v := .ref (nx A + 2)) (Nat.le_refl _)
    exact e.mono (fun _ h => h) (by decide) (by decide)
  -- the misses, the roads
  have fC : ∀ X, Fr A w (newa B (0, (12, .inl g))) (upL (upL (upL (upL w (nx A) ((1000 * b' + 2))) (nx A + 1) 7) (nx A + 2) 7) (nx B) ((1000 * b' + 3))) X 4 172 := fun X => ((fB X).trans (Fr.nwa (x := (0, (12, .inl g))) (l := (1000 * b' + 3)))).mono (fun _ h => h) (by show 3 + 1 ≤ 4; decide) (by show 160 + 12 ≤ 172; decide)
  have fD : ∀ X, Fr A w (newa (setf (setf (newa B (0, (12, .inl g))) (nx A) 14 (.ref (nx A + 3))) (nx A) 15 (.int (S 8))) (zar 6 144)) (upL (upL (upL (upL (upL w (nx A) ((1000 * b' + 2))) (nx A + 1) 7) (nx A + 2) 7) (nx B) ((1000 * b' + 3))) (nx A + 4) ((1000 * b' + 4))) X 5 316 := fun X => by
    have e := (((fC X).stn (p := nx A) (f := 14) (v := .ref (nx A + 3)) (Nat.le_refl _)).stn (p := nx A) (f := 15) (v := .int (S 8)) (Nat.le_refl _)).trans (Fr.nwa (x := zar 6 144) (l := (1000 * b' + 4)))
    have e2 : nx (setf (setf (newa B (0, (12, .inl g))) (nx A) 14 (.ref (nx A + 3))) (nx A) 15 (.int (S 8))) = nx A + 4 := by show nx B + 1 = _; rw [nB]
    rw [e2] at e
    exact e.mono (fun _ h => h) (by decide) (by decide)
  have fE : ∀ X, Fr A w (setf (seta (setf (newa (setf (setf (newa B (0, (12, .inl g))) (nx A) 14 (.ref (nx A + 3))) (nx A) 15 (.int (S 8))) (zar 6 144)) (nx A) 16 (.ref (nx A + 4))) (nx A + 4) (roA (va_cpy e (fun _ => none) 0 0 144))) (nx A) 17 (.int (S 9))) (upL (upL (upL (upL (upL w (nx A) ((1000 * b' + 2))) (nx A + 1) 7) (nx A + 2) 7) (nx B) ((1000 * b' + 3))) (nx A + 4) ((1000 * b' + 4))) X 5 316 := fun X => (((fD X).stn (p := nx A) (f := 16) (v := .ref (nx A + 4)) (Nat.le_refl _)).san (p := nx A + 4) (g := roA (va_cpy e (fun _ => none) 0 0 144)) (by omega)).stn (p := nx A) (f := 17) (v := .int (S 9)) (Nat.le_refl _)
  generalize hW : upL (upL (upL (upL (upL w (nx A) ((1000 * b' + 2))) (nx A + 1) 7) (nx A + 2) 7) (nx B) ((1000 * b' + 3))) (nx A + 4) ((1000 * b' + 4)) = w' at fE
  have w2 : w' (nx A) = (1000 * b' + 2) := by rw [← hW, upL_ne (by omega), upL_ne (by omega), upL_ne (by omega), upL_ne (by omega)]; exact upL_is rfl
  have w3 : w' (nx A + 3) = (1000 * b' + 3) := by rw [← hW, upL_ne (by omega)]; exact upL_is nB.symm
  have w4 : w' (nx A + 4) = (1000 * b' + 4) := by rw [← hW]; exact upL_is rfl
  -- reads on the way
  have k14 : gf (newa B (0, (12, .inl g))) (nx A) 14 = some (.ref (nx A + 1)) := by simp (disch := first | omega | (simp (disch := omega) only [nx_setf, nx_seta, nx_newo, nx_newa]; omega)) only [gf_setf_ne, gf_setf_p, gf_setf_is, va_rf_s, va_rf_n, gf_seta, ga_setf, gc_setf, gc_seta, ga_seta_ne, ga_seta_eq, gf_new, gc_new, gf_newo_o, gc_newo_o, ga_newo_o, ga_new, gf_newa_o, gc_newa_o, ga_newa_o, nx_setf, nx_seta, nx_newo, nx_newa, su_setf, su_seta, su_newo, su_newa, sg_setf, sg_seta, sg_newo, sg_newa, okq_n, b14]
  have lnB : nx A < nx B := by omega
  have rdc : ∀ k, k < 144 → (∃ y, e k = some y ∧ gc A y = some 11) ∨ e k = none := fun k hk => by
    have h1 := r4 (k / 12) (k % 12) (by omega) (by omega)
    rw [show 12 * (k / 12) + k % 12 = k from by omega] at h1
    cases hE : e k with
    | none => exact Or.inr rfl
    | some y =>
      rw [hE] at h1
      obtain ⟨_, _, _, h3⟩ := h1
      exact Or.inl ⟨y, rfl, h3.c⟩
  have okc : ∀ H, (∀ y, gc A y = some 11 → gcs H y = some 11) → okcp H [11] (some (roA e)) (nI 0) (nI 144) = true := fun H hH => by
    unfold okcp
    dsimp only [roA]
    rw [n_cl (by decide), n_cl (by decide)]
    refine List.all_eq_true.mpr (fun i hi => ?_)
    rw [Nat.zero_add]
    rcases rdc i (List.mem_range.mp hi) with ⟨y, h1, h2⟩ | h1
    · rw [h1]
      show cin (gcs H y) [11] = true
      rw [hH y h2]; rfl
    · rw [h1]
  have cp : cpQ 6 (some (roA e)) (some (roA (fun _ => none))) (nI 0) (nI 0) (nI 144) = some (roA (va_cpy e (fun _ => none) 0 0 144)) := by
    unfold cpQ
    dsimp only [roA]
    rw [n_cl (by decide), n_cl (by decide), decide_eq_true (nI_pos' (by decide)), decide_eq_true (nI_pos' (by decide))]
    rfl
  have lq2 : q < nx B := by omega
  have la2 := Nat.lt_of_lt_of_le la (show nx A ≤ nx B by omega)
  have la2' := Nat.lt_of_lt_of_le la' (show nx A ≤ nx B by omega)
  generalize hD : newa (setf (setf (newa B (0, (12, .inl g))) (nx A) 14 (.ref (nx A + 3))) (nx A) 15 (.int (S 8))) (zar 6 144) = D at fD fE
  have nD : nx D = nx A + 5 := by rw [← hD]; show nx B + 1 + 1 = _; rw [nB]
  have fD' := fD (fun _ => False)
  have o_ : ∀ {p f v}, gf A p f = some v → gf D p f = some v := fun h => fD'.fd (fun z => z) h
  have oa_ : ∀ {p x}, ga A p = some x → ga D p = some x := fun h => fD'.ar (fun z => z) h
  have dn : ga D (nx A + 4) = some (roA (fun _ => none)) := by
    rw [← hD]
    refine ga_new ?_
    show _ = nx B + 1
    rw [nB]
  have d3 : ga D (nx A + 3) = some (0, (12, .inl g)) := by
    rw [← hD]
    have e1 : nx (setf (setf (newa B (0, (12, .inl g))) (nx A) 14 (.ref (nx A + 3))) (nx A) 15 (.int (S 8))) = nx A + 4 := by show nx B + 1 = _; rw [nB]
    rw [ga_newa_o (by rw [e1]; omega), ga_setf, ga_setf]
    exact ga_new nB.symm
  have d16 : gf D (nx A) 16 = some (.ref (nx A + 2)) := by rw [← hD]; simp (disch := first | omega | (simp (disch := omega) only [nx_setf, nx_seta, nx_newo, nx_newa]; omega)) only [gf_setf_ne, gf_setf_p, gf_setf_is, va_rf_s, va_rf_n, gf_seta, ga_setf, gc_setf, gc_seta, ga_seta_ne, ga_seta_eq, gf_new, gc_new, gf_newo_o, gc_newo_o, ga_newo_o, ga_new, gf_newa_o, gc_newa_o, ga_newa_o, nx_setf, nx_seta, nx_newo, nx_newa, su_setf, su_seta, su_newo, su_newa, sg_setf, sg_seta, sg_newo, sg_newa, okq_n, b16]
  have d14 : gf D (nx A) 14 = some (.ref (nx A + 3)) := by rw [← hD]; simp (disch := first | omega | (simp (disch := omega) only [nx_setf, nx_seta, nx_newo, nx_newa]; omega)) only [gf_setf_ne, gf_setf_p, gf_setf_is, va_rf_s, va_rf_n, gf_seta, ga_setf, gc_setf, gc_seta, ga_seta_ne, ga_seta_eq, gf_new, gc_new, gf_newo_o, gc_newo_o, ga_newo_o, ga_new, gf_newa_o, gc_newa_o, ga_newa_o, nx_setf, nx_seta, nx_newo, nx_newa, su_setf, su_seta, su_newo, su_newa, sg_setf, sg_seta, sg_newo, sg_newa, okq_n]
  have d15 : gf D (nx A) 15 = some (.int (S 8)) := by rw [← hD]; simp (disch := first | omega | (simp (disch := omega) only [nx_setf, nx_seta, nx_newo, nx_newa]; omega)) only [gf_setf_ne, gf_setf_p, gf_setf_is, va_rf_s, va_rf_n, gf_seta, ga_setf, gc_setf, gc_seta, ga_seta_ne, ga_seta_eq, gf_new, gc_new, gf_newo_o, gc_newo_o, ga_newo_o, ga_new, gf_newa_o, gc_newa_o, ga_newa_o, nx_setf, nx_seta, nx_newo, nx_newa, su_setf, su_seta, su_newo, su_newa, sg_setf, sg_seta, sg_newo, sg_newa, okq_n]
  have d17 : gf D (nx A) 17 = some (.int (nI 0)) := by rw [← hD]; simp (disch := first | omega | (simp (disch := omega) only [nx_setf, nx_seta, nx_newo, nx_newa]; omega)) only [gf_setf_ne, gf_setf_p, gf_setf_is, va_rf_s, va_rf_n, gf_seta, ga_setf, gc_setf, gc_seta, ga_seta_ne, ga_seta_eq, gf_new, gc_new, gf_newo_o, gc_newo_o, ga_newo_o, ga_new, gf_newa_o, gc_newa_o, ga_newa_o, nx_setf, nx_seta, nx_newo, nx_newa, su_setf, su_seta, su_newo, su_newa, sg_setf, sg_seta, sg_newo, sg_newa, okq_n, b17]
  have dc : gc D (nx A) = some 2 := by rw [← hD]; simp (disch := first | omega | (simp (disch := omega) only [nx_setf, nx_seta, nx_newo, nx_newa]; omega)) only [gf_setf_ne, gf_setf_p, gf_setf_is, va_rf_s, va_rf_n, gf_seta, ga_setf, gc_setf, gc_seta, ga_seta_ne, ga_seta_eq, gf_new, gc_new, gf_newo_o, gc_newo_o, ga_newo_o, ga_new, gf_newa_o, gc_newa_o, ga_newa_o, nx_setf, nx_seta, nx_newo, nx_newa, su_setf, su_seta, su_newo, su_newa, sg_setf, sg_seta, sg_newo, sg_newa, okq_n, bc]
  have lD : nx A < nx D := by omega
  have l4 : nx A + 4 < nx D := by omega
  have fE' := fE (fun _ => False)
  refine ⟨setf (seta (setf D (nx A) 16 (.ref (nx A + 4))) (nx A + 4) (roA (va_cpy e (fun _ => none) 0 0 144))) (nx A) 17 (.int (S 9)), w', nx A, ?_, ⟨dc, w2, ⟨nx A + 3, g, ?_, w3, ?_, m4⟩, ?_, ?_, ⟨nx A + 4, va_cpy e (fun _ => none) 0 0 144, ?_, w4, ?_, fun i j hi hj => ?_⟩⟩, Nat.le_refl _, fE⟩
  · have ba' : ga B a = some (0, (12, .inl g)) := (ba a la).trans m3
    have bm : gf B q 14 = some (.ref a) := (bo q 14 hq).trans m1
    have bg : gf B q 15 = some (.int (S 8)) := (bo q 15 hq).trans gn
    have br : gf B q 16 = some (.ref a') := (bo q 16 hq).trans r1
    have bra : ga B a' = some (roA e) := (ba a' la').trans r3
    have at0 : atag (some ((0, (12, .inl g)) : ArC)) 0 = true := rfl
    have e3 : nx A + 3 + 1 = nx A + 4 := rfl
    have dq16 := o_ r1
    have dq17 := o_ rc
    have dqa := oa_ r3
    have okD := okc (setf D (nx A) 16 (.ref (nx A + 4))) (fun y hy => gcs_d (by rw [gc_setf]; exact fD'.cc hy))
    simp (disch := first | omega | (simp (disch := omega) only [nx_setf, nx_seta, nx_newo, nx_newa]; omega)) only [e_286, x_286_0, x_286_3, x_286_4, x_286_7, x_286_8, x_286_9, x_286_10, x_286_13, x_286_16, x_286_19, x_286_22, x_286_23, x_286_24, x_286_27, x_286_30, x_286_31, x_286_32, x_286_35, x_286_36, x_286_39, x_286_42, x_286_43, x_286_46, x_286_47, x_286_48, x_286_51, x_286_52, x_286_53, x_286_56, x_286_57, x_286_60, x_286_61, x_286_62, x_286_65, x_286_68, x_286_69, q282, kv_s, ki_s, kj_s, kd_s, kq_s, kq_n, kq_o, ka_s, kc_r, kc_t, kc0_r, kc0_t, kch_r, kc0h_r, kw_s, kw0_s, kwh_s, kw0h_s, rg_ref, rg_null, rg_rf, ck_t, sel_some, lkn_hd, Option.isSome_some, Bool.true_and, Bool.and_true, okv_i, okv_l, okv_r, okv_n, okv_rf, okv_b, okv_0, okv_1, okv_f, okv_d, c1_i, c1_r, c1_n, c1_rf, c1_f, nI_add, n_mul, n_sub, n_pred, n_eq, n_le, n_lt, n_neN, n_Nne, N_lt, N_le, n_ltN, n_leN, rdI_n, rdJ_n, rdD_n, wrI_n, wrI_z0, wrI_z1, wrI_zb, wrJ_n, wrD_n, aln_s, okn_n, upd_is, upd_ne, Nat.add_zero, Nat.add_sub_cancel, decide_true, decide_false, cond_true, cond_false, if_true, if_false, ite_not, not_true_eq_false, not_false_eq_true, Nat.reduceEqDiff, Nat.reduceAdd, Nat.reduceMul, Nat.reduceSub, Nat.reduceLeDiff, gf_setf_ne, gf_setf_p, gf_setf_is, va_rf_s, va_rf_n, gf_seta, ga_setf, gc_setf, gc_seta, ga_seta_ne, ga_seta_eq, gf_new, gc_new, gf_newo_o, gc_newo_o, ga_newo_o, ga_new, gf_newa_o, gc_newa_o, ga_newa_o, nx_setf, nx_seta, nx_newo, nx_newa, su_setf, su_seta, su_newo, su_newa, sg_setf, sg_seta, sg_newo, sg_newa, okq_n, ba', bm, bg, br, bra, nB, b14, b15, b16, at0, ckT, n_cl, hD, d14, d15, d16, d17, dn, dq16, dq17, dqa, okD, cp]
  · simp (disch := first | omega | (simp (disch := omega) only [nx_setf, nx_seta, nx_newo, nx_newa]; omega)) only [gf_setf_ne, gf_setf_p, gf_setf_is, va_rf_s, va_rf_n, gf_seta, ga_setf, gc_setf, gc_seta, ga_seta_ne, ga_seta_eq, gf_new, gc_new, gf_newo_o, gc_newo_o, ga_newo_o, ga_new, gf_newa_o, gc_newa_o, ga_newa_o, nx_setf, nx_seta, nx_newo, nx_newa, su_setf, su_seta, su_newo, su_newa, sg_setf, sg_seta, sg_newo, sg_newa, okq_n, d14]
  · rw [ga_setf, ga_seta_ne (by omega), ga_setf]; exact d3
  · simp (disch := first | omega | (simp (disch := omega) only [nx_setf, nx_seta, nx_newo, nx_newa]; omega)) only [gf_setf_ne, gf_setf_p, gf_setf_is, va_rf_s, va_rf_n, gf_seta, ga_setf, gc_setf, gc_seta, ga_seta_ne, ga_seta_eq, gf_new, gc_new, gf_newo_o, gc_newo_o, ga_newo_o, ga_new, gf_newa_o, gc_newa_o, ga_newa_o, nx_setf, nx_seta, nx_newo, nx_newa, su_setf, su_seta, su_newo, su_newa, sg_setf, sg_seta, sg_newo, sg_newa, okq_n, d15]
  · simp (disch := first | omega | (simp (disch := omega) only [nx_setf, nx_seta, nx_newo, nx_newa]; omega)) only [gf_setf_ne, gf_setf_p, gf_setf_is, va_rf_s, va_rf_n, gf_seta, ga_setf, gc_setf, gc_seta, ga_seta_ne, ga_seta_eq, gf_new, gc_new, gf_newo_o, gc_newo_o, ga_newo_o, ga_new, gf_newa_o, gc_newa_o, ga_newa_o, nx_setf, nx_seta, nx_newo, nx_newa, su_setf, su_seta, su_newo, su_newa, sg_setf, sg_seta, sg_newo, sg_newa, okq_n]
  · simp (disch := first | omega | (simp (disch := omega) only [nx_setf, nx_seta, nx_newo, nx_newa]; omega)) only [gf_setf_ne, gf_setf_p, gf_setf_is, va_rf_s, va_rf_n, gf_seta, ga_setf, gc_setf, gc_seta, ga_seta_ne, ga_seta_eq, gf_new, gc_new, gf_newo_o, gc_newo_o, ga_newo_o, ga_new, gf_newa_o, gc_newa_o, ga_newa_o, nx_setf, nx_seta, nx_newo, nx_newa, su_setf, su_seta, su_newo, su_newa, sg_setf, sg_seta, sg_newo, sg_newa, okq_n]
  · rw [ga_setf]; exact ga_seta_lt (by show nx A + 4 < nx D; exact l4)
  · have h1 := r4 i j hi hj
    have h2 : va_cpy e (fun _ => none) 0 0 144 (12 * i + j) = e (12 * i + j) := by
      show (if 0 ≤ 12 * i + j ∧ 12 * i + j < 0 + 144 then e (0 + (12 * i + j - 0)) else none) = _
      rw [if_pos (by omega), Nat.zero_add, Nat.sub_zero]
    rw [h2]
    exact h1.fr fE' (fun z => z)
end
