/-! PriorityQueue: sifting walked -/
/-- the array at a, the comparator at cO, what it answers on S -/
abbrev PqC (A : Hp) (a cO cap d0 : Nat) (cv : Nat → Nat → Int32) (S : Nat → Prop) : Prop := (gc A cO = some 19) ∧ (∀ (e : Nat → Option Nat) x y, S x → S y → evG TB d0 239 [.ref cO, .ref x, .ref y] (seta A a (rfA e cap)) = some (.inl (some (.int (cv x y))), seta A a (rfA e cap))) ∧ (∀ y, S y → gcs A y = some 17) ∧ (a < nx A) ∧ (cap ≤ 100000) ∧ (∀ x y, S x → S y → ((cv x y < nI 0) ↔ ¬ cv y x ≤ nI 0))
theorem PqC.cc {A : Hp} {a cO cap d0 : Nat} {cv : Nat → Nat → Int32} {S : Nat → Prop} (h : PqC A a cO cap d0 cv S) : gc A cO = some 19 := h.1
theorem PqC.cmp {A : Hp} {a cO cap d0 : Nat} {cv : Nat → Nat → Int32} {S : Nat → Prop} (h : PqC A a cO cap d0 cv S) : ∀ (e : Nat → Option Nat) x y, S x → S y → evG TB d0 239 [.ref cO, .ref x, .ref y] (seta A a (rfA e cap)) = some (.inl (some (.int (cv x y))), seta A a (rfA e cap)) := h.2.1
theorem PqC.kd {A : Hp} {a cO cap d0 : Nat} {cv : Nat → Nat → Int32} {S : Nat → Prop} (h : PqC A a cO cap d0 cv S) : ∀ y, S y → gcs A y = some 17 := h.2.2.1
theorem PqC.aa {A : Hp} {a cO cap d0 : Nat} {cv : Nat → Nat → Int32} {S : Nat → Prop} (h : PqC A a cO cap d0 cv S) : a < nx A := h.2.2.2.1
theorem PqC.cp {A : Hp} {a cO cap d0 : Nat} {cv : Nat → Nat → Int32} {S : Nat → Prop} (h : PqC A a cO cap d0 cv S) : cap ≤ 100000 := h.2.2.2.2.1
theorem PqC.sg {A : Hp} {a cO cap d0 : Nat} {cv : Nat → Nat → Int32} {S : Nat → Prop} (h : PqC A a cO cap d0 cv S) : ∀ x y, S x → S y → ((cv x y < nI 0) ↔ ¬ cv y x ≤ nI 0) := h.2.2.2.2.2
def leV (cv : Nat → Nat → Int32) (x y : Nat) : Bool := decide (cv x y ≤ nI 0)
theorem ush1 {n : Nat} (h : n < 2147483648) : ((nI n).toUInt32 >>> ((nI 1).toUInt32 &&& Int32.toUInt32 31)).toInt32 = nI (n / 2) := by
  have := pk_ushrN (n := n) (by omega) (nI 1) 1 (by decide)
  rw [this, Nat.pow_one]
theorem shl1 {n : Nat} (h : n < 1000000000) : nI n <<< (nI 1 &&& 31) = nI (2 * n) := by
  have := pk_shlN (n := n) (nI 1 &&& 31) 1 (by decide) (by omega)
  rw [this, Nat.pow_one, Nat.mul_comm]
theorem seta_seta {A : Hp} {a : Nat} {c c' : ArC} : seta (seta A a c) a c' = seta A a c' := by
  unfold seta
  refine Prod.ext rfl (Prod.ext rfl (Prod.ext ?_ rfl))
  funext q
  dsimp only
  by_cases h : q = a
  · rw [if_pos h, if_pos h]
  · rw [if_neg h, if_neg h, if_neg h]
theorem ga_seta_lt {A : Hp} {a : Nat} {c : ArC} (h : a < nx A) : ga (seta A a c) a = some c := ga_i (A := seta A a c) h (if_pos rfl : (if a = a then some c else A.2.2.1 a) = some c)
theorem gcs_seta {A : Hp} {a q : Nat} {c : ArC} : gcs (seta A a c) q = gcs A q := rfl
section
variable {A : Hp} {a cO cap d : Nat} {cv : Nat → Nat → Int32} {S : Nat → Prop}
theorem m_78_lp (q : PqC A a cO cap d cv S) {x n : Nat} (hx : S x) (hn : n ≤ cap) : ∀ (f k : Nat) (r : Nat → Nat) (e : Nat → Option Nat) (j4 j5 : Option Value), k ≤ f → k < n → (∀ i, i < n → i ≠ k → e i = some (r i) ∧ S (r i)) →
    ∃ e', exG TB d 78 0 [some (.int (nI k)), some (.ref x), some (.ref a), some (.ref cO), j4, j5] [] (seta A a (rfA e cap)) = some (.inl none, seta A a (rfA e' cap)) ∧ (∀ i, i < n → e' i = some (sU (leV cv) x f k r i)) ∧ (∀ i, n ≤ i → e' i = e i) := by
  have aa := q.aa
  have cp := q.cp
  have cc : gc A cO = some 19 := q.cc
  have kx := q.kd x hx
  have okx : ∀ e, okq (seta A a (rfA e cap)) allC (.ref x) = true := fun e => by show cin (gcs A x) allC = true; rw [kx]; exact cin_all 17 (by omega)
  have ata : ∀ e, atag (some (rfA e cap)) 5 = true := fun e => rfl
  intro f
  induction f with
  | zero =>
    intro k r e j4 j5 hk hkn he
    have hk : k = 0 := by omega
    subst hk
    refine ⟨va_up e 0 (some x), x_78_0.trans ?_, fun i hi => ?_, fun i hi => if_neg (by omega)⟩
    · have w := wrQ_5 (e := e) (cap := cap) (o := some x) (n := 0) (by omega) (by omega)
      simp (disch := first | omega | (simp (disch := omega) only [nx_setf, nx_seta, nx_newo, nx_newa]; omega)) only [x_78_1, x_78_4, x_78_5, x_78_6, x_78_7, x_78_8, x_78_9, x_78_11, x_78_12, x_78_14, x_78_15, x_78_17, x_78_18, x_78_19, x_78_21, x_78_26, x_78_29, x_78_32, x_78_33, x_78_34, x_78_36r, x_78_36n, x_78_37, x_78_39, x_78_40, x_78_43, x_78_44, x_78_45, x_78_46r, x_78_46n, x_78_47, kv_s, ki_s, kj_s, kd_s, kq_s, kq_n, kq_o, ka_s, kc_r, kc_t, kc0_r, kc0_t, kch_r, kc0h_r, kw_s, kw0_s, kwh_s, kw0h_s, rg_ref, rg_null, rg_rf, ck_t, sel_some, lkn_hd, Option.isSome_some, Bool.true_and, Bool.and_true, okv_i, okv_l, okv_r, okv_n, okv_rf, okv_b, okv_0, okv_1, okv_f, okv_d, c1_i, c1_r, c1_n, c1_rf, c1_f, nI_add, n_mul, n_sub, n_pred, n_eq, n_le, n_lt, n_neN, n_Nne, N_lt, N_le, n_ltN, n_leN, rdI_n, rdJ_n, rdD_n, wrI_n, wrI_z0, wrI_z1, wrI_zb, wrJ_n, wrD_n, aln_s, okn_n, upd_is, upd_ne, Nat.add_zero, Nat.add_sub_cancel, decide_true, decide_false, cond_true, cond_false, if_true, if_false, ite_not, not_true_eq_false, not_false_eq_true, Nat.reduceEqDiff, Nat.reduceAdd, Nat.reduceMul, Nat.reduceSub, Nat.reduceLeDiff, gf_setf_ne, gf_setf_p, gf_setf_is, va_rf_s, va_rf_n, gf_seta, ga_setf, gc_setf, gc_seta, ga_seta_ne, ga_seta_eq, gf_new, gc_new, gf_newo_o, gc_newo_o, ga_newo_o, ga_new, gf_newa_o, gc_newa_o, ga_newa_o, nx_setf, nx_seta, nx_newo, nx_newa, su_setf, su_seta, su_newo, su_newa, sg_setf, sg_seta, sg_newo, sg_newa, okq_n, ga_seta_lt, seta_seta, okx, ata, w, yle (Nat.le_refl 0)]
    · unfold sU
      by_cases z : i = 0
      · rw [updN_is z]; exact if_pos z
      · rw [updN_ne z]; exact (if_neg z).trans (he i hi z).1
  | succ f ih =>
    intro k r e j4 j5 hk hkn he
    by_cases k0 : k = 0
    · subst k0
      refine ⟨va_up e 0 (some x), x_78_0.trans ?_, fun i hi => ?_, fun i hi => if_neg (by omega)⟩
      · have w := wrQ_5 (e := e) (cap := cap) (o := some x) (n := 0) (by omega) (by omega)
        simp (disch := first | omega | (simp (disch := omega) only [nx_setf, nx_seta, nx_newo, nx_newa]; omega)) only [x_78_1, x_78_4, x_78_5, x_78_6, x_78_7, x_78_8, x_78_9, x_78_11, x_78_12, x_78_14, x_78_15, x_78_17, x_78_18, x_78_19, x_78_21, x_78_26, x_78_29, x_78_32, x_78_33, x_78_34, x_78_36r, x_78_36n, x_78_37, x_78_39, x_78_40, x_78_43, x_78_44, x_78_45, x_78_46r, x_78_46n, x_78_47, kv_s, ki_s, kj_s, kd_s, kq_s, kq_n, kq_o, ka_s, kc_r, kc_t, kc0_r, kc0_t, kch_r, kc0h_r, kw_s, kw0_s, kwh_s, kw0h_s, rg_ref, rg_null, rg_rf, ck_t, sel_some, lkn_hd, Option.isSome_some, Bool.true_and, Bool.and_true, okv_i, okv_l, okv_r, okv_n, okv_rf, okv_b, okv_0, okv_1, okv_f, okv_d, c1_i, c1_r, c1_n, c1_rf, c1_f, nI_add, n_mul, n_sub, n_pred, n_eq, n_le, n_lt, n_neN, n_Nne, N_lt, N_le, n_ltN, n_leN, rdI_n, rdJ_n, rdD_n, wrI_n, wrI_z0, wrI_z1, wrI_zb, wrJ_n, wrD_n, aln_s, okn_n, upd_is, upd_ne, Nat.add_zero, Nat.add_sub_cancel, decide_true, decide_false, cond_true, cond_false, if_true, if_false, ite_not, not_true_eq_false, not_false_eq_true, Nat.reduceEqDiff, Nat.reduceAdd, Nat.reduceMul, Nat.reduceSub, Nat.reduceLeDiff, gf_setf_ne, gf_setf_p, gf_setf_is, va_rf_s, va_rf_n, gf_seta, ga_setf, gc_setf, gc_seta, ga_seta_ne, ga_seta_eq, gf_new, gc_new, gf_newo_o, gc_newo_o, ga_newo_o, ga_new, gf_newa_o, gc_newa_o, ga_newa_o, nx_setf, nx_seta, nx_newo, nx_newa, su_setf, su_seta, su_newo, su_newa, sg_setf, sg_seta, sg_newo, sg_newa, okq_n, ga_seta_lt, seta_seta, okx, ata, w, yle (Nat.le_refl 0)]
      · unfold sU
        rw [if_pos rfl]
        by_cases z : i = 0
        · rw [updN_is z]; exact if_pos z
        · rw [updN_ne z]; exact (if_neg z).trans (he i hi z).1
    · have hp : (k - 1) / 2 < n := by omega
      obtain ⟨ep, sp⟩ := he ((k - 1) / 2) hp (by omega)
      have u1 := ush1 (n := k - 1) (by omega)
      have rd : rdQ (some (rfA e cap)) (nI ((k - 1) / 2)) = some (some (r ((k - 1) / 2))) := by rw [rdQ_n (by omega) (by omega) (by omega), ep]
      have qc := q.cmp e x (r ((k - 1) / 2)) hx sp
      have hs := q.sg x (r ((k - 1) / 2)) hx sp
      have kp := q.kd _ sp
      have okp : okq (seta A a (rfA e cap)) allC (.ref (r ((k - 1) / 2))) = true := by show cin (gcs A _) allC = true; rw [kp]; exact cin_all 17 (by omega)
      have kn : (k ≤ 0) = False := eq_false (by omega)
      unfold sU
      rw [if_neg k0]
      by_cases c : cv x (r ((k - 1) / 2)) < nI 0
      · have c' := hs.mp c
        have cT : (cv x (r ((k - 1) / 2)) < nI 0) = True := eq_true c
        rw [if_neg (show ¬ leV cv (r ((k - 1) / 2)) x = true from fun z => c' (of_decide_eq_true z))]
        have w := wrQ_5 (e := e) (cap := cap) (o := some (r ((k - 1) / 2))) (n := k) (by omega) (by omega)
        obtain ⟨e', e1, e2, e3⟩ := ih ((k - 1) / 2) (updN r k (r ((k - 1) / 2))) (va_up e k (some (r ((k - 1) / 2)))) (some (.int (nI ((k - 1) / 2)))) (some (.ref (r ((k - 1) / 2)))) (by omega) hp (fun i hi hne => by
          by_cases z : i = k
          · rw [updN_is z]; exact ⟨if_pos z, sp⟩
          · rw [updN_ne z]
            obtain ⟨a1, a2⟩ := he i hi z
            exact ⟨(if_neg z).trans a1, a2⟩)
        refine ⟨e', x_78_0.trans ?_, e2, fun i hi => (e3 i hi).trans (if_neg (by omega))⟩
        rw [← e1]
        simp (disch := first | omega | (simp (disch := omega) only [nx_setf, nx_seta, nx_newo, nx_newa]; omega)) only [x_78_1, x_78_4, x_78_5, x_78_6, x_78_7, x_78_8, x_78_9, x_78_11, x_78_12, x_78_14, x_78_15, x_78_17, x_78_18, x_78_19, x_78_21, x_78_26, x_78_29, x_78_32, x_78_33, x_78_34, x_78_36r, x_78_36n, x_78_37, x_78_39, x_78_40, kv_s, ki_s, kj_s, kd_s, kq_s, kq_n, kq_o, ka_s, kc_r, kc_t, kc0_r, kc0_t, kch_r, kc0h_r, kw_s, kw0_s, kwh_s, kw0h_s, rg_ref, rg_null, rg_rf, ck_t, sel_some, lkn_hd, Option.isSome_some, Bool.true_and, Bool.and_true, okv_i, okv_l, okv_r, okv_n, okv_rf, okv_b, okv_0, okv_1, okv_f, okv_d, c1_i, c1_r, c1_n, c1_rf, c1_f, nI_add, n_mul, n_sub, n_pred, n_eq, n_le, n_lt, n_neN, n_Nne, N_lt, N_le, n_ltN, n_leN, rdI_n, rdJ_n, rdD_n, wrI_n, wrI_z0, wrI_z1, wrI_zb, wrJ_n, wrD_n, aln_s, okn_n, upd_is, upd_ne, Nat.add_zero, Nat.add_sub_cancel, decide_true, decide_false, cond_true, cond_false, if_true, if_false, ite_not, not_true_eq_false, not_false_eq_true, Nat.reduceEqDiff, Nat.reduceAdd, Nat.reduceMul, Nat.reduceSub, Nat.reduceLeDiff, gf_setf_ne, gf_setf_p, gf_setf_is, va_rf_s, va_rf_n, gf_seta, ga_setf, gc_setf, gc_seta, ga_seta_ne, ga_seta_eq, gf_new, gc_new, gf_newo_o, gc_newo_o, ga_newo_o, ga_new, gf_newa_o, gc_newa_o, ga_newa_o, nx_setf, nx_seta, nx_newo, nx_newa, su_setf, su_seta, su_newo, su_newa, sg_setf, sg_seta, sg_newo, sg_newa, okq_n, ga_seta_lt, seta_seta, okp, ata, w, u1, rd, qc, cT, cc, kn]
      · have cF : (cv x (r ((k - 1) / 2)) < nI 0) = False := eq_false c
        have c' : cv (r ((k - 1) / 2)) x ≤ nI 0 := Classical.not_not.mp (fun z => c (hs.mpr z))
        rw [if_pos (show leV cv (r ((k - 1) / 2)) x = true from decide_eq_true c')]
        have w := wrQ_5 (e := e) (cap := cap) (o := some x) (n := k) (by omega) (by omega)
        refine ⟨va_up e k (some x), x_78_0.trans ?_, fun i hi => ?_, fun i hi => if_neg (by omega)⟩
        · simp (disch := first | omega | (simp (disch := omega) only [nx_setf, nx_seta, nx_newo, nx_newa]; omega)) only [x_78_1, x_78_4, x_78_5, x_78_6, x_78_7, x_78_8, x_78_9, x_78_11, x_78_12, x_78_14, x_78_15, x_78_17, x_78_18, x_78_19, x_78_21, x_78_26, x_78_29, x_78_32, x_78_33, x_78_34, x_78_36r, x_78_36n, x_78_37, x_78_39, x_78_40, x_78_43, x_78_44, x_78_45, x_78_46r, x_78_46n, x_78_47, kv_s, ki_s, kj_s, kd_s, kq_s, kq_n, kq_o, ka_s, kc_r, kc_t, kc0_r, kc0_t, kch_r, kc0h_r, kw_s, kw0_s, kwh_s, kw0h_s, rg_ref, rg_null, rg_rf, ck_t, sel_some, lkn_hd, Option.isSome_some, Bool.true_and, Bool.and_true, okv_i, okv_l, okv_r, okv_n, okv_rf, okv_b, okv_0, okv_1, okv_f, okv_d, c1_i, c1_r, c1_n, c1_rf, c1_f, nI_add, n_mul, n_sub, n_pred, n_eq, n_le, n_lt, n_neN, n_Nne, N_lt, N_le, n_ltN, n_leN, rdI_n, rdJ_n, rdD_n, wrI_n, wrI_z0, wrI_z1, wrI_zb, wrJ_n, wrD_n, aln_s, okn_n, upd_is, upd_ne, Nat.add_zero, Nat.add_sub_cancel, decide_true, decide_false, cond_true, cond_false, if_true, if_false, ite_not, not_true_eq_false, not_false_eq_true, Nat.reduceEqDiff, Nat.reduceAdd, Nat.reduceMul, Nat.reduceSub, Nat.reduceLeDiff, gf_setf_ne, gf_setf_p, gf_setf_is, va_rf_s, va_rf_n, gf_seta, ga_setf, gc_setf, gc_seta, ga_seta_ne, ga_seta_eq, gf_new, gc_new, gf_newo_o, gc_newo_o, ga_newo_o, ga_new, gf_newa_o, gc_newa_o, ga_newa_o, nx_setf, nx_seta, nx_newo, nx_newa, su_setf, su_seta, su_newo, su_newa, sg_setf, sg_seta, sg_newo, sg_newa, okq_n, ga_seta_lt, seta_seta, okx, ata, w, u1, rd, qc, cF, cc, kn]
        · by_cases z : i = k
          · rw [updN_is z]; exact if_pos z
          · rw [updN_ne z]; exact (if_neg z).trans (he i hi z).1
theorem m_81_lp (q : PqC A a cO cap d cv S) {x n : Nat} (hx : S x) (hn : n ≤ cap) : ∀ (f k : Nat) (r : Nat → Nat) (e : Nat → Option Nat) (j6 j7 j8 : Option Value), n ≤ k + f → k < n → (∀ i, i < n → i ≠ k → e i = some (r i) ∧ S (r i)) →
    ∃ e', exG TB d 81 5 [some (.int (nI k)), some (.ref x), some (.ref a), some (.int (nI n)), some (.ref cO), some (.int (nI (n / 2))), j6, j7, j8] [] (seta A a (rfA e cap)) = some (.inl none, seta A a (rfA e' cap)) ∧ (∀ i, i < n → e' i = some (sD (leV cv) x n f k r i)) ∧ (∀ i, n ≤ i → e' i = e i) := by
  have aa := q.aa
  have cp := q.cp
  have cc : gc A cO = some 19 := q.cc
  have kx := q.kd x hx
  have okx : ∀ e, okq (seta A a (rfA e cap)) allC (.ref x) = true := fun e => by show cin (gcs A x) allC = true; rw [kx]; exact cin_all 17 (by omega)
  have ata : ∀ e, atag (some (rfA e cap)) 5 = true := fun e => rfl
  intro f
  induction f with
  | zero => intro k r e j6 j7 j8 hk hkn; omega
  | succ f ih =>
    intro k r e j6 j7 j8 hk hkn he
    unfold sD
    by_cases k0 : n / 2 ≤ k
    · rw [if_pos k0]
      have w := wrQ_5 (e := e) (cap := cap) (o := some x) (n := k) (by omega) (by omega)
      refine ⟨va_up e k (some x), x_81_5.trans ?_, fun i hi => ?_, fun i hi => if_neg (by omega)⟩
      · simp (disch := first | omega | (simp (disch := omega) only [nx_setf, nx_seta, nx_newo, nx_newa]; omega)) only [x_81_0, x_81_1, x_81_2, x_81_3, x_81_6, x_81_8, x_81_11, x_81_12, x_81_13, x_81_14, x_81_15, x_81_16, x_81_18, x_81_19, x_81_21, x_81_22, x_81_24, x_81_26, x_81_27, x_81_28, x_81_30, x_81_32, x_81_33, x_81_36, x_81_38, x_81_40, x_81_41, x_81_43, x_81_44, x_81_49, x_81_52, x_81_53, x_81_55, x_81_56, x_81_58, x_81_59, x_81_61, x_81_63, x_81_64, x_81_66, x_81_71, x_81_74, x_81_77, x_81_78, x_81_79, x_81_81r, x_81_81n, x_81_82, x_81_84, x_81_85, x_81_88, x_81_89, x_81_90, x_81_91r, x_81_91n, x_81_92, kv_s, ki_s, kj_s, kd_s, kq_s, kq_n, kq_o, ka_s, kc_r, kc_t, kc0_r, kc0_t, kch_r, kc0h_r, kw_s, kw0_s, kwh_s, kw0h_s, rg_ref, rg_null, rg_rf, ck_t, sel_some, lkn_hd, Option.isSome_some, Bool.true_and, Bool.and_true, okv_i, okv_l, okv_r, okv_n, okv_rf, okv_b, okv_0, okv_1, okv_f, okv_d, c1_i, c1_r, c1_n, c1_rf, c1_f, nI_add, n_mul, n_sub, n_pred, n_eq, n_le, n_lt, n_neN, n_Nne, N_lt, N_le, n_ltN, n_leN, rdI_n, rdJ_n, rdD_n, wrI_n, wrI_z0, wrI_z1, wrI_zb, wrJ_n, wrD_n, aln_s, okn_n, upd_is, upd_ne, Nat.add_zero, Nat.add_sub_cancel, decide_true, decide_false, cond_true, cond_false, if_true, if_false, ite_not, not_true_eq_false, not_false_eq_true, Nat.reduceEqDiff, Nat.reduceAdd, Nat.reduceMul, Nat.reduceSub, Nat.reduceLeDiff, gf_setf_ne, gf_setf_p, gf_setf_is, va_rf_s, va_rf_n, gf_seta, ga_setf, gc_setf, gc_seta, ga_seta_ne, ga_seta_eq, gf_new, gc_new, gf_newo_o, gc_newo_o, ga_newo_o, ga_new, gf_newa_o, gc_newa_o, ga_newa_o, nx_setf, nx_seta, nx_newo, nx_newa, su_setf, su_seta, su_newo, su_newa, sg_setf, sg_seta, sg_newo, sg_newa, okq_n, ga_seta_lt, seta_seta, okx, ata, w, yle k0]
      · by_cases z : i = k
        · rw [updN_is z]; exact if_pos z
        · rw [updN_ne z]; exact (if_neg z).trans (he i hi z).1
    · rw [if_neg k0]
      obtain ⟨c1, c2, c3⟩ := ch2_lt (le := leV cv) (r := r) (Nat.not_le.mp k0)
      obtain ⟨ec, sc⟩ := he (ch2 (leV cv) n k r) c1 (by omega)
      have hl1 : 2 * k + 1 < n := by omega
      obtain ⟨e1, s1⟩ := he (2 * k + 1) hl1 (by omega)
      have sh := shl1 (n := k) (by omega)
      have rd1 : rdQ (some (rfA e cap)) (nI (2 * k + 1)) = some (some (r (2 * k + 1))) := by rw [rdQ_n (by omega) (by omega) (by omega), e1]
      have kc := q.kd _ sc
      have okc : okq (seta A a (rfA e cap)) allC (.ref (r (ch2 (leV cv) n k r))) = true := by show cin (gcs A _) allC = true; rw [kc]; exact cin_all 17 (by omega)
      have qx := q.cmp e x (r (ch2 (leV cv) n k r)) hx sc
      have kn : (n / 2 ≤ k) = False := eq_false k0
      -- to 61 with the chosen child
      have to61 : ∃ j8', exG TB d 81 5 [some (.int (nI k)), some (.ref x), some (.ref a), some (.int (nI n)), some (.ref cO), some (.int (nI (n / 2))), j6, j7, j8] [] (seta A a (rfA e cap)) = exG TB d 81 61 [some (.int (nI k)), some (.ref x), some (.ref a), some (.int (nI n)), some (.ref cO), some (.int (nI (n / 2))), some (.int (nI (ch2 (leV cv) n k r))), some (.ref (r (ch2 (leV cv) n k r))), j8'] [] (seta A a (rfA e cap)) := by
        refine ⟨some (.int (nI (2 * k + 2))), x_81_5.trans ?_⟩
        unfold ch2
        by_cases z : 2 * k + 2 < n
        · obtain ⟨e2, s2⟩ := he (2 * k + 2) z (by omega)
          have rd2 : rdQ (some (rfA e cap)) (nI (2 * k + 2)) = some (some (r (2 * k + 2))) := by rw [rdQ_n (by omega) (by omega) (by omega), e2]
          have q12 := q.cmp e (r (2 * k + 1)) (r (2 * k + 2)) s1 s2
          by_cases z2 : cv (r (2 * k + 1)) (r (2 * k + 2)) ≤ nI 0
          · have z2T : (cv (r (2 * k + 1)) (r (2 * k + 2)) ≤ nI 0) = True := eq_true z2
            rw [if_neg (fun w => w.2 (decide_eq_true z2))]
            simp (disch := first | omega | (simp (disch := omega) only [nx_setf, nx_seta, nx_newo, nx_newa]; omega)) only [x_81_6, x_81_8, x_81_11, x_81_12, x_81_13, x_81_14, x_81_15, x_81_16, x_81_18, x_81_19, x_81_21, x_81_22, x_81_24, x_81_26, x_81_27, x_81_28, x_81_30, x_81_32, x_81_33, x_81_36, x_81_38, x_81_40, x_81_41, x_81_43, x_81_44, x_81_49, x_81_52, x_81_53, x_81_55, x_81_56, x_81_58, x_81_59, kv_s, ki_s, kj_s, kd_s, kq_s, kq_n, kq_o, ka_s, kc_r, kc_t, kc0_r, kc0_t, kch_r, kc0h_r, kw_s, kw0_s, kwh_s, kw0h_s, rg_ref, rg_null, rg_rf, ck_t, sel_some, lkn_hd, Option.isSome_some, Bool.true_and, Bool.and_true, okv_i, okv_l, okv_r, okv_n, okv_rf, okv_b, okv_0, okv_1, okv_f, okv_d, c1_i, c1_r, c1_n, c1_rf, c1_f, nI_add, n_mul, n_sub, n_pred, n_eq, n_le, n_lt, n_neN, n_Nne, N_lt, N_le, n_ltN, n_leN, rdI_n, rdJ_n, rdD_n, wrI_n, wrI_z0, wrI_z1, wrI_zb, wrJ_n, wrD_n, aln_s, okn_n, upd_is, upd_ne, Nat.add_zero, Nat.add_sub_cancel, decide_true, decide_false, cond_true, cond_false, if_true, if_false, ite_not, not_true_eq_false, not_false_eq_true, Nat.reduceEqDiff, Nat.reduceAdd, Nat.reduceMul, Nat.reduceSub, Nat.reduceLeDiff, gf_setf_ne, gf_setf_p, gf_setf_is, va_rf_s, va_rf_n, gf_seta, ga_setf, gc_setf, gc_seta, ga_seta_ne, ga_seta_eq, gf_new, gc_new, gf_newo_o, gc_newo_o, ga_newo_o, ga_new, gf_newa_o, gc_newa_o, ga_newa_o, nx_setf, nx_seta, nx_newo, nx_newa, su_setf, su_seta, su_newo, su_newa, sg_setf, sg_seta, sg_newo, sg_newa, okq_n, ga_seta_lt, sh, rd1, rd2, q12, z2T, cc, kn, nle z]
          · have z2F : (cv (r (2 * k + 1)) (r (2 * k + 2)) ≤ nI 0) = False := eq_false z2
            rw [if_pos ⟨z, fun w => z2 (of_decide_eq_true w)⟩]
            simp (disch := first | omega | (simp (disch := omega) only [nx_setf, nx_seta, nx_newo, nx_newa]; omega)) only [x_81_6, x_81_8, x_81_11, x_81_12, x_81_13, x_81_14, x_81_15, x_81_16, x_81_18, x_81_19, x_81_21, x_81_22, x_81_24, x_81_26, x_81_27, x_81_28, x_81_30, x_81_32, x_81_33, x_81_36, x_81_38, x_81_40, x_81_41, x_81_43, x_81_44, x_81_49, x_81_52, x_81_53, x_81_55, x_81_56, x_81_58, x_81_59, kv_s, ki_s, kj_s, kd_s, kq_s, kq_n, kq_o, ka_s, kc_r, kc_t, kc0_r, kc0_t, kch_r, kc0h_r, kw_s, kw0_s, kwh_s, kw0h_s, rg_ref, rg_null, rg_rf, ck_t, sel_some, lkn_hd, Option.isSome_some, Bool.true_and, Bool.and_true, okv_i, okv_l, okv_r, okv_n, okv_rf, okv_b, okv_0, okv_1, okv_f, okv_d, c1_i, c1_r, c1_n, c1_rf, c1_f, nI_add, n_mul, n_sub, n_pred, n_eq, n_le, n_lt, n_neN, n_Nne, N_lt, N_le, n_ltN, n_leN, rdI_n, rdJ_n, rdD_n, wrI_n, wrI_z0, wrI_z1, wrI_zb, wrJ_n, wrD_n, aln_s, okn_n, upd_is, upd_ne, Nat.add_zero, Nat.add_sub_cancel, decide_true, decide_false, cond_true, cond_false, if_true, if_false, ite_not, not_true_eq_false, not_false_eq_true, Nat.reduceEqDiff, Nat.reduceAdd, Nat.reduceMul, Nat.reduceSub, Nat.reduceLeDiff, gf_setf_ne, gf_setf_p, gf_setf_is, va_rf_s, va_rf_n, gf_seta, ga_setf, gc_setf, gc_seta, ga_seta_ne, ga_seta_eq, gf_new, gc_new, gf_newo_o, gc_newo_o, ga_newo_o, ga_new, gf_newa_o, gc_newa_o, ga_newa_o, nx_setf, nx_seta, nx_newo, nx_newa, su_setf, su_seta, su_newo, su_newa, sg_setf, sg_seta, sg_newo, sg_newa, okq_n, ga_seta_lt, sh, rd1, rd2, q12, z2F, cc, kn, nle z]
        · rw [if_neg (fun w => z w.1)]
          simp (disch := first | omega | (simp (disch := omega) only [nx_setf, nx_seta, nx_newo, nx_newa]; omega)) only [x_81_6, x_81_8, x_81_11, x_81_12, x_81_13, x_81_14, x_81_15, x_81_16, x_81_18, x_81_19, x_81_21, x_81_22, x_81_24, x_81_26, x_81_27, x_81_28, x_81_30, x_81_32, x_81_33, x_81_36, x_81_38, x_81_40, x_81_41, x_81_43, x_81_44, x_81_49, x_81_52, x_81_53, x_81_55, x_81_56, x_81_58, x_81_59, kv_s, ki_s, kj_s, kd_s, kq_s, kq_n, kq_o, ka_s, kc_r, kc_t, kc0_r, kc0_t, kch_r, kc0h_r, kw_s, kw0_s, kwh_s, kw0h_s, rg_ref, rg_null, rg_rf, ck_t, sel_some, lkn_hd, Option.isSome_some, Bool.true_and, Bool.and_true, okv_i, okv_l, okv_r, okv_n, okv_rf, okv_b, okv_0, okv_1, okv_f, okv_d, c1_i, c1_r, c1_n, c1_rf, c1_f, nI_add, n_mul, n_sub, n_pred, n_eq, n_le, n_lt, n_neN, n_Nne, N_lt, N_le, n_ltN, n_leN, rdI_n, rdJ_n, rdD_n, wrI_n, wrI_z0, wrI_z1, wrI_zb, wrJ_n, wrD_n, aln_s, okn_n, upd_is, upd_ne, Nat.add_zero, Nat.add_sub_cancel, decide_true, decide_false, cond_true, cond_false, if_true, if_false, ite_not, not_true_eq_false, not_false_eq_true, Nat.reduceEqDiff, Nat.reduceAdd, Nat.reduceMul, Nat.reduceSub, Nat.reduceLeDiff, gf_setf_ne, gf_setf_p, gf_setf_is, va_rf_s, va_rf_n, gf_seta, ga_setf, gc_setf, gc_seta, ga_seta_ne, ga_seta_eq, gf_new, gc_new, gf_newo_o, gc_newo_o, ga_newo_o, ga_new, gf_newa_o, gc_newa_o, ga_newa_o, nx_setf, nx_seta, nx_newo, nx_newa, su_setf, su_seta, su_newo, su_newa, sg_setf, sg_seta, sg_newo, sg_newa, okq_n, ga_seta_lt, sh, rd1, cc, kn, yle (Nat.not_lt.mp z)]
      obtain ⟨j8', t61⟩ := to61
      rw [t61]
      generalize hch : ch2 (leV cv) n k r = c at *
      by_cases z : cv x (r c) ≤ nI 0
      · rw [if_pos (show leV cv x (r c) = true from decide_eq_true z)]
        have zF : (nI 0 < cv x (r c)) = False := eq_false (Int32.not_lt.mpr z)
        have w := wrQ_5 (e := e) (cap := cap) (o := some x) (n := k) (by omega) (by omega)
        refine ⟨va_up e k (some x), ?_, fun i hi => ?_, fun i hi => if_neg (by omega)⟩
        · simp (disch := first | omega | (simp (disch := omega) only [nx_setf, nx_seta, nx_newo, nx_newa]; omega)) only [x_81_0, x_81_1, x_81_2, x_81_3, x_81_6, x_81_8, x_81_11, x_81_12, x_81_13, x_81_14, x_81_15, x_81_16, x_81_18, x_81_19, x_81_21, x_81_22, x_81_24, x_81_26, x_81_27, x_81_28, x_81_30, x_81_32, x_81_33, x_81_36, x_81_38, x_81_40, x_81_41, x_81_43, x_81_44, x_81_49, x_81_52, x_81_53, x_81_55, x_81_56, x_81_58, x_81_59, x_81_61, x_81_63, x_81_64, x_81_66, x_81_71, x_81_74, x_81_77, x_81_78, x_81_79, x_81_81r, x_81_81n, x_81_82, x_81_84, x_81_85, x_81_88, x_81_89, x_81_90, x_81_91r, x_81_91n, x_81_92, kv_s, ki_s, kj_s, kd_s, kq_s, kq_n, kq_o, ka_s, kc_r, kc_t, kc0_r, kc0_t, kch_r, kc0h_r, kw_s, kw0_s, kwh_s, kw0h_s, rg_ref, rg_null, rg_rf, ck_t, sel_some, lkn_hd, Option.isSome_some, Bool.true_and, Bool.and_true, okv_i, okv_l, okv_r, okv_n, okv_rf, okv_b, okv_0, okv_1, okv_f, okv_d, c1_i, c1_r, c1_n, c1_rf, c1_f, nI_add, n_mul, n_sub, n_pred, n_eq, n_le, n_lt, n_neN, n_Nne, N_lt, N_le, n_ltN, n_leN, rdI_n, rdJ_n, rdD_n, wrI_n, wrI_z0, wrI_z1, wrI_zb, wrJ_n, wrD_n, aln_s, okn_n, upd_is, upd_ne, Nat.add_zero, Nat.add_sub_cancel, decide_true, decide_false, cond_true, cond_false, if_true, if_false, ite_not, not_true_eq_false, not_false_eq_true, Nat.reduceEqDiff, Nat.reduceAdd, Nat.reduceMul, Nat.reduceSub, Nat.reduceLeDiff, gf_setf_ne, gf_setf_p, gf_setf_is, va_rf_s, va_rf_n, gf_seta, ga_setf, gc_setf, gc_seta, ga_seta_ne, ga_seta_eq, gf_new, gc_new, gf_newo_o, gc_newo_o, ga_newo_o, ga_new, gf_newa_o, gc_newa_o, ga_newa_o, nx_setf, nx_seta, nx_newo, nx_newa, su_setf, su_seta, su_newo, su_newa, sg_setf, sg_seta, sg_newo, sg_newa, okq_n, ga_seta_lt, seta_seta, okx, ata, w, qx, zF, cc]
        · by_cases z : i = k
          · rw [updN_is z]; exact if_pos z
          · rw [updN_ne z]; exact (if_neg z).trans (he i hi z).1
      · rw [if_neg (show ¬ leV cv x (r c) = true from fun w => z (of_decide_eq_true w))]
        have zT : (nI 0 < cv x (r c)) = True := eq_true (Int32.not_le.mp z)
        have w := wrQ_5 (e := e) (cap := cap) (o := some (r c)) (n := k) (by omega) (by omega)
        obtain ⟨e', g1, g2, g3⟩ := ih c (updN r k (r c)) (va_up e k (some (r c))) (some (.int (nI c))) (some (.ref (r c))) j8' (by omega) c1 (fun i hi hne => by
          by_cases z : i = k
          · rw [updN_is z]; exact ⟨if_pos z, sc⟩
          · rw [updN_ne z]
            obtain ⟨a1, a2⟩ := he i hi z
            exact ⟨(if_neg z).trans a1, a2⟩)
        refine ⟨e', ?_, g2, fun i hi => (g3 i hi).trans (if_neg (by omega))⟩
        rw [← g1]
        simp (disch := first | omega | (simp (disch := omega) only [nx_setf, nx_seta, nx_newo, nx_newa]; omega)) only [x_81_61, x_81_63, x_81_64, x_81_66, x_81_71, x_81_74, x_81_77, x_81_78, x_81_79, x_81_81r, x_81_81n, x_81_82, x_81_84, x_81_85, kv_s, ki_s, kj_s, kd_s, kq_s, kq_n, kq_o, ka_s, kc_r, kc_t, kc0_r, kc0_t, kch_r, kc0h_r, kw_s, kw0_s, kwh_s, kw0h_s, rg_ref, rg_null, rg_rf, ck_t, sel_some, lkn_hd, Option.isSome_some, Bool.true_and, Bool.and_true, okv_i, okv_l, okv_r, okv_n, okv_rf, okv_b, okv_0, okv_1, okv_f, okv_d, c1_i, c1_r, c1_n, c1_rf, c1_f, nI_add, n_mul, n_sub, n_pred, n_eq, n_le, n_lt, n_neN, n_Nne, N_lt, N_le, n_ltN, n_leN, rdI_n, rdJ_n, rdD_n, wrI_n, wrI_z0, wrI_z1, wrI_zb, wrJ_n, wrD_n, aln_s, okn_n, upd_is, upd_ne, Nat.add_zero, Nat.add_sub_cancel, decide_true, decide_false, cond_true, cond_false, if_true, if_false, ite_not, not_true_eq_false, not_false_eq_true, Nat.reduceEqDiff, Nat.reduceAdd, Nat.reduceMul, Nat.reduceSub, Nat.reduceLeDiff, gf_setf_ne, gf_setf_p, gf_setf_is, va_rf_s, va_rf_n, gf_seta, ga_setf, gc_setf, gc_seta, ga_seta_ne, ga_seta_eq, gf_new, gc_new, gf_newo_o, gc_newo_o, ga_newo_o, ga_new, gf_newa_o, gc_newa_o, ga_newa_o, nx_setf, nx_seta, nx_newo, nx_newa, su_setf, su_seta, su_newo, su_newa, sg_setf, sg_seta, sg_newo, sg_newa, okq_n, ga_seta_lt, seta_seta, okc, ata, w, qx, zT, cc]
end
