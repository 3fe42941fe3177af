/-! TreeMap: where a key goes -/
def Ln (lf : Bool) (L : Lk) (p e : Nat) : Lk := if lf = true then uL L p (some e) else L
def Rn (lf : Bool) (R : Lk) (p e : Nat) : Lk := if lf = true then R else uL R p (some e)
theorem Ln_ne {lf : Bool} {L : Lk} {p e x : Nat} (h : x ≠ p) : Ln lf L p e x = L x := by
  unfold Ln
  split
  · exact uL_ne h
  · rfl
theorem Rn_ne {lf : Bool} {R : Lk} {p e x : Nat} (h : x ≠ p) : Rn lf R p e x = R x := by
  unfold Rn
  split
  · rfl
  · exact uL_ne h
/-- where key k goes among the nodes of l: behind a, ahead of b, at p -/
abbrev PtA (ky : Nat → Nat) (k : Nat) (L R P : Lk) (f : Nat) (par : Option Nat) (s : Nat) (l : List Nat) (p : Nat) (a b : List Nat) (lf : Bool) : Prop := (l = a ++ b) ∧ (∀ x, x ∈ a → ky x < k) ∧ (∀ x, x ∈ b → k < ky x) ∧ (p ∈ l) ∧ (∀ e, e ∉ l → L e = none → R e = none → isT (Ln lf L p e) (Rn lf R p e) (uL P e (some p)) (f + 1) par (some s) (a ++ e :: b))
theorem PtA.e {ky : Nat → Nat} {k : Nat} {L R P : Lk} {f : Nat} {par : Option Nat} {s : Nat} {l : List Nat} {p : Nat} {a b : List Nat} {lf : Bool} (h : PtA ky k L R P f par s l p a b lf) : l = a ++ b := h.1
theorem PtA.ka {ky : Nat → Nat} {k : Nat} {L R P : Lk} {f : Nat} {par : Option Nat} {s : Nat} {l : List Nat} {p : Nat} {a b : List Nat} {lf : Bool} (h : PtA ky k L R P f par s l p a b lf) : ∀ x, x ∈ a → ky x < k := h.2.1
theorem PtA.kb {ky : Nat → Nat} {k : Nat} {L R P : Lk} {f : Nat} {par : Option Nat} {s : Nat} {l : List Nat} {p : Nat} {a b : List Nat} {lf : Bool} (h : PtA ky k L R P f par s l p a b lf) : ∀ x, x ∈ b → k < ky x := h.2.2.1
theorem PtA.p {ky : Nat → Nat} {k : Nat} {L R P : Lk} {f : Nat} {par : Option Nat} {s : Nat} {l : List Nat} {p : Nat} {a b : List Nat} {lf : Bool} (h : PtA ky k L R P f par s l p a b lf) : p ∈ l := h.2.2.2.1
theorem PtA.t {ky : Nat → Nat} {k : Nat} {L R P : Lk} {f : Nat} {par : Option Nat} {s : Nat} {l : List Nat} {p : Nat} {a b : List Nat} {lf : Bool} (h : PtA ky k L R P f par s l p a b lf) : ∀ e, e ∉ l → L e = none → R e = none → isT (Ln lf L p e) (Rn lf R p e) (uL P e (some p)) (f + 1) par (some s) (a ++ e :: b) := h.2.2.2.2
section
variable {A : Hp} {m d k kO : Nat} {ky kA : Nat → Nat} {L R P : Lk} {V : Value} {j9 : Option Value}
theorem m_56_dn (hk : InS A kO (nI k)) (hk2 : k < 2147483648) : ∀ (f : Nat) (par : Option Nat) (s : Nat) (l : List Nat) (j5 j6 : Option Value), isT L R P f par (some s) l → l.Nodup → l.Pairwise (fun x y => ky x < ky y) →
    (∀ x, x ∈ l → gf A x 110 = some (.ref (kA x)) ∧ InS A (kA x) (nI (ky x)) ∧ ky x < 2147483648 ∧ ky x ≠ k ∧ gf A x 112 = some (va_rf (L x)) ∧ gf A x 113 = some (va_rf (R x))) →
    ∃ p a b lf, exG TB (d + 3) 56 123 [some (.ref m), some (.ref kO), some V, some (.int (nI 1)), some (.ref s), j5, j6, some .null, some (.ref kO), j9] [] A = exG TB (d + 3) 56 201 [some (.ref m), some (.ref kO), some V, some (.int (nI 1)), some .null, some (.int (if lf = true then nN else nI 1)), some (.ref p), some .null, some (.ref kO), j9] [] A ∧ PtA ky k L R P f par s l p a b lf := by
  intro f
  induction f with
  | zero => intro par s l j5 j6 h; cases h.1
  | succ f ih =>
    intro par s l j5 j6 h hn hs hx
    obtain ⟨h1, l1, l2, h2, h3, h4⟩ := h
    subst h2
    have hn' := List.nodup_append.mp hn
    have hn2 := List.nodup_cons.mp hn'.2.1
    have hs' := List.pairwise_append.mp hs
    have hs2 := List.pairwise_cons.mp hs'.2.1
    have ds1 : s ∉ l1 := fun a => hn'.2.2 s a s List.mem_cons_self rfl
    have ds2 : s ∉ l2 := hn2.1
    have d12 : ∀ x, x ∈ l1 → x ∉ l2 := fun x a b => hn'.2.2 x a x (List.mem_cons_of_mem _ b) rfl
    obtain ⟨x1, x2, x3, x4, x5, x6⟩ := hx s (by simp)
    have q22 := m_22 (d := d) hk x2 hk2 x3
    have kc := x2.k1.2
    have kc2 := hk.k1.2
    rcases Nat.lt_or_gt_of_ne x4 with c | c
    · -- to the right
      rw [if_neg (by omega), if_neg (by omega)] at q22
      have kl1 : ∀ x, x ∈ l1 → ky x < k := fun x hx => Nat.lt_trans (hs'.2.2 x hx s List.mem_cons_self) c
      cases hR : R s with
      | none =>
        rw [hR] at h4
        have e2 := isT_none.mp h4
        subst e2
        refine ⟨s, l1 ++ [s], [], false, x_56_123.trans ?_, ⟨by simp, fun x hx => ?_, fun x hx => (by cases hx), by simp, fun e he hLe hRe => ?_⟩⟩
        · simp (disch := first | omega | (simp (disch := omega) only [nx_setf, nx_seta, nx_newo, nx_newa]; omega)) only [x_56_125, x_56_127, x_56_129, x_56_131, x_56_134, x_56_139, x_56_141, x_56_143, x_56_146, x_56_148, x_56_151, x_56_153, x_56_156, x_56_158, x_56_161, x_56_163, x_56_166, x_56_168, x_56_171, x_56_173, x_56_176, x_56_178, x_56_179, x_56_182, x_56_184n, x_56_184r, x_56_187, x_56_189, x_56_190, x_56_193, x_56_195, x_56_196, x_56_198n, x_56_198r, kv_s, ki_s, kj_s, kd_s, kq_s, kq_n, kq_o, ka_s, kc_r, kc_t, kc0_r, kc0_t, kch_r, kc0h_r, kw_s, kw0_s, kwh_s, kw0h_s, rg_ref, rg_null, rg_rf, ck_t, sel_some, lkn_hd, Option.isSome_some, Bool.true_and, Bool.and_true, okv_i, okv_l, okv_r, okv_n, okv_rf, okv_b, okv_0, okv_1, okv_f, okv_d, c1_i, c1_r, c1_n, c1_rf, c1_f, nI_add, n_mul, n_sub, n_pred, n_eq, n_le, n_lt, n_neN, n_Nne, N_lt, N_le, n_ltN, n_leN, rdI_n, rdJ_n, rdD_n, wrI_n, wrI_z0, wrI_z1, wrI_zb, wrJ_n, wrD_n, aln_s, okn_n, upd_is, upd_ne, Nat.add_zero, Nat.add_sub_cancel, decide_true, decide_false, cond_true, cond_false, if_true, if_false, ite_not, not_true_eq_false, not_false_eq_true, Nat.reduceEqDiff, Nat.reduceAdd, Nat.reduceMul, Nat.reduceSub, Nat.reduceLeDiff, gf_setf_ne, gf_setf_p, gf_setf_is, va_rf_s, va_rf_n, gf_seta, ga_setf, gc_setf, gc_seta, ga_seta_ne, ga_seta_eq, gf_new, gc_new, gf_newo_o, gc_newo_o, ga_newo_o, ga_new, gf_newa_o, gc_newa_o, ga_newa_o, nx_setf, nx_seta, nx_newo, nx_newa, su_setf, su_seta, su_newo, su_newa, sg_setf, sg_seta, sg_newo, sg_newa, okq_n, x1, x6, hR, kc2, q22, nle (show 0 < 1 by omega), nlt (show 0 ≤ 1 by omega), Bool.false_eq_true]
        · rcases List.mem_append.mp hx with q | q
          · exact kl1 x q
          · rw [List.mem_singleton.mp q]; exact c
        · have es : e ≠ s := fun z => he (by rw [z]; simp)
          refine ⟨(uL_ne es.symm).trans h1, l1, [e], by simp, ?_, ?_⟩
          · show isT _ _ _ (f + 1) (some s) (L s) l1
            refine isT_up (isT_congr h3 (fun x hx => ?_))
            have xs : x ≠ s := fun z => ds1 (by rw [← z]; exact hx)
            have xe : x ≠ e := fun z => he (by rw [← z]; simp [hx])
            exact ⟨rfl, uL_ne xs, uL_ne xe⟩
          · have : Rn false R s e s = some e := uL_is rfl
            rw [this]
            refine ⟨uL_is rfl, [], [], rfl, ?_, ?_⟩
            · show isT _ _ _ f (some e) (L e) []
              rw [hLe]; exact isT_none.mpr rfl
            · have : Rn false R s e e = none := (uL_ne es).trans hRe
              rw [this]; exact isT_none.mpr rfl
      | some s2 =>
        rw [hR] at h4
        obtain ⟨p, a, b, lf, e1, pt⟩ := ih (some s) s2 l2 (some (.int (nI 1))) (some (.ref s)) h4 hn2.2 hs2.2 (fun x hx' => hx x (by simp [hx']))
        refine ⟨p, l1 ++ s :: a, b, lf, (x_56_123.trans ?_).trans e1, ⟨by rw [pt.e]; simp, fun x hx => ?_, pt.kb, by simp [pt.p], fun e he hLe hRe => ?_⟩⟩
        · simp (disch := first | omega | (simp (disch := omega) only [nx_setf, nx_seta, nx_newo, nx_newa]; omega)) only [x_56_125, x_56_127, x_56_129, x_56_131, x_56_134, x_56_139, x_56_141, x_56_143, x_56_146, x_56_148, x_56_151, x_56_153, x_56_156, x_56_158, x_56_161, x_56_163, x_56_166, x_56_168, x_56_171, x_56_173, x_56_176, x_56_178, x_56_179, x_56_182, x_56_184n, x_56_184r, x_56_187, x_56_189, x_56_190, x_56_193, x_56_195, x_56_196, x_56_198n, x_56_198r, kv_s, ki_s, kj_s, kd_s, kq_s, kq_n, kq_o, ka_s, kc_r, kc_t, kc0_r, kc0_t, kch_r, kc0h_r, kw_s, kw0_s, kwh_s, kw0h_s, rg_ref, rg_null, rg_rf, ck_t, sel_some, lkn_hd, Option.isSome_some, Bool.true_and, Bool.and_true, okv_i, okv_l, okv_r, okv_n, okv_rf, okv_b, okv_0, okv_1, okv_f, okv_d, c1_i, c1_r, c1_n, c1_rf, c1_f, nI_add, n_mul, n_sub, n_pred, n_eq, n_le, n_lt, n_neN, n_Nne, N_lt, N_le, n_ltN, n_leN, rdI_n, rdJ_n, rdD_n, wrI_n, wrI_z0, wrI_z1, wrI_zb, wrJ_n, wrD_n, aln_s, okn_n, upd_is, upd_ne, Nat.add_zero, Nat.add_sub_cancel, decide_true, decide_false, cond_true, cond_false, if_true, if_false, ite_not, not_true_eq_false, not_false_eq_true, Nat.reduceEqDiff, Nat.reduceAdd, Nat.reduceMul, Nat.reduceSub, Nat.reduceLeDiff, gf_setf_ne, gf_setf_p, gf_setf_is, va_rf_s, va_rf_n, gf_seta, ga_setf, gc_setf, gc_seta, ga_seta_ne, ga_seta_eq, gf_new, gc_new, gf_newo_o, gc_newo_o, ga_newo_o, ga_new, gf_newa_o, gc_newa_o, ga_newa_o, nx_setf, nx_seta, nx_newo, nx_newa, su_setf, su_seta, su_newo, su_newa, sg_setf, sg_seta, sg_newo, sg_newa, okq_n, x1, x6, hR, kc2, q22, nle (show 0 < 1 by omega), nlt (show 0 ≤ 1 by omega)]
        · rcases List.mem_append.mp hx with q | q
          · exact kl1 x q
          · rcases List.mem_cons.mp q with q | q
            · rw [q]; exact c
            · exact pt.ka x q
        · have es : e ≠ s := fun z => he (by rw [z]; simp)
          have ps : s ≠ p := fun z => ds2 (by rw [z]; exact pt.p)
          refine ⟨(uL_ne es.symm).trans h1, l1, a ++ e :: b, by simp, ?_, ?_⟩
          · rw [Ln_ne ps]
            refine isT_up (isT_congr h3 (fun x hx => ?_))
            have xp : x ≠ p := fun z => d12 x hx (by rw [z]; exact pt.p)
            have xe : x ≠ e := fun z => he (by rw [← z]; simp [hx])
            exact ⟨Ln_ne xp, Rn_ne xp, uL_ne xe⟩
          · rw [Rn_ne ps, hR]
            exact pt.t e (fun z => he (by simp [z])) hLe hRe
    · -- to the left
      rw [if_pos c] at q22
      have kl2 : ∀ x, x ∈ l2 → k < ky x := fun x hx => Nat.lt_trans c (hs2.1 x hx)
      cases hL : L s with
      | none =>
        rw [hL] at h3
        have e2 := isT_none.mp h3
        subst e2
        refine ⟨s, [], s :: l2, true, x_56_123.trans ?_, ⟨by simp, fun x hx => (by cases hx), fun x hx => ?_, by simp, fun e he hLe hRe => ?_⟩⟩
        · simp (disch := first | omega | (simp (disch := omega) only [nx_setf, nx_seta, nx_newo, nx_newa]; omega)) only [x_56_125, x_56_127, x_56_129, x_56_131, x_56_134, x_56_139, x_56_141, x_56_143, x_56_146, x_56_148, x_56_151, x_56_153, x_56_156, x_56_158, x_56_161, x_56_163, x_56_166, x_56_168, x_56_171, x_56_173, x_56_176, x_56_178, x_56_179, x_56_182, x_56_184n, x_56_184r, x_56_187, x_56_189, x_56_190, x_56_193, x_56_195, x_56_196, x_56_198n, x_56_198r, kv_s, ki_s, kj_s, kd_s, kq_s, kq_n, kq_o, ka_s, kc_r, kc_t, kc0_r, kc0_t, kch_r, kc0h_r, kw_s, kw0_s, kwh_s, kw0h_s, rg_ref, rg_null, rg_rf, ck_t, sel_some, lkn_hd, Option.isSome_some, Bool.true_and, Bool.and_true, okv_i, okv_l, okv_r, okv_n, okv_rf, okv_b, okv_0, okv_1, okv_f, okv_d, c1_i, c1_r, c1_n, c1_rf, c1_f, nI_add, n_mul, n_sub, n_pred, n_eq, n_le, n_lt, n_neN, n_Nne, N_lt, N_le, n_ltN, n_leN, rdI_n, rdJ_n, rdD_n, wrI_n, wrI_z0, wrI_z1, wrI_zb, wrJ_n, wrD_n, aln_s, okn_n, upd_is, upd_ne, Nat.add_zero, Nat.add_sub_cancel, decide_true, decide_false, cond_true, cond_false, if_true, if_false, ite_not, not_true_eq_false, not_false_eq_true, Nat.reduceEqDiff, Nat.reduceAdd, Nat.reduceMul, Nat.reduceSub, Nat.reduceLeDiff, gf_setf_ne, gf_setf_p, gf_setf_is, va_rf_s, va_rf_n, gf_seta, ga_setf, gc_setf, gc_seta, ga_seta_ne, ga_seta_eq, gf_new, gc_new, gf_newo_o, gc_newo_o, ga_newo_o, ga_new, gf_newa_o, gc_newa_o, ga_newa_o, nx_setf, nx_seta, nx_newo, nx_newa, su_setf, su_seta, su_newo, su_newa, sg_setf, sg_seta, sg_newo, sg_newa, okq_n, x1, x5, hL, kc2, q22]
        · rcases List.mem_cons.mp hx with q | q
          · rw [q]; exact c
          · exact kl2 x q
        · have es : e ≠ s := fun z => he (by rw [z]; simp)
          refine ⟨(uL_ne es.symm).trans h1, [e], l2, by simp, ?_, ?_⟩
          · have : Ln true L s e s = some e := uL_is rfl
            rw [this]
            refine ⟨uL_is rfl, [], [], rfl, ?_, ?_⟩
            · have : Ln true L s e e = none := (uL_ne es).trans hLe
              rw [this]; exact isT_none.mpr rfl
            · show isT _ _ _ f (some e) (R e) []
              rw [hRe]; exact isT_none.mpr rfl
          · show isT _ _ _ (f + 1) (some s) (R s) l2
            refine isT_up (isT_congr h4 (fun x hx => ?_))
            have xs : x ≠ s := fun z => ds2 (by rw [← z]; exact hx)
            have xe : x ≠ e := fun z => he (by rw [← z]; simp [hx])
            exact ⟨uL_ne xs, rfl, uL_ne xe⟩
      | some s1 =>
        rw [hL] at h3
        obtain ⟨p, a, b, lf, e1, pt⟩ := ih (some s) s1 l1 (some (.int nN)) (some (.ref s)) h3 hn'.1 hs'.1 (fun x hx' => hx x (by simp [hx']))
        refine ⟨p, a, b ++ s :: l2, lf, (x_56_123.trans ?_).trans e1, ⟨by rw [pt.e]; simp, pt.ka, fun x hx => ?_, by simp [pt.p], fun e he hLe hRe => ?_⟩⟩
        · simp (disch := first | omega | (simp (disch := omega) only [nx_setf, nx_seta, nx_newo, nx_newa]; omega)) only [x_56_125, x_56_127, x_56_129, x_56_131, x_56_134, x_56_139, x_56_141, x_56_143, x_56_146, x_56_148, x_56_151, x_56_153, x_56_156, x_56_158, x_56_161, x_56_163, x_56_166, x_56_168, x_56_171, x_56_173, x_56_176, x_56_178, x_56_179, x_56_182, x_56_184n, x_56_184r, x_56_187, x_56_189, x_56_190, x_56_193, x_56_195, x_56_196, x_56_198n, x_56_198r, kv_s, ki_s, kj_s, kd_s, kq_s, kq_n, kq_o, ka_s, kc_r, kc_t, kc0_r, kc0_t, kch_r, kc0h_r, kw_s, kw0_s, kwh_s, kw0h_s, rg_ref, rg_null, rg_rf, ck_t, sel_some, lkn_hd, Option.isSome_some, Bool.true_and, Bool.and_true, okv_i, okv_l, okv_r, okv_n, okv_rf, okv_b, okv_0, okv_1, okv_f, okv_d, c1_i, c1_r, c1_n, c1_rf, c1_f, nI_add, n_mul, n_sub, n_pred, n_eq, n_le, n_lt, n_neN, n_Nne, N_lt, N_le, n_ltN, n_leN, rdI_n, rdJ_n, rdD_n, wrI_n, wrI_z0, wrI_z1, wrI_zb, wrJ_n, wrD_n, aln_s, okn_n, upd_is, upd_ne, Nat.add_zero, Nat.add_sub_cancel, decide_true, decide_false, cond_true, cond_false, if_true, if_false, ite_not, not_true_eq_false, not_false_eq_true, Nat.reduceEqDiff, Nat.reduceAdd, Nat.reduceMul, Nat.reduceSub, Nat.reduceLeDiff, gf_setf_ne, gf_setf_p, gf_setf_is, va_rf_s, va_rf_n, gf_seta, ga_setf, gc_setf, gc_seta, ga_seta_ne, ga_seta_eq, gf_new, gc_new, gf_newo_o, gc_newo_o, ga_newo_o, ga_new, gf_newa_o, gc_newa_o, ga_newa_o, nx_setf, nx_seta, nx_newo, nx_newa, su_setf, su_seta, su_newo, su_newa, sg_setf, sg_seta, sg_newo, sg_newa, okq_n, x1, x5, hL, kc2, q22]
        · rcases List.mem_append.mp hx with q | q
          · exact pt.kb x q
          · rcases List.mem_cons.mp q with q | q
            · rw [q]; exact c
            · exact kl2 x q
        · have es : e ≠ s := fun z => he (by rw [z]; simp)
          have ps : s ≠ p := fun z => ds1 (by rw [z]; exact pt.p)
          refine ⟨(uL_ne es.symm).trans h1, a ++ e :: b, l2, by simp, ?_, ?_⟩
          · rw [Ln_ne ps, hL]
            exact pt.t e (fun z => he (by simp [z])) hLe hRe
          · rw [Rn_ne ps]
            refine isT_up (isT_congr h4 (fun x hx => ?_))
            have xp : x ≠ p := fun z => d12 p pt.p (by rw [← z]; exact hx)
            have xe : x ≠ e := fun z => he (by rw [← z]; simp [hx])
            exact ⟨Ln_ne xp, Rn_ne xp, uL_ne xe⟩
end
