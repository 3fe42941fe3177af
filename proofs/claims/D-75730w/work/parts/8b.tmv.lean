/-! TreeMap: made anew; its values in order -/
/-- links that the heap holds -/
abbrev LkH (A : Hp) (L R P : Lk) (l : List Nat) : Prop := (∀ x, x ∈ l → gf A x 112 = some (va_rf (L x)) ∧ gf A x 113 = some (va_rf (R x)) ∧ gf A x 114 = some (va_rf (P x)))
theorem LkH.h {A : Hp} {L R P : Lk} {l : List Nat} (h : LkH A L R P l) : ∀ x, x ∈ l → gf A x 112 = some (va_rf (L x)) ∧ gf A x 113 = some (va_rf (R x)) ∧ gf A x 114 = some (va_rf (P x)) := h
section
variable {A : Hp} {w : Lb} {m lb d q : Nat} {l : List Nat} {ky kA vl : Nat → Nat} {mc : Nat} {vv : Value} {L R P : Lk}
/-- a new map: the one just laid at m -/
theorem m_54 (c : gc A m = some 20) (h30 : gf A m 30 = some .null) (h102 : (gf A m 102).isSome = true) (h103 : gf A m 103 = some .null) (h104 : (gf A m 104).isSome = true) (h105 : (gf A m 105).isSome = true) (wm : w m = lb) (l0 : lb ≠ 0) :
    ∃ A', evG TB (d + 3) 54 [.ref m] A = some (.inl none, A') ∧ TMs A' w m lb [] ky kA vl 0 .null ∧ Fr A w A' w (fun x => x = lb) 0 0 := by
  have lm := gc_lt c
  refine ⟨setf (setf (setf A m 104 (.int (nI 0))) m 105 (.int (nI 0))) m 102 .null, ?_, ⟨?_, ?_, ?_, ?_, ?_, wm, ⟨fun _ => none, fun _ => none, fun _ => none, fun _ => nI 0, none, ?_, ⟨⟨0, rfl, rfl⟩, List.nodup_nil⟩, fun x hx => (by cases hx), fun _ => Or.inl rfl, fun r e => by cases e⟩, fun x hx => (by cases hx), List.Pairwise.nil, l0, ⟨Nat.zero_le _, Nat.zero_le _⟩⟩, ((Fr.stf wm).trans (Fr.stf wm)).trans (Fr.stf wm)⟩
  · simp (disch := first | omega | (simp (disch := omega) only [nx_setf, nx_seta, nx_newo, nx_newa]; omega)) only [e_54, x_54_0, x_54_1, x_54_4, x_54_5, x_54_6, x_54_9, x_54_10, x_54_11, x_54_14, x_54_15, x_54_16, x_54_19, e_27, x_27_0, x_27_1, x_27_4, kv_s, ki_s, kj_s, kd_s, kq_s, kq_n, kq_o, ka_s, kc_r, kc_t, kc0_r, kc0_t, kch_r, kc0h_r, kw_s, kw0_s, kwh_s, kw0h_s, rg_ref, rg_null, rg_rf, ck_t, sel_some, lkn_hd, Option.isSome_some, Bool.true_and, Bool.and_true, okv_i, okv_l, okv_r, okv_n, okv_rf, okv_b, okv_0, okv_1, okv_f, okv_d, c1_i, c1_r, c1_n, c1_rf, c1_f, nI_add, n_mul, n_sub, n_pred, n_eq, n_le, n_lt, n_neN, n_Nne, N_lt, N_le, n_ltN, n_leN, rdI_n, rdJ_n, rdD_n, wrI_n, wrI_z0, wrI_z1, wrI_zb, wrJ_n, wrD_n, aln_s, okn_n, upd_is, upd_ne, Nat.add_zero, Nat.add_sub_cancel, decide_true, decide_false, cond_true, cond_false, if_true, if_false, ite_not, not_true_eq_false, not_false_eq_true, Nat.reduceEqDiff, Nat.reduceAdd, Nat.reduceMul, Nat.reduceSub, Nat.reduceLeDiff, gf_setf_ne, gf_setf_p, gf_setf_is, va_rf_s, va_rf_n, gf_seta, ga_setf, gc_setf, gc_seta, ga_seta_ne, ga_seta_eq, gf_new, gc_new, gf_newo_o, gc_newo_o, ga_newo_o, ga_new, gf_newa_o, gc_newa_o, ga_newa_o, nx_setf, nx_seta, nx_newo, nx_newa, su_setf, su_seta, su_newo, su_newa, sg_setf, sg_seta, sg_newo, sg_newa, okq_n, h102, h104, h105]
  · simp (disch := first | omega | (simp (disch := omega) only [nx_setf, nx_seta, nx_newo, nx_newa]; omega)) only [gf_setf_ne, gf_setf_p, gf_setf_is, va_rf_s, va_rf_n, gf_seta, ga_setf, gc_setf, gc_seta, ga_seta_ne, ga_seta_eq, gf_new, gc_new, gf_newo_o, gc_newo_o, ga_newo_o, ga_new, gf_newa_o, gc_newa_o, ga_newa_o, nx_setf, nx_seta, nx_newo, nx_newa, su_setf, su_seta, su_newo, su_newa, sg_setf, sg_seta, sg_newo, sg_newa, okq_n, c]
  · simp (disch := first | omega | (simp (disch := omega) only [nx_setf, nx_seta, nx_newo, nx_newa]; omega)) only [gf_setf_ne, gf_setf_p, gf_setf_is, va_rf_s, va_rf_n, gf_seta, ga_setf, gc_setf, gc_seta, ga_seta_ne, ga_seta_eq, gf_new, gc_new, gf_newo_o, gc_newo_o, ga_newo_o, ga_new, gf_newa_o, gc_newa_o, ga_newa_o, nx_setf, nx_seta, nx_newo, nx_newa, su_setf, su_seta, su_newo, su_newa, sg_setf, sg_seta, sg_newo, sg_newa, okq_n]
  · simp (disch := first | omega | (simp (disch := omega) only [nx_setf, nx_seta, nx_newo, nx_newa]; omega)) only [gf_setf_ne, gf_setf_p, gf_setf_is, va_rf_s, va_rf_n, gf_seta, ga_setf, gc_setf, gc_seta, ga_seta_ne, ga_seta_eq, gf_new, gc_new, gf_newo_o, gc_newo_o, ga_newo_o, ga_new, gf_newa_o, gc_newa_o, ga_newa_o, nx_setf, nx_seta, nx_newo, nx_newa, su_setf, su_seta, su_newo, su_newa, sg_setf, sg_seta, sg_newo, sg_newa, okq_n, List.length_nil]
  · simp (disch := first | omega | (simp (disch := omega) only [nx_setf, nx_seta, nx_newo, nx_newa]; omega)) only [gf_setf_ne, gf_setf_p, gf_setf_is, va_rf_s, va_rf_n, gf_seta, ga_setf, gc_setf, gc_seta, ga_seta_ne, ga_seta_eq, gf_new, gc_new, gf_newo_o, gc_newo_o, ga_newo_o, ga_new, gf_newa_o, gc_newa_o, ga_newa_o, nx_setf, nx_seta, nx_newo, nx_newa, su_setf, su_seta, su_newo, su_newa, sg_setf, sg_seta, sg_newo, sg_newa, okq_n]
  · simp (disch := first | omega | (simp (disch := omega) only [nx_setf, nx_seta, nx_newo, nx_newa]; omega)) only [gf_setf_ne, gf_setf_p, gf_setf_is, va_rf_s, va_rf_n, gf_seta, ga_setf, gc_setf, gc_seta, ga_seta_ne, ga_seta_eq, gf_new, gc_new, gf_newo_o, gc_newo_o, ga_newo_o, ga_new, gf_newa_o, gc_newa_o, ga_newa_o, nx_setf, nx_seta, nx_newo, nx_newa, su_setf, su_seta, su_newo, su_newa, sg_setf, sg_seta, sg_newo, sg_newa, okq_n, h30]
  · simp (disch := first | omega | (simp (disch := omega) only [nx_setf, nx_seta, nx_newo, nx_newa]; omega)) only [gf_setf_ne, gf_setf_p, gf_setf_is, va_rf_s, va_rf_n, gf_seta, ga_setf, gc_setf, gc_seta, ga_seta_ne, ga_seta_eq, gf_new, gc_new, gf_newo_o, gc_newo_o, ga_newo_o, ga_new, gf_newa_o, gc_newa_o, ga_newa_o, nx_setf, nx_seta, nx_newo, nx_newa, su_setf, su_seta, su_newo, su_newa, sg_setf, sg_seta, sg_newo, sg_newa, okq_n, h103]
/-- the leftmost node from s down -/
theorem m_69_lp : ∀ (f : Nat) (par : Option Nat) (s : Nat) (l : List Nat), isT L R P f par (some s) l → LkH A L R P l → ∃ x t, l = x :: t ∧ exG TB (d + 1) 69 9 [some (.ref m), some (.ref s)] [] A = some (.inl (some (.ref x)), A) := by
  intro f
  induction f with
  | zero => intro par s l h; cases h.1
  | succ f ih =>
    intro par s l h hh
    obtain ⟨h1, l1, l2, h2, h3, h4⟩ := h
    subst h2
    obtain ⟨g1, g2, g3⟩ := hh s (by simp)
    cases hL : L s with
    | none =>
      rw [hL] at h3
      have e := isT_none.mp h3
      subst e
      refine ⟨s, l2, rfl, x_69_9.trans ?_⟩
      simp (disch := first | omega | (simp (disch := omega) only [nx_setf, nx_seta, nx_newo, nx_newa]; omega)) only [x_69_10, x_69_13n, x_69_13r, x_69_16, x_69_17, x_69_20, x_69_21, x_69_24, x_69_25, kv_s, ki_s, kj_s, kd_s, kq_s, kq_n, kq_o, ka_s, kc_r, kc_t, kc0_r, kc0_t, kch_r, kc0h_r, kw_s, kw0_s, kwh_s, kw0h_s, rg_ref, rg_null, rg_rf, ck_t, sel_some, lkn_hd, Option.isSome_some, Bool.true_and, Bool.and_true, okv_i, okv_l, okv_r, okv_n, okv_rf, okv_b, okv_0, okv_1, okv_f, okv_d, c1_i, c1_r, c1_n, c1_rf, c1_f, nI_add, n_mul, n_sub, n_pred, n_eq, n_le, n_lt, n_neN, n_Nne, N_lt, N_le, n_ltN, n_leN, rdI_n, rdJ_n, rdD_n, wrI_n, wrI_z0, wrI_z1, wrI_zb, wrJ_n, wrD_n, aln_s, okn_n, upd_is, upd_ne, Nat.add_zero, Nat.add_sub_cancel, decide_true, decide_false, cond_true, cond_false, if_true, if_false, ite_not, not_true_eq_false, not_false_eq_true, Nat.reduceEqDiff, Nat.reduceAdd, Nat.reduceMul, Nat.reduceSub, Nat.reduceLeDiff, gf_setf_ne, gf_setf_p, gf_setf_is, va_rf_s, va_rf_n, gf_seta, ga_setf, gc_setf, gc_seta, ga_seta_ne, ga_seta_eq, gf_new, gc_new, gf_newo_o, gc_newo_o, ga_newo_o, ga_new, gf_newa_o, gc_newa_o, ga_newa_o, nx_setf, nx_seta, nx_newo, nx_newa, su_setf, su_seta, su_newo, su_newa, sg_setf, sg_seta, sg_newo, sg_newa, okq_n, g1, hL]
    | some s1 =>
      rw [hL] at h3
      obtain ⟨x, t, e, r⟩ := ih (some s) s1 l1 h3 (fun x hx => hh x (by simp [hx]))
      refine ⟨x, t ++ s :: l2, by rw [e]; rfl, x_69_9.trans ?_⟩
      rw [← r]
      simp (disch := first | omega | (simp (disch := omega) only [nx_setf, nx_seta, nx_newo, nx_newa]; omega)) only [x_69_10, x_69_13n, x_69_13r, x_69_16, x_69_17, x_69_20, x_69_21, kv_s, ki_s, kj_s, kd_s, kq_s, kq_n, kq_o, ka_s, kc_r, kc_t, kc0_r, kc0_t, kch_r, kc0h_r, kw_s, kw0_s, kwh_s, kw0h_s, rg_ref, rg_null, rg_rf, ck_t, sel_some, lkn_hd, Option.isSome_some, Bool.true_and, Bool.and_true, okv_i, okv_l, okv_r, okv_n, okv_rf, okv_b, okv_0, okv_1, okv_f, okv_d, c1_i, c1_r, c1_n, c1_rf, c1_f, nI_add, n_mul, n_sub, n_pred, n_eq, n_le, n_lt, n_neN, n_Nne, N_lt, N_le, n_ltN, n_leN, rdI_n, rdJ_n, rdD_n, wrI_n, wrI_z0, wrI_z1, wrI_zb, wrJ_n, wrD_n, aln_s, okn_n, upd_is, upd_ne, Nat.add_zero, Nat.add_sub_cancel, decide_true, decide_false, cond_true, cond_false, if_true, if_false, ite_not, not_true_eq_false, not_false_eq_true, Nat.reduceEqDiff, Nat.reduceAdd, Nat.reduceMul, Nat.reduceSub, Nat.reduceLeDiff, gf_setf_ne, gf_setf_p, gf_setf_is, va_rf_s, va_rf_n, gf_seta, ga_setf, gc_setf, gc_seta, ga_seta_ne, ga_seta_eq, gf_new, gc_new, gf_newo_o, gc_newo_o, ga_newo_o, ga_new, gf_newa_o, gc_newa_o, ga_newa_o, nx_setf, nx_seta, nx_newo, nx_newa, su_setf, su_seta, su_newo, su_newa, sg_setf, sg_seta, sg_newo, sg_newa, okq_n, g1, hL]
theorem m_53_dn : ∀ (f : Nat) (par : Option Nat) (s : Nat) (l : List Nat) (x0 : Nat), isT L R P f par (some s) l → LkH A L R P l → ∃ x t, l = x :: t ∧ ∀ j2, exG TB (d + 1) 53 18 [some (.ref x0), some (.ref s), j2] [] A = some (.inl (some (.ref x)), A) := by
  intro f
  induction f with
  | zero => intro par s l x0 h; cases h.1
  | succ f ih =>
    intro par s l x0 h hh
    obtain ⟨h1, l1, l2, h2, h3, h4⟩ := h
    subst h2
    obtain ⟨g1, g2, g3⟩ := hh s (by simp)
    cases hL : L s with
    | none =>
      rw [hL] at h3
      have e := isT_none.mp h3
      subst e
      refine ⟨s, l2, rfl, fun j2 => x_53_18.trans ?_⟩
      simp (disch := first | omega | (simp (disch := omega) only [nx_setf, nx_seta, nx_newo, nx_newa]; omega)) only [x_53_19, x_53_22n, x_53_22r, x_53_25, x_53_26, x_53_29, x_53_30, x_53_33, x_53_34, x_53_35, kv_s, ki_s, kj_s, kd_s, kq_s, kq_n, kq_o, ka_s, kc_r, kc_t, kc0_r, kc0_t, kch_r, kc0h_r, kw_s, kw0_s, kwh_s, kw0h_s, rg_ref, rg_null, rg_rf, ck_t, sel_some, lkn_hd, Option.isSome_some, Bool.true_and, Bool.and_true, okv_i, okv_l, okv_r, okv_n, okv_rf, okv_b, okv_0, okv_1, okv_f, okv_d, c1_i, c1_r, c1_n, c1_rf, c1_f, nI_add, n_mul, n_sub, n_pred, n_eq, n_le, n_lt, n_neN, n_Nne, N_lt, N_le, n_ltN, n_leN, rdI_n, rdJ_n, rdD_n, wrI_n, wrI_z0, wrI_z1, wrI_zb, wrJ_n, wrD_n, aln_s, okn_n, upd_is, upd_ne, Nat.add_zero, Nat.add_sub_cancel, decide_true, decide_false, cond_true, cond_false, if_true, if_false, ite_not, not_true_eq_false, not_false_eq_true, Nat.reduceEqDiff, Nat.reduceAdd, Nat.reduceMul, Nat.reduceSub, Nat.reduceLeDiff, gf_setf_ne, gf_setf_p, gf_setf_is, va_rf_s, va_rf_n, gf_seta, ga_setf, gc_setf, gc_seta, ga_seta_ne, ga_seta_eq, gf_new, gc_new, gf_newo_o, gc_newo_o, ga_newo_o, ga_new, gf_newa_o, gc_newa_o, ga_newa_o, nx_setf, nx_seta, nx_newo, nx_newa, su_setf, su_seta, su_newo, su_newa, sg_setf, sg_seta, sg_newo, sg_newa, okq_n, g1, hL]
    | some s1 =>
      rw [hL] at h3
      obtain ⟨x, t, e, r⟩ := ih (some s) s1 l1 x0 h3 (fun x hx => hh x (by simp [hx]))
      refine ⟨x, t ++ s :: l2, by rw [e]; rfl, fun j2 => x_53_18.trans ?_⟩
      rw [← r j2]
      simp (disch := first | omega | (simp (disch := omega) only [nx_setf, nx_seta, nx_newo, nx_newa]; omega)) only [x_53_19, x_53_22n, x_53_22r, x_53_25, x_53_26, x_53_29, x_53_30, x_53_33, x_53_34, x_53_35, kv_s, ki_s, kj_s, kd_s, kq_s, kq_n, kq_o, ka_s, kc_r, kc_t, kc0_r, kc0_t, kch_r, kc0h_r, kw_s, kw0_s, kwh_s, kw0h_s, rg_ref, rg_null, rg_rf, ck_t, sel_some, lkn_hd, Option.isSome_some, Bool.true_and, Bool.and_true, okv_i, okv_l, okv_r, okv_n, okv_rf, okv_b, okv_0, okv_1, okv_f, okv_d, c1_i, c1_r, c1_n, c1_rf, c1_f, nI_add, n_mul, n_sub, n_pred, n_eq, n_le, n_lt, n_neN, n_Nne, N_lt, N_le, n_ltN, n_leN, rdI_n, rdJ_n, rdD_n, wrI_n, wrI_z0, wrI_z1, wrI_zb, wrJ_n, wrD_n, aln_s, okn_n, upd_is, upd_ne, Nat.add_zero, Nat.add_sub_cancel, decide_true, decide_false, cond_true, cond_false, if_true, if_false, ite_not, not_true_eq_false, not_false_eq_true, Nat.reduceEqDiff, Nat.reduceAdd, Nat.reduceMul, Nat.reduceSub, Nat.reduceLeDiff, gf_setf_ne, gf_setf_p, gf_setf_is, va_rf_s, va_rf_n, gf_seta, ga_setf, gc_setf, gc_seta, ga_seta_ne, ga_seta_eq, gf_new, gc_new, gf_newo_o, gc_newo_o, ga_newo_o, ga_new, gf_newa_o, gc_newa_o, ga_newa_o, nx_setf, nx_seta, nx_newo, nx_newa, su_setf, su_seta, su_newo, su_newa, sg_setf, sg_seta, sg_newo, sg_newa, okq_n, g1, hL]
/-- up from x, that has no right child, to what comes behind it -/
theorem m_53_up : ∀ (f : Nat) (par : Option Nat) (s : Nat) (l a b : List Nat) (x x0 : Nat), isT L R P f par (some s) l → l.Nodup → LkH A L R P l → l = a ++ x :: b → R x = none →
    exG TB (d + 1) 53 42 [some (.ref x0), some (va_rf (P x)), some (.ref x)] [] A = (match b with
      | [] => exG TB (d + 1) 53 42 [some (.ref x0), some (va_rf par), some (.ref s)] [] A
      | y :: _ => some (.inl (some (.ref y)), A)) := by
  intro f
  induction f with
  | zero => intro par s l a b x x0 h; cases h.1
  | succ f ih =>
    intro par s l a b x x0 h hn hh hl hR
    have hall := h
    obtain ⟨h1, l1, l2, h2, h3, h4⟩ := h
    subst h2
    have hn' := List.nodup_append.mp hn
    have hn2 := List.nodup_cons.mp hn'.2.1
    obtain ⟨g1, g2, g3⟩ := hh s (by simp)
    have hx : x ∈ l1 ++ s :: l2 := by rw [hl]; simp
    have key : ∀ {p q u v : List Nat} {z : Nat}, p ++ z :: q = u ++ z :: v → (p ++ z :: q).Nodup → p = u ∧ q = v := by
      intro p
      induction p with
      | nil =>
        intro q u v z e n
        cases u with
        | nil => exact ⟨rfl, (List.cons.inj e).2⟩
        | cons c u =>
          have := List.cons.inj e
          have hz : z ∈ q := by rw [this.2]; simp
          exact absurd hz (List.nodup_cons.mp n).1
      | cons c p ihp =>
        intro q u v z e n
        cases u with
        | nil =>
          have := List.cons.inj e
          have hz : c ∈ p ++ z :: q := by rw [this.1]; simp
          exact absurd hz (List.nodup_cons.mp n).1
        | cons c' u =>
          have := List.cons.inj e
          obtain ⟨r1, r2⟩ := ihp this.2 (List.nodup_cons.mp n).2
          exact ⟨by rw [this.1, r1], r2⟩
    rcases List.mem_append.mp hx with c | c
    · cases hL : L s with
      | none => rw [hL] at h3; rw [isT_none.mp h3] at c; cases c
      | some s1 =>
        rw [hL] at h3
        obtain ⟨a1, b1, e1⟩ := List.append_of_mem c
        have kk := key (p := a1) (q := b1 ++ s :: l2) (u := a) (v := b) (z := x) (by rw [← hl, e1]; simp) (by have := hn; rw [e1] at this; simpa using this)
        have r := ih (some s) s1 l1 a1 b1 x x0 h3 hn'.1 (fun y hy => hh y (by simp [hy])) e1 hR
        rw [r, ← kk.2]
        cases b1 with
        | cons y t => rfl
        | nil =>
          refine x_53_42.trans ?_
          have hne : ∀ z, R s = some z → (s1 = z) = False := fun z hz => eq_false (fun e => by
            subst e
            exact isT_LR hall hn (by simp) hL hz)
          cases hRs : R s with
          | none => simp (disch := first | omega | (simp (disch := omega) only [nx_setf, nx_seta, nx_newo, nx_newa]; omega)) only [x_53_43n, x_53_43r, x_53_46, x_53_47, x_53_48, x_53_51, x_53_51rn, x_53_51nr, x_53_51nn, x_53_54, x_53_55, x_53_56, x_53_57, x_53_60, x_53_61, x_53_64, x_53_65, kv_s, ki_s, kj_s, kd_s, kq_s, kq_n, kq_o, ka_s, kc_r, kc_t, kc0_r, kc0_t, kch_r, kc0h_r, kw_s, kw0_s, kwh_s, kw0h_s, rg_ref, rg_null, rg_rf, ck_t, sel_some, lkn_hd, Option.isSome_some, Bool.true_and, Bool.and_true, okv_i, okv_l, okv_r, okv_n, okv_rf, okv_b, okv_0, okv_1, okv_f, okv_d, c1_i, c1_r, c1_n, c1_rf, c1_f, nI_add, n_mul, n_sub, n_pred, n_eq, n_le, n_lt, n_neN, n_Nne, N_lt, N_le, n_ltN, n_leN, rdI_n, rdJ_n, rdD_n, wrI_n, wrI_z0, wrI_z1, wrI_zb, wrJ_n, wrD_n, aln_s, okn_n, upd_is, upd_ne, Nat.add_zero, Nat.add_sub_cancel, decide_true, decide_false, cond_true, cond_false, if_true, if_false, ite_not, not_true_eq_false, not_false_eq_true, Nat.reduceEqDiff, Nat.reduceAdd, Nat.reduceMul, Nat.reduceSub, Nat.reduceLeDiff, gf_setf_ne, gf_setf_p, gf_setf_is, va_rf_s, va_rf_n, gf_seta, ga_setf, gc_setf, gc_seta, ga_seta_ne, ga_seta_eq, gf_new, gc_new, gf_newo_o, gc_newo_o, ga_newo_o, ga_new, gf_newa_o, gc_newa_o, ga_newa_o, nx_setf, nx_seta, nx_newo, nx_newa, su_setf, su_seta, su_newo, su_newa, sg_setf, sg_seta, sg_newo, sg_newa, okq_n, g2, hRs, List.nil_append]
          | some z =>
            have := hne z hRs
            simp (disch := first | omega | (simp (disch := omega) only [nx_setf, nx_seta, nx_newo, nx_newa]; omega)) only [x_53_43n, x_53_43r, x_53_46, x_53_47, x_53_48, x_53_51, x_53_51rn, x_53_51nr, x_53_51nn, x_53_54, x_53_55, x_53_56, x_53_57, x_53_60, x_53_61, x_53_64, x_53_65, kv_s, ki_s, kj_s, kd_s, kq_s, kq_n, kq_o, ka_s, kc_r, kc_t, kc0_r, kc0_t, kch_r, kc0h_r, kw_s, kw0_s, kwh_s, kw0h_s, rg_ref, rg_null, rg_rf, ck_t, sel_some, lkn_hd, Option.isSome_some, Bool.true_and, Bool.and_true, okv_i, okv_l, okv_r, okv_n, okv_rf, okv_b, okv_0, okv_1, okv_f, okv_d, c1_i, c1_r, c1_n, c1_rf, c1_f, nI_add, n_mul, n_sub, n_pred, n_eq, n_le, n_lt, n_neN, n_Nne, N_lt, N_le, n_ltN, n_leN, rdI_n, rdJ_n, rdD_n, wrI_n, wrI_z0, wrI_z1, wrI_zb, wrJ_n, wrD_n, aln_s, okn_n, upd_is, upd_ne, Nat.add_zero, Nat.add_sub_cancel, decide_true, decide_false, cond_true, cond_false, if_true, if_false, ite_not, not_true_eq_false, not_false_eq_true, Nat.reduceEqDiff, Nat.reduceAdd, Nat.reduceMul, Nat.reduceSub, Nat.reduceLeDiff, gf_setf_ne, gf_setf_p, gf_setf_is, va_rf_s, va_rf_n, gf_seta, ga_setf, gc_setf, gc_seta, ga_seta_ne, ga_seta_eq, gf_new, gc_new, gf_newo_o, gc_newo_o, ga_newo_o, ga_new, gf_newa_o, gc_newa_o, ga_newa_o, nx_setf, nx_seta, nx_newo, nx_newa, su_setf, su_seta, su_newo, su_newa, sg_setf, sg_seta, sg_newo, sg_newa, okq_n, g2, hRs, this, List.nil_append]
    · rcases List.mem_cons.mp c with e | c
      · subst e
        have kk := key hl hn
        rw [hR] at h4
        have e2 := isT_none.mp h4
        subst e2
        rw [← kk.2, h1]
      · cases hRs : R s with
        | none => rw [hRs] at h4; rw [isT_none.mp h4] at c; cases c
        | some s2 =>
          rw [hRs] at h4
          obtain ⟨a2, b2, e2⟩ := List.append_of_mem c
          have kk := key (p := l1 ++ s :: a2) (q := b2) (u := a) (v := b) (z := x) (by rw [← hl, e2]; simp) (by have := hn; rw [e2] at this; simpa using this)
          have r := ih (some s) s2 l2 a2 b2 x x0 h4 hn2.2 (fun y hy => hh y (by simp [hy])) e2 hR
          rw [r, ← kk.2]
          cases b2 with
          | cons y t => rfl
          | nil =>
            refine x_53_42.trans ?_
            simp (disch := first | omega | (simp (disch := omega) only [nx_setf, nx_seta, nx_newo, nx_newa]; omega)) only [x_53_43n, x_53_43r, x_53_46, x_53_47, x_53_48, x_53_51, x_53_51rn, x_53_51nr, x_53_51nn, x_53_54, x_53_55, x_53_56, x_53_57, x_53_60, x_53_61, kv_s, ki_s, kj_s, kd_s, kq_s, kq_n, kq_o, ka_s, kc_r, kc_t, kc0_r, kc0_t, kch_r, kc0h_r, kw_s, kw0_s, kwh_s, kw0h_s, rg_ref, rg_null, rg_rf, ck_t, sel_some, lkn_hd, Option.isSome_some, Bool.true_and, Bool.and_true, okv_i, okv_l, okv_r, okv_n, okv_rf, okv_b, okv_0, okv_1, okv_f, okv_d, c1_i, c1_r, c1_n, c1_rf, c1_f, nI_add, n_mul, n_sub, n_pred, n_eq, n_le, n_lt, n_neN, n_Nne, N_lt, N_le, n_ltN, n_leN, rdI_n, rdJ_n, rdD_n, wrI_n, wrI_z0, wrI_z1, wrI_zb, wrJ_n, wrD_n, aln_s, okn_n, upd_is, upd_ne, Nat.add_zero, Nat.add_sub_cancel, decide_true, decide_false, cond_true, cond_false, if_true, if_false, ite_not, not_true_eq_false, not_false_eq_true, Nat.reduceEqDiff, Nat.reduceAdd, Nat.reduceMul, Nat.reduceSub, Nat.reduceLeDiff, gf_setf_ne, gf_setf_p, gf_setf_is, va_rf_s, va_rf_n, gf_seta, ga_setf, gc_setf, gc_seta, ga_seta_ne, ga_seta_eq, gf_new, gc_new, gf_newo_o, gc_newo_o, ga_newo_o, ga_new, gf_newa_o, gc_newa_o, ga_newa_o, nx_setf, nx_seta, nx_newo, nx_newa, su_setf, su_seta, su_newo, su_newa, sg_setf, sg_seta, sg_newo, sg_newa, okq_n, g2, g3, h1, hRs, eq_self]
def hdV (b : List Nat) : Value := match b with
  | [] => .null
  | y :: _ => .ref y
/-- what comes behind a node -/
theorem m_53 {rt : Option Nat} (t : TrF L R P rt l) (hh : LkH A L R P l) {a b : List Nat} {x : Nat} (hl : l = a ++ x :: b) : evG TB (d + 2) 53 [.ref x] A = some (.inl (some (hdV b)), A) := by
  obtain ⟨⟨f, h⟩, hn⟩ := t
  have hx : x ∈ l := by rw [hl]; simp
  obtain ⟨g1, g2, g3⟩ := hh x hx
  cases rt with
  | none => rw [isT_none.mp h] at hx; cases hx
  | some s =>
    cases hR : R x with
    | none =>
      have r := m_53_up (d := d) f none s l a b x x h hn hh hl hR
      have : evG TB (d + 2) 53 [.ref x] A = exG TB (d + 1) 53 42 [some (.ref x), some (va_rf (P x)), some (.ref x)] [] A := by
        simp (disch := first | omega | (simp (disch := omega) only [nx_setf, nx_seta, nx_newo, nx_newa]; omega)) only [e_53, x_53_0, x_53_1n, x_53_1r, x_53_4, x_53_5, x_53_6, x_53_7, x_53_10n, x_53_10r, x_53_13, x_53_14, x_53_17, x_53_35, x_53_36, x_53_39, x_53_40, x_53_41, kv_s, ki_s, kj_s, kd_s, kq_s, kq_n, kq_o, ka_s, kc_r, kc_t, kc0_r, kc0_t, kch_r, kc0h_r, kw_s, kw0_s, kwh_s, kw0h_s, rg_ref, rg_null, rg_rf, ck_t, sel_some, lkn_hd, Option.isSome_some, Bool.true_and, Bool.and_true, okv_i, okv_l, okv_r, okv_n, okv_rf, okv_b, okv_0, okv_1, okv_f, okv_d, c1_i, c1_r, c1_n, c1_rf, c1_f, nI_add, n_mul, n_sub, n_pred, n_eq, n_le, n_lt, n_neN, n_Nne, N_lt, N_le, n_ltN, n_leN, rdI_n, rdJ_n, rdD_n, wrI_n, wrI_z0, wrI_z1, wrI_zb, wrJ_n, wrD_n, aln_s, okn_n, upd_is, upd_ne, Nat.add_zero, Nat.add_sub_cancel, decide_true, decide_false, cond_true, cond_false, if_true, if_false, ite_not, not_true_eq_false, not_false_eq_true, Nat.reduceEqDiff, Nat.reduceAdd, Nat.reduceMul, Nat.reduceSub, Nat.reduceLeDiff, gf_setf_ne, gf_setf_p, gf_setf_is, va_rf_s, va_rf_n, gf_seta, ga_setf, gc_setf, gc_seta, ga_seta_ne, ga_seta_eq, gf_new, gc_new, gf_newo_o, gc_newo_o, ga_newo_o, ga_new, gf_newa_o, gc_newa_o, ga_newa_o, nx_setf, nx_seta, nx_newo, nx_newa, su_setf, su_seta, su_newo, su_newa, sg_setf, sg_seta, sg_newo, sg_newa, okq_n, g2, g3, hR]
      rw [this, r]
      cases b with
      | cons y t => rfl
      | nil =>
        refine x_53_42.trans ?_
        unfold hdV
        simp (disch := first | omega | (simp (disch := omega) only [nx_setf, nx_seta, nx_newo, nx_newa]; omega)) only [x_53_43n, x_53_43r, x_53_46, x_53_47, x_53_48, x_53_51, x_53_51rn, x_53_51nr, x_53_51nn, x_53_54, x_53_55, x_53_56, x_53_57, x_53_60, x_53_61, x_53_64, x_53_65, kv_s, ki_s, kj_s, kd_s, kq_s, kq_n, kq_o, ka_s, kc_r, kc_t, kc0_r, kc0_t, kch_r, kc0h_r, kw_s, kw0_s, kwh_s, kw0h_s, rg_ref, rg_null, rg_rf, ck_t, sel_some, lkn_hd, Option.isSome_some, Bool.true_and, Bool.and_true, okv_i, okv_l, okv_r, okv_n, okv_rf, okv_b, okv_0, okv_1, okv_f, okv_d, c1_i, c1_r, c1_n, c1_rf, c1_f, nI_add, n_mul, n_sub, n_pred, n_eq, n_le, n_lt, n_neN, n_Nne, N_lt, N_le, n_ltN, n_leN, rdI_n, rdJ_n, rdD_n, wrI_n, wrI_z0, wrI_z1, wrI_zb, wrJ_n, wrD_n, aln_s, okn_n, upd_is, upd_ne, Nat.add_zero, Nat.add_sub_cancel, decide_true, decide_false, cond_true, cond_false, if_true, if_false, ite_not, not_true_eq_false, not_false_eq_true, Nat.reduceEqDiff, Nat.reduceAdd, Nat.reduceMul, Nat.reduceSub, Nat.reduceLeDiff, gf_setf_ne, gf_setf_p, gf_setf_is, va_rf_s, va_rf_n, gf_seta, ga_setf, gc_setf, gc_seta, ga_seta_ne, ga_seta_eq, gf_new, gc_new, gf_newo_o, gc_newo_o, ga_newo_o, ga_new, gf_newa_o, gc_newa_o, ga_newa_o, nx_setf, nx_seta, nx_newo, nx_newa, su_setf, su_seta, su_newo, su_newa, sg_setf, sg_seta, sg_newo, sg_newa, okq_n]
    | some r =>
      -- the right child's leftmost
      have sub : ∀ (f : Nat) (par : Option Nat) (s : Nat) (l a b : List Nat), isT L R P f par (some s) l → l.Nodup → LkH A L R P l → l = a ++ x :: b → ∃ y t, b = y :: t ∧ ∀ j2, exG TB (d + 1) 53 18 [some (.ref x), some (.ref r), j2] [] A = some (.inl (some (.ref y)), A) := by
        intro f
        induction f with
        | zero => intro par s l a b h; cases h.1
        | succ f ih =>
          intro par s l a b h hn hh hl
          obtain ⟨h1, l1, l2, h2, h3, h4⟩ := h
          subst h2
          have hn' := List.nodup_append.mp hn
          have hn2 := List.nodup_cons.mp hn'.2.1
          have key : ∀ {p q u v : List Nat} {z : Nat}, p ++ z :: q = u ++ z :: v → (p ++ z :: q).Nodup → p = u ∧ q = v := by
            intro p
            induction p with
            | nil =>
              intro q u v z e n
              cases u with
              | nil => exact ⟨rfl, (List.cons.inj e).2⟩
              | cons c u =>
                have := List.cons.inj e
                have hz : z ∈ q := by rw [this.2]; simp
                exact absurd hz (List.nodup_cons.mp n).1
            | cons c p ihp =>
              intro q u v z e n
              cases u with
              | nil =>
                have := List.cons.inj e
                have hz : c ∈ p ++ z :: q := by rw [this.1]; simp
                exact absurd hz (List.nodup_cons.mp n).1
              | cons c' u =>
                have := List.cons.inj e
                obtain ⟨r1, r2⟩ := ihp this.2 (List.nodup_cons.mp n).2
                exact ⟨by rw [this.1, r1], r2⟩
          have hx : x ∈ l1 ++ s :: l2 := by rw [hl]; simp
          rcases List.mem_append.mp hx with c | c
          · cases hL : L s with
            | none => rw [hL] at h3; rw [isT_none.mp h3] at c; cases c
            | some s1 =>
              rw [hL] at h3
              obtain ⟨a1, b1, e1⟩ := List.append_of_mem c
              have kk := key (p := a1) (q := b1 ++ s :: l2) (u := a) (v := b) (z := x) (by rw [← hl, e1]; simp) (by have := hn; rw [e1] at this; simpa using this)
              obtain ⟨y, t, e2, e3⟩ := ih (some s) s1 l1 a1 b1 h3 hn'.1 (fun y hy => hh y (by simp [hy])) e1
              exact ⟨y, t ++ s :: l2, by rw [← kk.2, e2]; rfl, e3⟩
          · rcases List.mem_cons.mp c with e | c
            · subst e
              have kk := key hl hn
              rw [hR] at h4
              obtain ⟨y, t, e2, e3⟩ := m_53_dn (d := d) f (some x) r l2 x h4 (fun y hy => hh y (by simp [hy]))
              exact ⟨y, t, by rw [← kk.2, e2], e3⟩
            · cases hRs : R s with
              | none => rw [hRs] at h4; rw [isT_none.mp h4] at c; cases c
              | some s2 =>
                rw [hRs] at h4
                obtain ⟨a2, b2, e2⟩ := List.append_of_mem c
                have kk := key (p := l1 ++ s :: a2) (q := b2) (u := a) (v := b) (z := x) (by rw [← hl, e2]; simp) (by have := hn; rw [e2] at this; simpa using this)
                obtain ⟨y, t, e3, e4⟩ := ih (some s) s2 l2 a2 b2 h4 hn2.2 (fun y hy => hh y (by simp [hy])) e2
                exact ⟨y, t, by rw [← kk.2, e3], e4⟩
      obtain ⟨y, t, e, e2⟩ := sub f none s l a b h hn hh hl
      have : evG TB (d + 2) 53 [.ref x] A = exG TB (d + 1) 53 18 [some (.ref x), some (.ref r), none] [] A := by
        simp (disch := first | omega | (simp (disch := omega) only [nx_setf, nx_seta, nx_newo, nx_newa]; omega)) only [e_53, x_53_0, x_53_1n, x_53_1r, x_53_4, x_53_5, x_53_6, x_53_7, x_53_10n, x_53_10r, x_53_13, x_53_14, x_53_17, kv_s, ki_s, kj_s, kd_s, kq_s, kq_n, kq_o, ka_s, kc_r, kc_t, kc0_r, kc0_t, kch_r, kc0h_r, kw_s, kw0_s, kwh_s, kw0h_s, rg_ref, rg_null, rg_rf, ck_t, sel_some, lkn_hd, Option.isSome_some, Bool.true_and, Bool.and_true, okv_i, okv_l, okv_r, okv_n, okv_rf, okv_b, okv_0, okv_1, okv_f, okv_d, c1_i, c1_r, c1_n, c1_rf, c1_f, nI_add, n_mul, n_sub, n_pred, n_eq, n_le, n_lt, n_neN, n_Nne, N_lt, N_le, n_ltN, n_leN, rdI_n, rdJ_n, rdD_n, wrI_n, wrI_z0, wrI_z1, wrI_zb, wrJ_n, wrD_n, aln_s, okn_n, upd_is, upd_ne, Nat.add_zero, Nat.add_sub_cancel, decide_true, decide_false, cond_true, cond_false, if_true, if_false, ite_not, not_true_eq_false, not_false_eq_true, Nat.reduceEqDiff, Nat.reduceAdd, Nat.reduceMul, Nat.reduceSub, Nat.reduceLeDiff, gf_setf_ne, gf_setf_p, gf_setf_is, va_rf_s, va_rf_n, gf_seta, ga_setf, gc_setf, gc_seta, ga_seta_ne, ga_seta_eq, gf_new, gc_new, gf_newo_o, gc_newo_o, ga_newo_o, ga_new, gf_newa_o, gc_newa_o, ga_newa_o, nx_setf, nx_seta, nx_newo, nx_newa, su_setf, su_seta, su_newo, su_newa, sg_setf, sg_seta, sg_newo, sg_newa, okq_n, g2, hR]
      rw [this, e2, e]
      rfl
end
/-- an iterator over a map's values: what comes next -/
abbrev TIt (A : Hp) (q m mc : Nat) (nv : Value) : Prop := (gc A q = some 25) ∧ (gf A q 122 = some nv) ∧ ((gf A q 123).isSome = true) ∧ (gf A q 124 = some (.int (nI mc))) ∧ (gf A q 125 = some (.ref m))
theorem TIt.c {A : Hp} {q m mc : Nat} {nv : Value} (h : TIt A q m mc nv) : gc A q = some 25 := h.1
theorem TIt.n {A : Hp} {q m mc : Nat} {nv : Value} (h : TIt A q m mc nv) : gf A q 122 = some nv := h.2.1
theorem TIt.l {A : Hp} {q m mc : Nat} {nv : Value} (h : TIt A q m mc nv) : (gf A q 123).isSome = true := h.2.2.1
theorem TIt.e {A : Hp} {q m mc : Nat} {nv : Value} (h : TIt A q m mc nv) : gf A q 124 = some (.int (nI mc)) := h.2.2.2.1
theorem TIt.t {A : Hp} {q m mc : Nat} {nv : Value} (h : TIt A q m mc nv) : gf A q 125 = some (.ref m) := h.2.2.2.2
theorem dv23_116 : dv23 116 = some .null := rfl
theorem dv25_122 : dv25 122 = some .null := rfl
theorem dv25_123 : dv25 123 = some .null := rfl
theorem dv25_124 : dv25 124 = some (.int (nI 0)) := rfl
theorem dv25_125 : dv25 125 = some .null := rfl
section
variable {A A' : Hp} {w w' : Lb} {X : Nat → Prop} {m lb d q f c s : Nat} {l : List Nat} {ky kA vl : Nat → Nat} {mc : Nat} {vv : Value} {L R P : Lk}
theorem TMs.fr (h : TMs A w m lb l ky kA vl mc vv) (fr : Fr A w A' w' X c s) (hX : ¬ X lb) (h0 : ¬ X 0) : TMs A' w' m lb l ky kA vl mc vv := by
  obtain ⟨c, cm, sz, md, vs, wm, ⟨L, R, P, C, rt, t1, t2, t3, t4, t5⟩, nd, so, l0, ln⟩ := h
  have hm : ¬ X (w m) := by rw [wm]; exact hX
  have hx : ∀ x, x ∈ l → ¬ X (w x) := fun x hx => by rw [(nd x hx).1]; exact hX
  refine ⟨fr.cc c, fr.fd hm cm, fr.fd hm sz, fr.fd hm md, fr.fd hm vs, by rw [fr.lb hm (gc_lt c)]; exact wm, ⟨L, R, P, C, rt, fr.fd hm t1, t2, fun x h1 => ?_, t4, t5⟩, fun x h1 => ?_, so, l0, ln⟩
  · obtain ⟨a1, a2, a3, a4⟩ := t3 x h1
    exact ⟨fr.fd (hx x h1) a1, fr.fd (hx x h1) a2, fr.fd (hx x h1) a3, fr.fd (hx x h1) a4⟩
  · obtain ⟨n1, n2, n3, n4, n5, n6, n7, ci, n8⟩ := nd x h1
    have hk : ¬ X (w (kA x)) := by rw [n5]; exact h0
    exact ⟨by rw [fr.lb (hx x h1) (gc_lt n2)]; exact n1, fr.cc n2, fr.fd (hx x h1) n3, n4.fr fr hk, by rw [fr.lb hk n4.k1.1]; exact n5, n6, fr.fd (hx x h1) n7, ci, fr.cs n8⟩
theorem m_69 (h : TMs A w m lb l ky kA vl mc vv) : evG TB (d + 2) 69 [.ref m] A = some (.inl (some (hdV l)), A) := by
  obtain ⟨c, cm, sz, md, vs, wm, ⟨L, R, P, C, rt, t1, t2, t3, t4, t5⟩, nd, so, l0, ln⟩ := h
  have lk : LkH A L R P l := fun x hx => ⟨(t3 x hx).1, (t3 x hx).2.1, (t3 x hx).2.2.1⟩
  obtain ⟨⟨f, ht⟩, _⟩ := t2
  cases rt with
  | none =>
    have e := isT_none.mp ht
    subst e
    unfold hdV
    simp (disch := first | omega | (simp (disch := omega) only [nx_setf, nx_seta, nx_newo, nx_newa]; omega)) only [e_69, x_69_0, x_69_1, x_69_4, x_69_5, x_69_6n, x_69_6r, x_69_24, x_69_25, kv_s, ki_s, kj_s, kd_s, kq_s, kq_n, kq_o, ka_s, kc_r, kc_t, kc0_r, kc0_t, kch_r, kc0h_r, kw_s, kw0_s, kwh_s, kw0h_s, rg_ref, rg_null, rg_rf, ck_t, sel_some, lkn_hd, Option.isSome_some, Bool.true_and, Bool.and_true, okv_i, okv_l, okv_r, okv_n, okv_rf, okv_b, okv_0, okv_1, okv_f, okv_d, c1_i, c1_r, c1_n, c1_rf, c1_f, nI_add, n_mul, n_sub, n_pred, n_eq, n_le, n_lt, n_neN, n_Nne, N_lt, N_le, n_ltN, n_leN, rdI_n, rdJ_n, rdD_n, wrI_n, wrI_z0, wrI_z1, wrI_zb, wrJ_n, wrD_n, aln_s, okn_n, upd_is, upd_ne, Nat.add_zero, Nat.add_sub_cancel, decide_true, decide_false, cond_true, cond_false, if_true, if_false, ite_not, not_true_eq_false, not_false_eq_true, Nat.reduceEqDiff, Nat.reduceAdd, Nat.reduceMul, Nat.reduceSub, Nat.reduceLeDiff, gf_setf_ne, gf_setf_p, gf_setf_is, va_rf_s, va_rf_n, gf_seta, ga_setf, gc_setf, gc_seta, ga_seta_ne, ga_seta_eq, gf_new, gc_new, gf_newo_o, gc_newo_o, ga_newo_o, ga_new, gf_newa_o, gc_newa_o, ga_newa_o, nx_setf, nx_seta, nx_newo, nx_newa, su_setf, su_seta, su_newo, su_newa, sg_setf, sg_seta, sg_newo, sg_newa, okq_n, t1]
  | some s =>
    obtain ⟨x, t, e, r⟩ := m_69_lp (d := d) (m := m) f none s l ht lk
    subst e
    unfold hdV
    dsimp only
    rw [← r]
    simp (disch := first | omega | (simp (disch := omega) only [nx_setf, nx_seta, nx_newo, nx_newa]; omega)) only [e_69, x_69_0, x_69_1, x_69_4, x_69_5, x_69_6n, x_69_6r, kv_s, ki_s, kj_s, kd_s, kq_s, kq_n, kq_o, ka_s, kc_r, kc_t, kc0_r, kc0_t, kch_r, kc0h_r, kw_s, kw0_s, kwh_s, kw0h_s, rg_ref, rg_null, rg_rf, ck_t, sel_some, lkn_hd, Option.isSome_some, Bool.true_and, Bool.and_true, okv_i, okv_l, okv_r, okv_n, okv_rf, okv_b, okv_0, okv_1, okv_f, okv_d, c1_i, c1_r, c1_n, c1_rf, c1_f, nI_add, n_mul, n_sub, n_pred, n_eq, n_le, n_lt, n_neN, n_Nne, N_lt, N_le, n_ltN, n_leN, rdI_n, rdJ_n, rdD_n, wrI_n, wrI_z0, wrI_z1, wrI_zb, wrJ_n, wrD_n, aln_s, okn_n, upd_is, upd_ne, Nat.add_zero, Nat.add_sub_cancel, decide_true, decide_false, cond_true, cond_false, if_true, if_false, ite_not, not_true_eq_false, not_false_eq_true, Nat.reduceEqDiff, Nat.reduceAdd, Nat.reduceMul, Nat.reduceSub, Nat.reduceLeDiff, gf_setf_ne, gf_setf_p, gf_setf_is, va_rf_s, va_rf_n, gf_seta, ga_setf, gc_setf, gc_seta, ga_seta_ne, ga_seta_eq, gf_new, gc_new, gf_newo_o, gc_newo_o, ga_newo_o, ga_new, gf_newa_o, gc_newa_o, ga_newa_o, nx_setf, nx_seta, nx_newo, nx_newa, su_setf, su_seta, su_newo, su_newa, sg_setf, sg_seta, sg_newo, sg_newa, okq_n, t1]
/-- the values, and an iterator over them -/
theorem m_68 (h : TMs A w m lb l ky kA vl mc .null) : ∃ A' q, evG TB (d + 4) 68 [.ref m] A = some (.inl (some (.ref q)), A') ∧ gc A' q = some 23 ∧ gf A' q 116 = some (.ref m) ∧ TMs A' (upL w (nx A) lb) m lb l ky kA vl mc (.ref q) ∧ Fr A w A' (upL w (nx A) lb) (fun x => x = lb) 1 1 := by
  have c := h.c
  have vs := h.vs
  have wm := h.wm
  have l0 := h.l0
  have lm := gc_lt c
  have me : m ≠ nx A := Nat.ne_of_lt lm
  have me' := me.symm
  have f1 : Fr A w (setf (newo A 23 1 dv23) (nx A) 116 (.ref m)) (upL w (nx A) lb) (fun _ => False) 1 1 := Fr.nwo.stn (Nat.le_refl _)
  have wm' : upL w (nx A) lb m = lb := by rw [upL_ne me]; exact wm
  have h1 := h.fr f1 (fun e => e) (fun e => e)
  refine ⟨setf (setf (newo A 23 1 dv23) (nx A) 116 (.ref m)) m 30 (.ref (nx A)), nx A, ?_, ?_, ?_, ?_, ((f1.mono (fun _ e => e.elim) (Nat.le_refl _) (Nat.le_refl _)).trans (Fr.stf wm')).mono (fun _ h => h) (by omega) (by omega)⟩
  · simp (disch := first | omega | (simp (disch := omega) only [nx_setf, nx_seta, nx_newo, nx_newa]; omega)) only [e_68, x_68_0, x_68_1, x_68_4, x_68_5, x_68_6n, x_68_6r, x_68_9, x_68_12, x_68_13, x_68_14, x_68_17, x_68_18, x_68_19, x_68_20, x_68_23, x_68_24, e_84, x_84_0, x_84_1, x_84_2, x_84_5, x_84_6, x_84_9, e_0, x_0_0, x_0_1, x_0_4, kv_s, ki_s, kj_s, kd_s, kq_s, kq_n, kq_o, ka_s, kc_r, kc_t, kc0_r, kc0_t, kch_r, kc0h_r, kw_s, kw0_s, kwh_s, kw0h_s, rg_ref, rg_null, rg_rf, ck_t, sel_some, lkn_hd, Option.isSome_some, Bool.true_and, Bool.and_true, okv_i, okv_l, okv_r, okv_n, okv_rf, okv_b, okv_0, okv_1, okv_f, okv_d, c1_i, c1_r, c1_n, c1_rf, c1_f, nI_add, n_mul, n_sub, n_pred, n_eq, n_le, n_lt, n_neN, n_Nne, N_lt, N_le, n_ltN, n_leN, rdI_n, rdJ_n, rdD_n, wrI_n, wrI_z0, wrI_z1, wrI_zb, wrJ_n, wrD_n, aln_s, okn_n, upd_is, upd_ne, Nat.add_zero, Nat.add_sub_cancel, decide_true, decide_false, cond_true, cond_false, if_true, if_false, ite_not, not_true_eq_false, not_false_eq_true, Nat.reduceEqDiff, Nat.reduceAdd, Nat.reduceMul, Nat.reduceSub, Nat.reduceLeDiff, gf_setf_ne, gf_setf_p, gf_setf_is, va_rf_s, va_rf_n, gf_seta, ga_setf, gc_setf, gc_seta, ga_seta_ne, ga_seta_eq, gf_new, gc_new, gf_newo_o, gc_newo_o, ga_newo_o, ga_new, gf_newa_o, gc_newa_o, ga_newa_o, nx_setf, nx_seta, nx_newo, nx_newa, su_setf, su_seta, su_newo, su_newa, sg_setf, sg_seta, sg_newo, sg_newa, okq_n, vs, dv23_116]
  · simp (disch := first | omega | (simp (disch := omega) only [nx_setf, nx_seta, nx_newo, nx_newa]; omega)) only [gf_setf_ne, gf_setf_p, gf_setf_is, va_rf_s, va_rf_n, gf_seta, ga_setf, gc_setf, gc_seta, ga_seta_ne, ga_seta_eq, gf_new, gc_new, gf_newo_o, gc_newo_o, ga_newo_o, ga_new, gf_newa_o, gc_newa_o, ga_newa_o, nx_setf, nx_seta, nx_newo, nx_newa, su_setf, su_seta, su_newo, su_newa, sg_setf, sg_seta, sg_newo, sg_newa, okq_n]
  · simp (disch := first | omega | (simp (disch := omega) only [nx_setf, nx_seta, nx_newo, nx_newa]; omega)) only [gf_setf_ne, gf_setf_p, gf_setf_is, va_rf_s, va_rf_n, gf_seta, ga_setf, gc_setf, gc_seta, ga_seta_ne, ga_seta_eq, gf_new, gc_new, gf_newo_o, gc_newo_o, ga_newo_o, ga_new, gf_newa_o, gc_newa_o, ga_newa_o, nx_setf, nx_seta, nx_newo, nx_newa, su_setf, su_seta, su_newo, su_newa, sg_setf, sg_seta, sg_newo, sg_newa, okq_n]
  · obtain ⟨c, cm, sz, md, vs, wm, ⟨L, R, P, C, rt, t1, t2, t3, t4, t5⟩, nd, so, l0, ln⟩ := h1
    have lm' := gc_lt c
    refine ⟨c, by rw [gf_setf_ne (by decide)]; exact cm, by rw [gf_setf_ne (by decide)]; exact sz, by rw [gf_setf_ne (by decide)]; exact md, gf_setf_is lm', wm, ⟨L, R, P, C, rt, by rw [gf_setf_ne (by decide)]; exact t1, t2, fun x hx => ?_, t4, t5⟩, fun x hx => ?_, so, l0, ln⟩
    · obtain ⟨a1, a2, a3, a4⟩ := t3 x hx
      exact ⟨(gf_setf_ne (by decide)).trans a1, (gf_setf_ne (by decide)).trans a2, (gf_setf_ne (by decide)).trans a3, (gf_setf_ne (by decide)).trans a4⟩
    · obtain ⟨n1, n2, n3, n4, n5, n6, n7, ci, n8⟩ := nd x hx
      have fs : Fr (setf (newo A 23 1 dv23) (nx A) 116 (.ref m)) (upL w (nx A) lb) (setf (setf (newo A 23 1 dv23) (nx A) 116 (.ref m)) m 30 (.ref (nx A))) (upL w (nx A) lb) (fun x => x = lb) 0 0 := Fr.stf wm
      exact ⟨n1, n2, by rw [gf_setf_ne (by decide)]; exact n3, n4.fr fs (by rw [n5]; exact fun z => l0 z.symm), n5, n6, by rw [gf_setf_ne (by decide)]; exact n7, ci, fs.cs n8⟩
theorem m_85 {z : Nat} (h : TMs A w m lb l ky kA vl mc vv) (h1 : gc A z = some 23) (h2 : gf A z 116 = some (.ref m)) (t : Nat) : ∃ A' q, evG TB (d + 4) 85 [.ref z] A = some (.inl (some (.ref q)), A') ∧ TIt A' q m mc (hdV l) ∧ q = nx A ∧ ∀ X, Fr A w A' (upL w (nx A) t) X 1 4 := by
  have c := h.c
  have md := h.md
  have lm := gc_lt c
  have lz := gc_lt h1
  have me : m ≠ nx A := Nat.ne_of_lt lm
  have me' := me.symm
  have ze : z ≠ nx A := Nat.ne_of_lt lz
  have fr : ∀ X, Fr A w (newo A 25 4 dv25) (upL w (nx A) t) X 1 4 := fun X => Fr.nwo
  have q69 := m_69 (d := d + 1) (h.fr (fr (fun _ => False)) (fun e => e) (fun e => e))
  have hr : isR (hdV l) = true := by cases l <;> rfl
  have hrg : ∀ x, rg (hdV l) x = x := fun x => by unfold rg; rw [hr]; rfl
  have hok : okv 0 (hdV l) = true := by cases l <;> rfl
  have hc1 : c1 (hdV l) = true := by cases l <;> rfl
  refine ⟨setf (setf (setf (setf (newo A 25 4 dv25) (nx A) 125 (.ref m)) (nx A) 124 (.int (nI mc))) (nx A) 123 .null) (nx A) 122 (hdV l), nx A, ?_, ⟨?_, ?_, ?_, ?_, ?_⟩, rfl, fun X => ((((fr X).stn (Nat.le_refl _)).stn (Nat.le_refl _)).stn (Nat.le_refl _)).stn (Nat.le_refl _)⟩
  · simp (disch := first | omega | (simp (disch := omega) only [nx_setf, nx_seta, nx_newo, nx_newa]; omega)) only [e_85, x_85_0, x_85_3, x_85_4, x_85_5, x_85_8, x_85_9, x_85_12, x_85_15, x_85_18, e_96, x_96_0, x_96_1, x_96_2, x_96_3, x_96_6, e_94, x_94_0, x_94_1, x_94_2, x_94_5, x_94_6, x_94_9, x_94_10, x_94_11, x_94_14, x_94_17, x_94_18, x_94_19, x_94_22, x_94_23, x_94_24, x_94_27, kv_s, ki_s, kj_s, kd_s, kq_s, kq_n, kq_o, ka_s, kc_r, kc_t, kc0_r, kc0_t, kch_r, kc0h_r, kw_s, kw0_s, kwh_s, kw0h_s, rg_ref, rg_null, rg_rf, ck_t, sel_some, lkn_hd, Option.isSome_some, Bool.true_and, Bool.and_true, okv_i, okv_l, okv_r, okv_n, okv_rf, okv_b, okv_0, okv_1, okv_f, okv_d, c1_i, c1_r, c1_n, c1_rf, c1_f, nI_add, n_mul, n_sub, n_pred, n_eq, n_le, n_lt, n_neN, n_Nne, N_lt, N_le, n_ltN, n_leN, rdI_n, rdJ_n, rdD_n, wrI_n, wrI_z0, wrI_z1, wrI_zb, wrJ_n, wrD_n, aln_s, okn_n, upd_is, upd_ne, Nat.add_zero, Nat.add_sub_cancel, decide_true, decide_false, cond_true, cond_false, if_true, if_false, ite_not, not_true_eq_false, not_false_eq_true, Nat.reduceEqDiff, Nat.reduceAdd, Nat.reduceMul, Nat.reduceSub, Nat.reduceLeDiff, gf_setf_ne, gf_setf_p, gf_setf_is, va_rf_s, va_rf_n, gf_seta, ga_setf, gc_setf, gc_seta, ga_seta_ne, ga_seta_eq, gf_new, gc_new, gf_newo_o, gc_newo_o, ga_newo_o, ga_new, gf_newa_o, gc_newa_o, ga_newa_o, nx_setf, nx_seta, nx_newo, nx_newa, su_setf, su_seta, su_newo, su_newa, sg_setf, sg_seta, sg_newo, sg_newa, okq_n, c, md, h2, q69, hrg, hok, hc1, dv25_122, dv25_123, dv25_124, dv25_125]
  · simp (disch := first | omega | (simp (disch := omega) only [nx_setf, nx_seta, nx_newo, nx_newa]; omega)) only [gf_setf_ne, gf_setf_p, gf_setf_is, va_rf_s, va_rf_n, gf_seta, ga_setf, gc_setf, gc_seta, ga_seta_ne, ga_seta_eq, gf_new, gc_new, gf_newo_o, gc_newo_o, ga_newo_o, ga_new, gf_newa_o, gc_newa_o, ga_newa_o, nx_setf, nx_seta, nx_newo, nx_newa, su_setf, su_seta, su_newo, su_newa, sg_setf, sg_seta, sg_newo, sg_newa, okq_n]
  · simp (disch := first | omega | (simp (disch := omega) only [nx_setf, nx_seta, nx_newo, nx_newa]; omega)) only [gf_setf_ne, gf_setf_p, gf_setf_is, va_rf_s, va_rf_n, gf_seta, ga_setf, gc_setf, gc_seta, ga_seta_ne, ga_seta_eq, gf_new, gc_new, gf_newo_o, gc_newo_o, ga_newo_o, ga_new, gf_newa_o, gc_newa_o, ga_newa_o, nx_setf, nx_seta, nx_newo, nx_newa, su_setf, su_seta, su_newo, su_newa, sg_setf, sg_seta, sg_newo, sg_newa, okq_n]
  · simp (disch := first | omega | (simp (disch := omega) only [nx_setf, nx_seta, nx_newo, nx_newa]; omega)) only [gf_setf_ne, gf_setf_p, gf_setf_is, va_rf_s, va_rf_n, gf_seta, ga_setf, gc_setf, gc_seta, ga_seta_ne, ga_seta_eq, gf_new, gc_new, gf_newo_o, gc_newo_o, ga_newo_o, ga_new, gf_newa_o, gc_newa_o, ga_newa_o, nx_setf, nx_seta, nx_newo, nx_newa, su_setf, su_seta, su_newo, su_newa, sg_setf, sg_seta, sg_newo, sg_newa, okq_n, Option.isSome_some]
  · simp (disch := first | omega | (simp (disch := omega) only [nx_setf, nx_seta, nx_newo, nx_newa]; omega)) only [gf_setf_ne, gf_setf_p, gf_setf_is, va_rf_s, va_rf_n, gf_seta, ga_setf, gc_setf, gc_seta, ga_seta_ne, ga_seta_eq, gf_new, gc_new, gf_newo_o, gc_newo_o, ga_newo_o, ga_new, gf_newa_o, gc_newa_o, ga_newa_o, nx_setf, nx_seta, nx_newo, nx_newa, su_setf, su_seta, su_newo, su_newa, sg_setf, sg_seta, sg_newo, sg_newa, okq_n]
  · simp (disch := first | omega | (simp (disch := omega) only [nx_setf, nx_seta, nx_newo, nx_newa]; omega)) only [gf_setf_ne, gf_setf_p, gf_setf_is, va_rf_s, va_rf_n, gf_seta, ga_setf, gc_setf, gc_seta, ga_seta_ne, ga_seta_eq, gf_new, gc_new, gf_newo_o, gc_newo_o, ga_newo_o, ga_new, gf_newa_o, gc_newa_o, ga_newa_o, nx_setf, nx_seta, nx_newo, nx_newa, su_setf, su_seta, su_newo, su_newa, sg_setf, sg_seta, sg_newo, sg_newa, okq_n]
theorem m_92 {b : List Nat} (h : TIt A q m mc (hdV b)) : evG TB (d + 1) 92 [.ref q] A = some (.inl (some (.int (bI (decide (b ≠ []))))), A) := by
  have n := h.n
  cases b with
  | nil =>
    have n : gf A q 122 = some .null := n
    rw [decide_eq_false (fun e => e rfl), bI_f]
    simp (disch := first | omega | (simp (disch := omega) only [nx_setf, nx_seta, nx_newo, nx_newa]; omega)) only [e_92, x_92_0, x_92_1, x_92_4n, x_92_4r, x_92_7, x_92_8, x_92_11, x_92_12, kv_s, ki_s, kj_s, kd_s, kq_s, kq_n, kq_o, ka_s, kc_r, kc_t, kc0_r, kc0_t, kch_r, kc0h_r, kw_s, kw0_s, kwh_s, kw0h_s, rg_ref, rg_null, rg_rf, ck_t, sel_some, lkn_hd, Option.isSome_some, Bool.true_and, Bool.and_true, okv_i, okv_l, okv_r, okv_n, okv_rf, okv_b, okv_0, okv_1, okv_f, okv_d, c1_i, c1_r, c1_n, c1_rf, c1_f, nI_add, n_mul, n_sub, n_pred, n_eq, n_le, n_lt, n_neN, n_Nne, N_lt, N_le, n_ltN, n_leN, rdI_n, rdJ_n, rdD_n, wrI_n, wrI_z0, wrI_z1, wrI_zb, wrJ_n, wrD_n, aln_s, okn_n, upd_is, upd_ne, Nat.add_zero, Nat.add_sub_cancel, decide_true, decide_false, cond_true, cond_false, if_true, if_false, ite_not, not_true_eq_false, not_false_eq_true, Nat.reduceEqDiff, Nat.reduceAdd, Nat.reduceMul, Nat.reduceSub, Nat.reduceLeDiff, gf_setf_ne, gf_setf_p, gf_setf_is, va_rf_s, va_rf_n, gf_seta, ga_setf, gc_setf, gc_seta, ga_seta_ne, ga_seta_eq, gf_new, gc_new, gf_newo_o, gc_newo_o, ga_newo_o, ga_new, gf_newa_o, gc_newa_o, ga_newa_o, nx_setf, nx_seta, nx_newo, nx_newa, su_setf, su_seta, su_newo, su_newa, sg_setf, sg_seta, sg_newo, sg_newa, okq_n, n]
  | cons y t =>
    have n : gf A q 122 = some (.ref y) := n
    rw [decide_eq_true (fun e => by cases e), bI_t]
    simp (disch := first | omega | (simp (disch := omega) only [nx_setf, nx_seta, nx_newo, nx_newa]; omega)) only [e_92, x_92_0, x_92_1, x_92_4n, x_92_4r, x_92_7, x_92_8, x_92_11, x_92_12, kv_s, ki_s, kj_s, kd_s, kq_s, kq_n, kq_o, ka_s, kc_r, kc_t, kc0_r, kc0_t, kch_r, kc0h_r, kw_s, kw0_s, kwh_s, kw0h_s, rg_ref, rg_null, rg_rf, ck_t, sel_some, lkn_hd, Option.isSome_some, Bool.true_and, Bool.and_true, okv_i, okv_l, okv_r, okv_n, okv_rf, okv_b, okv_0, okv_1, okv_f, okv_d, c1_i, c1_r, c1_n, c1_rf, c1_f, nI_add, n_mul, n_sub, n_pred, n_eq, n_le, n_lt, n_neN, n_Nne, N_lt, N_le, n_ltN, n_leN, rdI_n, rdJ_n, rdD_n, wrI_n, wrI_z0, wrI_z1, wrI_zb, wrJ_n, wrD_n, aln_s, okn_n, upd_is, upd_ne, Nat.add_zero, Nat.add_sub_cancel, decide_true, decide_false, cond_true, cond_false, if_true, if_false, ite_not, not_true_eq_false, not_false_eq_true, Nat.reduceEqDiff, Nat.reduceAdd, Nat.reduceMul, Nat.reduceSub, Nat.reduceLeDiff, gf_setf_ne, gf_setf_p, gf_setf_is, va_rf_s, va_rf_n, gf_seta, ga_setf, gc_setf, gc_seta, ga_seta_ne, ga_seta_eq, gf_new, gc_new, gf_newo_o, gc_newo_o, ga_newo_o, ga_new, gf_newa_o, gc_newa_o, ga_newa_o, nx_setf, nx_seta, nx_newo, nx_newa, su_setf, su_seta, su_newo, su_newa, sg_setf, sg_seta, sg_newo, sg_newa, okq_n, n]
/-- the next value -/
theorem m_95 (h : TMs A w m lb l ky kA vl mc vv) {a b : List Nat} {x : Nat} (hl : l = a ++ x :: b) (it : TIt A q m mc (.ref x)) (hq : w q ≠ lb) : evG TB (d + 4) 95 [.ref q] A = some (.inl (some (.ref (vl x))), setf (setf A q 122 (hdV b)) q 123 (.ref x)) ∧ TIt (setf (setf A q 122 (hdV b)) q 123 (.ref x)) q m mc (hdV b) := by
  have c := h.c
  have md := h.md
  have ln := h.ln
  have qx : ∀ y, y ∈ l → y ≠ q := fun y hy e => hq (by rw [← e]; exact (h.nd y hy).1)
  have hx : x ∈ l := by rw [hl]; simp
  have xq := qx x hx
  have mq : m ≠ q := fun e => hq (by rw [← e]; exact h.wm)
  have v1 := (h.nd x hx).2.2.2.2.2.2.1
  obtain ⟨i1, i2, i3, i4, i5⟩ := it
  have lq := gc_lt i1
  obtain ⟨L, R, P, C, rt, t1, t2, t3, t4, t5⟩ := h.tr
  have lk : LkH A L R P l := fun x hx => ⟨(t3 x hx).1, (t3 x hx).2.1, (t3 x hx).2.2.1⟩
  have q53 := m_53 (d := d) t2 lk hl
  have hr : isR (hdV b) = true := by cases b <;> rfl
  have hok : okv 0 (hdV b) = true := by cases b <;> rfl
  refine ⟨?_, ⟨?_, ?_, ?_, ?_, ?_⟩⟩
  · simp (disch := first | omega | (simp (disch := omega) only [nx_setf, nx_seta, nx_newo, nx_newa]; omega)) only [e_95, x_95_0, x_95_1, x_95_4, x_95_7, e_93, x_93_0, x_93_1, x_93_4, x_93_5, x_93_6n, x_93_6r, x_93_12, x_93_17, x_93_18, x_93_21, x_93_24, x_93_25, x_93_28, x_93_34, x_93_39, x_93_40, x_93_41, x_93_44, x_93_47, x_93_48, x_93_49, x_93_52, x_93_53, kv_s, ki_s, kj_s, kd_s, kq_s, kq_n, kq_o, ka_s, kc_r, kc_t, kc0_r, kc0_t, kch_r, kc0h_r, kw_s, kw0_s, kwh_s, kw0h_s, rg_ref, rg_null, rg_rf, ck_t, sel_some, lkn_hd, Option.isSome_some, Bool.true_and, Bool.and_true, okv_i, okv_l, okv_r, okv_n, okv_rf, okv_b, okv_0, okv_1, okv_f, okv_d, c1_i, c1_r, c1_n, c1_rf, c1_f, nI_add, n_mul, n_sub, n_pred, n_eq, n_le, n_lt, n_neN, n_Nne, N_lt, N_le, n_ltN, n_leN, rdI_n, rdJ_n, rdD_n, wrI_n, wrI_z0, wrI_z1, wrI_zb, wrJ_n, wrD_n, aln_s, okn_n, upd_is, upd_ne, Nat.add_zero, Nat.add_sub_cancel, decide_true, decide_false, cond_true, cond_false, if_true, if_false, ite_not, not_true_eq_false, not_false_eq_true, Nat.reduceEqDiff, Nat.reduceAdd, Nat.reduceMul, Nat.reduceSub, Nat.reduceLeDiff, gf_setf_ne, gf_setf_p, gf_setf_is, va_rf_s, va_rf_n, gf_seta, ga_setf, gc_setf, gc_seta, ga_seta_ne, ga_seta_eq, gf_new, gc_new, gf_newo_o, gc_newo_o, ga_newo_o, ga_new, gf_newa_o, gc_newa_o, ga_newa_o, nx_setf, nx_seta, nx_newo, nx_newa, su_setf, su_seta, su_newo, su_newa, sg_setf, sg_seta, sg_newo, sg_newa, okq_n, i1, i2, i3, i4, i5, md, q53, hok, v1]
  · simp (disch := first | omega | (simp (disch := omega) only [nx_setf, nx_seta, nx_newo, nx_newa]; omega)) only [gf_setf_ne, gf_setf_p, gf_setf_is, va_rf_s, va_rf_n, gf_seta, ga_setf, gc_setf, gc_seta, ga_seta_ne, ga_seta_eq, gf_new, gc_new, gf_newo_o, gc_newo_o, ga_newo_o, ga_new, gf_newa_o, gc_newa_o, ga_newa_o, nx_setf, nx_seta, nx_newo, nx_newa, su_setf, su_seta, su_newo, su_newa, sg_setf, sg_seta, sg_newo, sg_newa, okq_n, i1]
  · simp (disch := first | omega | (simp (disch := omega) only [nx_setf, nx_seta, nx_newo, nx_newa]; omega)) only [gf_setf_ne, gf_setf_p, gf_setf_is, va_rf_s, va_rf_n, gf_seta, ga_setf, gc_setf, gc_seta, ga_seta_ne, ga_seta_eq, gf_new, gc_new, gf_newo_o, gc_newo_o, ga_newo_o, ga_new, gf_newa_o, gc_newa_o, ga_newa_o, nx_setf, nx_seta, nx_newo, nx_newa, su_setf, su_seta, su_newo, su_newa, sg_setf, sg_seta, sg_newo, sg_newa, okq_n]
  · simp (disch := first | omega | (simp (disch := omega) only [nx_setf, nx_seta, nx_newo, nx_newa]; omega)) only [gf_setf_ne, gf_setf_p, gf_setf_is, va_rf_s, va_rf_n, gf_seta, ga_setf, gc_setf, gc_seta, ga_seta_ne, ga_seta_eq, gf_new, gc_new, gf_newo_o, gc_newo_o, ga_newo_o, ga_new, gf_newa_o, gc_newa_o, ga_newa_o, nx_setf, nx_seta, nx_newo, nx_newa, su_setf, su_seta, su_newo, su_newa, sg_setf, sg_seta, sg_newo, sg_newa, okq_n, Option.isSome_some]
  · simp (disch := first | omega | (simp (disch := omega) only [nx_setf, nx_seta, nx_newo, nx_newa]; omega)) only [gf_setf_ne, gf_setf_p, gf_setf_is, va_rf_s, va_rf_n, gf_seta, ga_setf, gc_setf, gc_seta, ga_seta_ne, ga_seta_eq, gf_new, gc_new, gf_newo_o, gc_newo_o, ga_newo_o, ga_new, gf_newa_o, gc_newa_o, ga_newa_o, nx_setf, nx_seta, nx_newo, nx_newa, su_setf, su_seta, su_newo, su_newa, sg_setf, sg_seta, sg_newo, sg_newa, okq_n, i4]
  · simp (disch := first | omega | (simp (disch := omega) only [nx_setf, nx_seta, nx_newo, nx_newa]; omega)) only [gf_setf_ne, gf_setf_p, gf_setf_is, va_rf_s, va_rf_n, gf_seta, ga_setf, gc_setf, gc_seta, ga_seta_ne, ga_seta_eq, gf_new, gc_new, gf_newo_o, gc_newo_o, ga_newo_o, ga_new, gf_newa_o, gc_newa_o, ga_newa_o, nx_setf, nx_seta, nx_newo, nx_newa, su_setf, su_seta, su_newo, su_newa, sg_setf, sg_seta, sg_newo, sg_newa, okq_n, i5]
end
