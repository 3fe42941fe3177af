/-! TreeMap: balancing walked -/
theorem okv5_0 {x : Int32} (h : x = nI 0) : okv 5 (.int x) = true := by rw [h]; exact okv_0
theorem okv5_1 {x : Int32} (h : x = nI 1) : okv 5 (.int x) = true := by rw [h]; exact okv_1
/-- what balancing comes to -/
def FxE (A : Hp) (N : Nat → Bool) (m d : Nat) (l : List Nat) (x : Nat) (j : Option Value) (L R P : Lk) (C : Nat → Int32) (rt : Option Nat) : Prop := ∃ (L' R' P' : Lk) (C' : Nat → Int32) (rt' : Option Nat), exG TB (d + 2) 60 5 [some (.ref m), some (.ref x), j] [] (tH A N m L R P C rt) = some (.inl none, tH A N m L' R' P' C' rt') ∧ TrF L' R' P' rt' l ∧ (∀ y, C' y = nI 0 ∨ C' y = nI 1) ∧ (∀ r, rt' = some r → C' r = nI 1)
theorem col_upd {C : Nat → Int32} {p : Nat} {x : Int32} (h : ∀ y, C y = nI 0 ∨ C y = nI 1) (hx : x = nI 0 ∨ x = nI 1) : ∀ y, upd C p x y = nI 0 ∨ upd C p x y = nI 1 := fun y => by
  unfold upd
  split
  · exact hx
  · exact h y
/-- a node isn't both children -/
theorem isT_LR {L R P : Lk} : ∀ {f : Nat} {par s : Option Nat} {l : List Nat} {x y : Nat}, isT L R P f par s l → l.Nodup → x ∈ l → L x = some y → R x = some y → False
  | 0, _, _, _, x, _, h, _, hx, _, _ => by rw [h.2] at hx; cases hx
  | f + 1, par, none, l, x, _, h, _, hx, _, _ => by
    have h : l = [] := h
    rw [h] at hx; cases hx
  | f + 1, par, some p, l, x, y, h, hn, hx, e1, e2 => by
    obtain ⟨h1, l1, l2, h2, h3, h4⟩ := h
    subst h2
    have hn' := List.nodup_append.mp hn
    have hn2 := List.nodup_cons.mp hn'.2.1
    rcases List.mem_append.mp hx with q | q
    · exact isT_LR h3 hn'.1 q e1 e2
    · rcases List.mem_cons.mp q with rfl | q
      · rw [e1] at h3
        rw [e2] at h4
        exact hn'.2.2 y (isT_root h3) y (List.mem_cons_of_mem _ (isT_root h4)) rfl
      · exact isT_LR h4 hn2.2 q e1 e2
theorem TrF.ac3 {L R P : Lk} {rt : Option Nat} {l : List Nat} {x p g : Nat} (h : TrF L R P rt l) (hx : x ∈ l) (e : P x = some p) (e2 : P p = some g) : P g ≠ some x := fun e3 => by
  obtain ⟨n, hn⟩ := h.depth hx
  have h0 : ∀ x, rt = some x → P x = none := fun x e => (h.root e).2
  have := PL_uq h0 hn (show PL P rt x (n + 1 + 1 + 1) from ⟨p, e, ⟨g, e2, ⟨x, e3, hn⟩⟩⟩)
  omega
section
variable {A : Hp} {N : Nat → Bool} {m d : Nat} {l : List Nat} {x p g u r : Nat} {L R P : Lk} {C : Nat → Int32} {rt : Option Nat} {j : Option Value}
theorem m_60_ex (tn : TN A N m) (hr : N r = true) (e : rt = some r) {v : Option Value} : exG TB (d + 2) 60 258 [some (.ref m), v, j] [] (tH A N m L R P C rt) = some (.inl none, tH A N m L R P (upd C r (nI 1)) rt) := by
  have mN := tn.mN
  have mx := tn.mx
  have lr := tn.lt r hr
  subst e
  simp (disch := first | omega | (simp (disch := omega) only [nx_setf, nx_seta, nx_newo, nx_newa]; omega)) only [x_60_258, x_60_259, x_60_262, x_60_263, x_60_266, kv_s, ki_s, kj_s, kd_s, kq_s, kq_n, kq_o, ka_s, kc_r, kc_t, kc0_r, kc0_t, kch_r, kc0h_r, kw_s, kw0_s, kwh_s, kw0h_s, rg_ref, rg_null, rg_rf, ck_t, sel_some, lkn_hd, Option.isSome_some, Bool.true_and, Bool.and_true, okv_i, okv_l, okv_r, okv_n, okv_rf, okv_b, okv_0, okv_1, okv_f, okv_d, c1_i, c1_r, c1_n, c1_rf, c1_f, nI_add, n_mul, n_sub, n_pred, n_eq, n_le, n_lt, n_neN, n_Nne, N_lt, N_le, n_ltN, n_leN, rdI_n, rdJ_n, rdD_n, wrI_n, wrI_z0, wrI_z1, wrI_zb, wrJ_n, wrD_n, aln_s, okn_n, upd_is, upd_ne, Nat.add_zero, Nat.add_sub_cancel, decide_true, decide_false, cond_true, cond_false, if_true, if_false, ite_not, not_true_eq_false, not_false_eq_true, Nat.reduceEqDiff, Nat.reduceAdd, Nat.reduceMul, Nat.reduceSub, Nat.reduceLeDiff, gf_setf_ne, gf_setf_p, gf_setf_is, va_rf_s, va_rf_n, gf_seta, ga_setf, gc_setf, gc_seta, ga_seta_ne, ga_seta_eq, gf_new, gc_new, gf_newo_o, gc_newo_o, ga_newo_o, ga_new, gf_newa_o, gc_newa_o, ga_newa_o, nx_setf, nx_seta, nx_newo, nx_newa, su_setf, su_seta, su_newo, su_newa, sg_setf, sg_seta, sg_newo, sg_newa, okq_n, tH_103, tH_112 hr, tH_113 hr, tH_114 hr, tH_115 hr, tH_s115 hr, mN, mx]
/-- the root is reached -/
theorem m_60_root (tn : TN A N m) (hN : ∀ y, y ∈ l → N y = true) (h : TrF L R P rt l) (hx : x ∈ l) (hC : ∀ y, C y = nI 0 ∨ C y = nI 1) (e : rt = some x) : FxE A N m d l x j L R P C rt := by
  have mN := tn.mN
  have mc := tn.mc
  have mx := tn.mx
  have hx' := hN x hx
  refine ⟨L, R, P, upd C x (nI 1), rt, x_60_5.trans ?_, h, col_upd hC (Or.inr rfl), fun r er => by rw [e] at er; cases er; exact upd_is rfl⟩
  rw [← m_60_ex (d := d) (j := j) (v := some (.ref x)) tn hx' e]
  simp (disch := first | omega | (simp (disch := omega) only [nx_setf, nx_seta, nx_newo, nx_newa]; omega)) only [x_60_6n, x_60_6r, x_60_9, x_60_10, x_60_11, x_60_14, x_60_14rn, x_60_14nr, x_60_14nn, x_60_17, x_60_18, x_60_21, x_60_24, x_60_27, x_60_28, kv_s, ki_s, kj_s, kd_s, kq_s, kq_n, kq_o, ka_s, kc_r, kc_t, kc0_r, kc0_t, kch_r, kc0h_r, kw_s, kw0_s, kwh_s, kw0h_s, rg_ref, rg_null, rg_rf, ck_t, sel_some, lkn_hd, Option.isSome_some, Bool.true_and, Bool.and_true, okv_i, okv_l, okv_r, okv_n, okv_rf, okv_b, okv_0, okv_1, okv_f, okv_d, c1_i, c1_r, c1_n, c1_rf, c1_f, nI_add, n_mul, n_sub, n_pred, n_eq, n_le, n_lt, n_neN, n_Nne, N_lt, N_le, n_ltN, n_leN, rdI_n, rdJ_n, rdD_n, wrI_n, wrI_z0, wrI_z1, wrI_zb, wrJ_n, wrD_n, aln_s, okn_n, upd_is, upd_ne, Nat.add_zero, Nat.add_sub_cancel, decide_true, decide_false, cond_true, cond_false, if_true, if_false, ite_not, not_true_eq_false, not_false_eq_true, Nat.reduceEqDiff, Nat.reduceAdd, Nat.reduceMul, Nat.reduceSub, Nat.reduceLeDiff, gf_setf_ne, gf_setf_p, gf_setf_is, va_rf_s, va_rf_n, gf_seta, ga_setf, gc_setf, gc_seta, ga_seta_ne, ga_seta_eq, gf_new, gc_new, gf_newo_o, gc_newo_o, ga_newo_o, ga_new, gf_newa_o, gc_newa_o, ga_newa_o, nx_setf, nx_seta, nx_newo, nx_newa, su_setf, su_seta, su_newo, su_newa, sg_setf, sg_seta, sg_newo, sg_newa, okq_n, tH_103, mN, mx, e, eq_self]
/-- the parent is black -/
theorem m_60_blk (tn : TN A N m) (hN : ∀ y, y ∈ l → N y = true) (h : TrF L R P rt l) (hx : x ∈ l) (hC : ∀ y, C y = nI 0 ∨ C y = nI 1) (hr : rt = some r) (hxr : (x = r) = False) (hrC : C r = nI 1) (hP : P x = some p) (hp : p ∈ l) (cp : C p = nI 1) : FxE A N m d l x j L R P C rt := by
  have mN := tn.mN
  have mc := tn.mc
  have mx := tn.mx
  have hx := hN x hx
  have hp := hN p hp
  have hr' := hN r (h.root hr).1
  have lx := tn.lt x hx
  have lp := tn.lt p hp
  refine ⟨L, R, P, upd C r (nI 1), rt, x_60_5.trans ?_, h, col_upd hC (Or.inr rfl), fun r er => by rw [hr] at er; cases er; exact upd_is rfl⟩
  rw [← m_60_ex (d := d) (j := j) (v := some (.ref x)) tn hr' hr]
  simp (disch := first | omega | (simp (disch := omega) only [nx_setf, nx_seta, nx_newo, nx_newa]; omega)) only [x_60_6n, x_60_6r, x_60_9, x_60_10, x_60_11, x_60_14, x_60_14rn, x_60_14nr, x_60_14nn, x_60_17, x_60_18, x_60_21, x_60_24, x_60_27, x_60_28, kv_s, ki_s, kj_s, kd_s, kq_s, kq_n, kq_o, ka_s, kc_r, kc_t, kc0_r, kc0_t, kch_r, kc0h_r, kw_s, kw0_s, kwh_s, kw0h_s, rg_ref, rg_null, rg_rf, ck_t, sel_some, lkn_hd, Option.isSome_some, Bool.true_and, Bool.and_true, okv_i, okv_l, okv_r, okv_n, okv_rf, okv_b, okv_0, okv_1, okv_f, okv_d, c1_i, c1_r, c1_n, c1_rf, c1_f, nI_add, n_mul, n_sub, n_pred, n_eq, n_le, n_lt, n_neN, n_Nne, N_lt, N_le, n_ltN, n_leN, rdI_n, rdJ_n, rdD_n, wrI_n, wrI_z0, wrI_z1, wrI_zb, wrJ_n, wrD_n, aln_s, okn_n, upd_is, upd_ne, Nat.add_zero, Nat.add_sub_cancel, decide_true, decide_false, cond_true, cond_false, if_true, if_false, ite_not, not_true_eq_false, not_false_eq_true, Nat.reduceEqDiff, Nat.reduceAdd, Nat.reduceMul, Nat.reduceSub, Nat.reduceLeDiff, gf_setf_ne, gf_setf_p, gf_setf_is, va_rf_s, va_rf_n, gf_seta, ga_setf, gc_setf, gc_seta, ga_seta_ne, ga_seta_eq, gf_new, gc_new, gf_newo_o, gc_newo_o, ga_newo_o, ga_new, gf_newa_o, gc_newa_o, ga_newa_o, nx_setf, nx_seta, nx_newo, nx_newa, su_setf, su_seta, su_newo, su_newa, sg_setf, sg_seta, sg_newo, sg_newa, okq_n, tH_103, tH_112 hx, tH_113 hx, tH_114 hx, tH_115 hx, tH_s115 hx, tH_112 hp, tH_113 hp, tH_114 hp, tH_115 hp, tH_s115 hp, hP, cp, mN, mx, hr, hxr]
/-- parent and uncle are red -/
theorem m_60_redL (tn : TN A N m) (hN : ∀ y, y ∈ l → N y = true) (h : TrF L R P rt l) (hx : x ∈ l) (hr : rt = some r) (hxr : (x = r) = False) (hP : P x = some p) (hp : p ∈ l) (cp : C p = nI 0) (hG : P p = some g) (hg : g ∈ l) (hS : L g = some p) (hU : R g = some u) (cu : C u = nI 0) (ih : FxE A N m d l g (some (.ref u)) L R P (upd (upd (upd C p (nI 1)) u (nI 1)) g (nI 0)) rt) : FxE A N m d l x j L R P C rt := by
  have mN := tn.mN
  have mc := tn.mc
  have mx := tn.mx
  have hun := h.rg hg hU
  have hx := hN x hx
  have hu := hN u hun.1
  have hp' := hp
  have hp := hN p hp
  have hg := hN g hg
  have lx := tn.lt x hx
  have lp := tn.lt p hp
  have lg := tn.lt g hg
  have lu := tn.lt u hu
  have okp := okv5_0 cp
  have oku := okv5_0 cu
  obtain ⟨L', R', P', C', rt', e, f⟩ := ih
  refine ⟨L', R', P', C', rt', x_60_5.trans ?_, f⟩
  rw [← e]
  simp (disch := first | omega | (simp (disch := omega) only [nx_setf, nx_seta, nx_newo, nx_newa]; omega)) only [x_60_0, x_60_1, x_60_2, x_60_6n, x_60_6r, x_60_9, x_60_10, x_60_11, x_60_14, x_60_14rn, x_60_14nr, x_60_14nn, x_60_17, x_60_18, x_60_21, x_60_24, x_60_27, x_60_28, x_60_31, x_60_32, x_60_35, x_60_38, x_60_41, x_60_41rn, x_60_41nr, x_60_41nn, x_60_44, x_60_45, x_60_48, x_60_51, x_60_54, x_60_55, x_60_56, x_60_59, x_60_62, x_60_63, x_60_66, x_60_67, x_60_70, x_60_71, x_60_72, x_60_75, x_60_76, x_60_79, x_60_82, x_60_83, x_60_86, x_60_87, x_60_90, x_60_93, x_60_94, x_60_97, x_60_98, x_60_99, x_60_102, x_60_105, x_60_105rn, x_60_105nr, x_60_105nn, x_60_108, x_60_109, x_60_112, x_60_113, x_60_114, x_60_115, x_60_118, x_60_119, x_60_122, x_60_123, x_60_126, x_60_127, x_60_130, x_60_133, x_60_134, x_60_137, x_60_138, x_60_139, x_60_142, x_60_145, x_60_148, x_60_151, x_60_152, x_60_155, x_60_158, x_60_161, x_60_162, x_60_163, x_60_166, x_60_169, x_60_170, x_60_173, x_60_174, x_60_177, x_60_178, x_60_179, x_60_182, x_60_183, x_60_186, x_60_189, x_60_190, x_60_193, x_60_194, x_60_197, x_60_200, x_60_201, x_60_204, x_60_205, x_60_206, x_60_209, x_60_212, x_60_212rn, x_60_212nr, x_60_212nn, x_60_215, x_60_216, x_60_219, x_60_220, x_60_221, x_60_222, x_60_225, x_60_226, x_60_229, x_60_230, x_60_233, x_60_234, x_60_237, x_60_240, x_60_241, x_60_244, x_60_245, x_60_246, x_60_249, x_60_252, x_60_255, x_60_258, x_60_259, x_60_262, x_60_263, x_60_266, e_61, x_61_0, x_61_1n, x_61_1r, x_61_4, x_61_5, x_61_8, x_61_9, x_61_12, e_62, x_62_0, x_62_1n, x_62_1r, x_62_4, x_62_5, x_62_8, x_62_9, x_62_12, e_63, x_63_0, x_63_1n, x_63_1r, x_63_4, x_63_5, x_63_8, x_63_9, x_63_12, e_64, x_64_0, x_64_1n, x_64_1r, x_64_4, x_64_5, x_64_8, x_64_9, x_64_12, e_65, x_65_0, x_65_1n, x_65_1r, x_65_4, x_65_5, x_65_6, x_65_9, kv_s, ki_s, kj_s, kd_s, kq_s, kq_n, kq_o, ka_s, kc_r, kc_t, kc0_r, kc0_t, kch_r, kc0h_r, kw_s, kw0_s, kwh_s, kw0h_s, rg_ref, rg_null, rg_rf, ck_t, sel_some, lkn_hd, Option.isSome_some, Bool.true_and, Bool.and_true, okv_i, okv_l, okv_r, okv_n, okv_rf, okv_b, okv_0, okv_1, okv_f, okv_d, c1_i, c1_r, c1_n, c1_rf, c1_f, nI_add, n_mul, n_sub, n_pred, n_eq, n_le, n_lt, n_neN, n_Nne, N_lt, N_le, n_ltN, n_leN, rdI_n, rdJ_n, rdD_n, wrI_n, wrI_z0, wrI_z1, wrI_zb, wrJ_n, wrD_n, aln_s, okn_n, upd_is, upd_ne, Nat.add_zero, Nat.add_sub_cancel, decide_true, decide_false, cond_true, cond_false, if_true, if_false, ite_not, not_true_eq_false, not_false_eq_true, Nat.reduceEqDiff, Nat.reduceAdd, Nat.reduceMul, Nat.reduceSub, Nat.reduceLeDiff, gf_setf_ne, gf_setf_p, gf_setf_is, va_rf_s, va_rf_n, gf_seta, ga_setf, gc_setf, gc_seta, ga_seta_ne, ga_seta_eq, gf_new, gc_new, gf_newo_o, gc_newo_o, ga_newo_o, ga_new, gf_newa_o, gc_newa_o, ga_newa_o, nx_setf, nx_seta, nx_newo, nx_newa, su_setf, su_seta, su_newo, su_newa, sg_setf, sg_seta, sg_newo, sg_newa, okq_n, mN, mc, tH_103, tH_gc, uL_is, uL_ne, bI_t, eq_self, Option.some.injEq, reduceCtorEq, tH_112 hx, tH_113 hx, tH_114 hx, tH_115 hx, tH_s115 hx, tH_112 hp, tH_113 hp, tH_114 hp, tH_115 hp, tH_s115 hp, tH_112 hg, tH_113 hg, tH_114 hg, tH_115 hg, tH_s115 hg, tH_112 hu, tH_113 hu, tH_114 hu, tH_115 hu, tH_s115 hu, hP, hG, hS, hU, cp, cu, okp, oku, mx, hr, hxr]
/-- parent and uncle are red -/
theorem m_60_redR (tn : TN A N m) (hN : ∀ y, y ∈ l → N y = true) (h : TrF L R P rt l) (hx : x ∈ l) (hr : rt = some r) (hxr : (x = r) = False) (hP : P x = some p) (hp : p ∈ l) (cp : C p = nI 0) (hG : P p = some g) (hg : g ∈ l) (hS : R g = some p) (hU : L g = some u) (cu : C u = nI 0) (ih : FxE A N m d l g (some (.ref u)) L R P (upd (upd (upd C p (nI 1)) u (nI 1)) g (nI 0)) rt) : FxE A N m d l x j L R P C rt := by
  have mN := tn.mN
  have mc := tn.mc
  have mx := tn.mx
  have hun := h.lf hg hU
  have hx := hN x hx
  have hu := hN u hun.1
  have hp' := hp
  have hp := hN p hp
  have hg0 := hg
  have hg := hN g hg
  have lx := tn.lt x hx
  have lp := tn.lt p hp
  have lg := tn.lt g hg
  have lu := tn.lt u hu
  have okp := okv5_0 cp
  have oku := okv5_0 cu
  obtain ⟨L', R', P', C', rt', e, f⟩ := ih
  refine ⟨L', R', P', C', rt', x_60_5.trans ?_, f⟩
  rw [← e]
  have hne : (p = u) = False := eq_false (fun q => by
    subst q
    obtain ⟨⟨f, ht⟩, hn⟩ := h
    exact isT_LR ht hn hg0 hU hS)
  simp (disch := first | omega | (simp (disch := omega) only [nx_setf, nx_seta, nx_newo, nx_newa]; omega)) only [x_60_0, x_60_1, x_60_2, x_60_6n, x_60_6r, x_60_9, x_60_10, x_60_11, x_60_14, x_60_14rn, x_60_14nr, x_60_14nn, x_60_17, x_60_18, x_60_21, x_60_24, x_60_27, x_60_28, x_60_31, x_60_32, x_60_35, x_60_38, x_60_41, x_60_41rn, x_60_41nr, x_60_41nn, x_60_44, x_60_45, x_60_48, x_60_51, x_60_54, x_60_55, x_60_56, x_60_59, x_60_62, x_60_63, x_60_66, x_60_67, x_60_70, x_60_71, x_60_72, x_60_75, x_60_76, x_60_79, x_60_82, x_60_83, x_60_86, x_60_87, x_60_90, x_60_93, x_60_94, x_60_97, x_60_98, x_60_99, x_60_102, x_60_105, x_60_105rn, x_60_105nr, x_60_105nn, x_60_108, x_60_109, x_60_112, x_60_113, x_60_114, x_60_115, x_60_118, x_60_119, x_60_122, x_60_123, x_60_126, x_60_127, x_60_130, x_60_133, x_60_134, x_60_137, x_60_138, x_60_139, x_60_142, x_60_145, x_60_148, x_60_151, x_60_152, x_60_155, x_60_158, x_60_161, x_60_162, x_60_163, x_60_166, x_60_169, x_60_170, x_60_173, x_60_174, x_60_177, x_60_178, x_60_179, x_60_182, x_60_183, x_60_186, x_60_189, x_60_190, x_60_193, x_60_194, x_60_197, x_60_200, x_60_201, x_60_204, x_60_205, x_60_206, x_60_209, x_60_212, x_60_212rn, x_60_212nr, x_60_212nn, x_60_215, x_60_216, x_60_219, x_60_220, x_60_221, x_60_222, x_60_225, x_60_226, x_60_229, x_60_230, x_60_233, x_60_234, x_60_237, x_60_240, x_60_241, x_60_244, x_60_245, x_60_246, x_60_249, x_60_252, x_60_255, x_60_258, x_60_259, x_60_262, x_60_263, x_60_266, e_61, x_61_0, x_61_1n, x_61_1r, x_61_4, x_61_5, x_61_8, x_61_9, x_61_12, e_62, x_62_0, x_62_1n, x_62_1r, x_62_4, x_62_5, x_62_8, x_62_9, x_62_12, e_63, x_63_0, x_63_1n, x_63_1r, x_63_4, x_63_5, x_63_8, x_63_9, x_63_12, e_64, x_64_0, x_64_1n, x_64_1r, x_64_4, x_64_5, x_64_8, x_64_9, x_64_12, e_65, x_65_0, x_65_1n, x_65_1r, x_65_4, x_65_5, x_65_6, x_65_9, kv_s, ki_s, kj_s, kd_s, kq_s, kq_n, kq_o, ka_s, kc_r, kc_t, kc0_r, kc0_t, kch_r, kc0h_r, kw_s, kw0_s, kwh_s, kw0h_s, rg_ref, rg_null, rg_rf, ck_t, sel_some, lkn_hd, Option.isSome_some, Bool.true_and, Bool.and_true, okv_i, okv_l, okv_r, okv_n, okv_rf, okv_b, okv_0, okv_1, okv_f, okv_d, c1_i, c1_r, c1_n, c1_rf, c1_f, nI_add, n_mul, n_sub, n_pred, n_eq, n_le, n_lt, n_neN, n_Nne, N_lt, N_le, n_ltN, n_leN, rdI_n, rdJ_n, rdD_n, wrI_n, wrI_z0, wrI_z1, wrI_zb, wrJ_n, wrD_n, aln_s, okn_n, upd_is, upd_ne, Nat.add_zero, Nat.add_sub_cancel, decide_true, decide_false, cond_true, cond_false, if_true, if_false, ite_not, not_true_eq_false, not_false_eq_true, Nat.reduceEqDiff, Nat.reduceAdd, Nat.reduceMul, Nat.reduceSub, Nat.reduceLeDiff, gf_setf_ne, gf_setf_p, gf_setf_is, va_rf_s, va_rf_n, gf_seta, ga_setf, gc_setf, gc_seta, ga_seta_ne, ga_seta_eq, gf_new, gc_new, gf_newo_o, gc_newo_o, ga_newo_o, ga_new, gf_newa_o, gc_newa_o, ga_newa_o, nx_setf, nx_seta, nx_newo, nx_newa, su_setf, su_seta, su_newo, su_newa, sg_setf, sg_seta, sg_newo, sg_newa, okq_n, mN, mc, tH_103, tH_gc, uL_is, uL_ne, bI_t, eq_self, Option.some.injEq, reduceCtorEq, tH_112 hx, tH_113 hx, tH_114 hx, tH_115 hx, tH_s115 hx, tH_112 hp, tH_113 hp, tH_114 hp, tH_115 hp, tH_s115 hp, tH_112 hg, tH_113 hg, tH_114 hg, tH_115 hg, tH_s115 hg, tH_112 hu, tH_113 hu, tH_114 hu, tH_115 hu, tH_s115 hu, hP, hG, hS, hU, cp, cu, okp, oku, mx, hr, hxr, hne]
/-- parent red, uncle not -/
theorem m_60_rotLo (tn : TN A N m) (hN : ∀ y, y ∈ l → N y = true) (h : TrF L R P rt l) (hx : x ∈ l) (hC : ∀ y, C y = nI 0 ∨ C y = nI 1) (hr : rt = some r) (hxr : (x = r) = False) (hrC : C r = nI 1) (hP : P x = some p) (hp : p ∈ l) (cp : C p = nI 0) (hG : P p = some g) (hg : g ∈ l) (hS : L g = some p) (hU : ∀ u, R g = some u → C u = nI 1) (hI : ¬ R p = some x) : FxE A N m d l x j L R P C rt := by
  have mN := tn.mN
  have mc := tn.mc
  have mx := tn.mx
  have hx0 := hx
  have hp0 := hp
  have hg0 := hg
  have hx := hN x hx
  have hp := hN p hp
  have hg := hN g hg
  have lx := tn.lt x hx
  have lp := tn.lt p hp
  have lg := tn.lt g hg
  have okp := okv5_0 cp
  have xp : x ≠ p := fun e => h.ac1 hx0 (by rw [hP, e])
  have pg : p ≠ g := fun e => h.ac1 hp0 (by rw [hG, e])
  have xg : x ≠ g := fun e => h.ac2 hx0 hP (by rw [hG, e])
  have rp : r ≠ p := fun e => by have := (h.root hr).2; rw [e, hG] at this; cases this
  have rx : r ≠ x := fun e => of_eq_false hxr e.symm
  have rg0 : ¬ P g = none → r ≠ g := fun q e => q (by rw [← e]; exact (h.root hr).2)
  subst hr
  have q64 : evG TB (d + 2) 64 [va_rf (R g)] (tH A N m L R P C (some r)) = some (.inl (some (.int (nI 1))), tH A N m L R P C (some r)) := by
    cases e : R g with
    | none => simp (disch := first | omega | (simp (disch := omega) only [nx_setf, nx_seta, nx_newo, nx_newa]; omega)) only [e_64, x_64_0, x_64_1n, x_64_1r, x_64_4, x_64_5, x_64_8, x_64_9, x_64_12, kv_s, ki_s, kj_s, kd_s, kq_s, kq_n, kq_o, ka_s, kc_r, kc_t, kc0_r, kc0_t, kch_r, kc0h_r, kw_s, kw0_s, kwh_s, kw0h_s, rg_ref, rg_null, rg_rf, ck_t, sel_some, lkn_hd, Option.isSome_some, Bool.true_and, Bool.and_true, okv_i, okv_l, okv_r, okv_n, okv_rf, okv_b, okv_0, okv_1, okv_f, okv_d, c1_i, c1_r, c1_n, c1_rf, c1_f, nI_add, n_mul, n_sub, n_pred, n_eq, n_le, n_lt, n_neN, n_Nne, N_lt, N_le, n_ltN, n_leN, rdI_n, rdJ_n, rdD_n, wrI_n, wrI_z0, wrI_z1, wrI_zb, wrJ_n, wrD_n, aln_s, okn_n, upd_is, upd_ne, Nat.add_zero, Nat.add_sub_cancel, decide_true, decide_false, cond_true, cond_false, if_true, if_false, ite_not, not_true_eq_false, not_false_eq_true, Nat.reduceEqDiff, Nat.reduceAdd, Nat.reduceMul, Nat.reduceSub, Nat.reduceLeDiff, gf_setf_ne, gf_setf_p, gf_setf_is, va_rf_s, va_rf_n, gf_seta, ga_setf, gc_setf, gc_seta, ga_seta_ne, ga_seta_eq, gf_new, gc_new, gf_newo_o, gc_newo_o, ga_newo_o, ga_new, gf_newa_o, gc_newa_o, ga_newa_o, nx_setf, nx_seta, nx_newo, nx_newa, su_setf, su_seta, su_newo, su_newa, sg_setf, sg_seta, sg_newo, sg_newa, okq_n]
    | some u =>
      have hu := hN u (h.rg hg0 e).1
      have lu := tn.lt u hu
      have cu := hU u e
      simp (disch := first | omega | (simp (disch := omega) only [nx_setf, nx_seta, nx_newo, nx_newa]; omega)) only [e_64, x_64_0, x_64_1n, x_64_1r, x_64_4, x_64_5, x_64_8, x_64_9, x_64_12, kv_s, ki_s, kj_s, kd_s, kq_s, kq_n, kq_o, ka_s, kc_r, kc_t, kc0_r, kc0_t, kch_r, kc0h_r, kw_s, kw0_s, kwh_s, kw0h_s, rg_ref, rg_null, rg_rf, ck_t, sel_some, lkn_hd, Option.isSome_some, Bool.true_and, Bool.and_true, okv_i, okv_l, okv_r, okv_n, okv_rf, okv_b, okv_0, okv_1, okv_f, okv_d, c1_i, c1_r, c1_n, c1_rf, c1_f, nI_add, n_mul, n_sub, n_pred, n_eq, n_le, n_lt, n_neN, n_Nne, N_lt, N_le, n_ltN, n_leN, rdI_n, rdJ_n, rdD_n, wrI_n, wrI_z0, wrI_z1, wrI_zb, wrJ_n, wrD_n, aln_s, okn_n, upd_is, upd_ne, Nat.add_zero, Nat.add_sub_cancel, decide_true, decide_false, cond_true, cond_false, if_true, if_false, ite_not, not_true_eq_false, not_false_eq_true, Nat.reduceEqDiff, Nat.reduceAdd, Nat.reduceMul, Nat.reduceSub, Nat.reduceLeDiff, gf_setf_ne, gf_setf_p, gf_setf_is, va_rf_s, va_rf_n, gf_seta, ga_setf, gc_setf, gc_seta, ga_seta_ne, ga_seta_eq, gf_new, gc_new, gf_newo_o, gc_newo_o, ga_newo_o, ga_new, gf_newa_o, gc_newa_o, ga_newa_o, nx_setf, nx_seta, nx_newo, nx_newa, su_setf, su_seta, su_newo, su_newa, sg_setf, sg_seta, sg_newo, sg_newa, okq_n, tH_115 hu, cu]
  have w2 := m_67' (d := d + 1) (C := upd (upd C p (nI 1)) g (nI 0)) tn hN h hg0 hS
  have h2 := h.turnR hg0 hS
  have a5 : (rtR L R P g p).2.2 x = some p := (rtL_P (L := R) (R := L) xg xp hI).trans hP
  have bl := m_60_blk (d := d) (j := some (va_rf (R g))) (x := x) (p := p) (r := if P g = none then p else r) (C := upd (upd C p (nI 1)) g (nI 0)) tn hN h2 hx0 (col_upd (col_upd hC (Or.inr rfl)) (Or.inl rfl)) (by
    by_cases e : P g = none
    · rw [if_pos e, if_pos e]
    · rw [if_neg e, if_neg e]) (eq_false (fun e => by
    by_cases q : P g = none
    · rw [if_pos q] at e; exact xp e
    · rw [if_neg q] at e; exact rx e.symm)) (by
    by_cases q : P g = none
    · rw [if_pos q, upd_ne pg, upd_is rfl]
    · rw [if_neg q, upd_ne (rg0 q), upd_ne rp]; exact hrC) a5 hp0 (by rw [upd_ne pg, upd_is rfl])
  obtain ⟨L', R', P', C', rt', e, f⟩ := bl
  refine ⟨L', R', P', C', rt', x_60_5.trans ?_, f⟩
  rw [← e]
  cases hB : R p with
  | none =>
    simp (disch := first | omega | (simp (disch := omega) only [nx_setf, nx_seta, nx_newo, nx_newa]; omega)) only [x_60_0, x_60_1, x_60_2, x_60_6n, x_60_6r, x_60_9, x_60_10, x_60_11, x_60_14, x_60_14rn, x_60_14nr, x_60_14nn, x_60_17, x_60_18, x_60_21, x_60_24, x_60_27, x_60_28, x_60_31, x_60_32, x_60_35, x_60_38, x_60_41, x_60_41rn, x_60_41nr, x_60_41nn, x_60_44, x_60_45, x_60_48, x_60_51, x_60_54, x_60_55, x_60_56, x_60_59, x_60_62, x_60_63, x_60_66, x_60_67, x_60_70, x_60_71, x_60_72, x_60_75, x_60_76, x_60_79, x_60_82, x_60_83, x_60_86, x_60_87, x_60_90, x_60_93, x_60_94, x_60_97, x_60_98, x_60_99, x_60_102, x_60_105, x_60_105rn, x_60_105nr, x_60_105nn, x_60_108, x_60_109, x_60_112, x_60_113, x_60_114, x_60_115, x_60_118, x_60_119, x_60_122, x_60_123, x_60_126, x_60_127, x_60_130, x_60_133, x_60_134, x_60_137, x_60_138, x_60_139, x_60_142, x_60_145, x_60_148, x_60_151, x_60_152, x_60_155, x_60_158, x_60_161, x_60_162, x_60_163, x_60_166, x_60_169, x_60_170, x_60_173, x_60_174, x_60_177, x_60_178, x_60_179, x_60_182, x_60_183, x_60_186, x_60_189, x_60_190, x_60_193, x_60_194, x_60_197, x_60_200, x_60_201, x_60_204, x_60_205, x_60_206, x_60_209, x_60_212, x_60_212rn, x_60_212nr, x_60_212nn, x_60_215, x_60_216, x_60_219, x_60_220, x_60_221, x_60_222, x_60_225, x_60_226, x_60_229, x_60_230, x_60_233, x_60_234, x_60_237, x_60_240, x_60_241, x_60_244, x_60_245, x_60_246, x_60_249, x_60_252, x_60_255, x_60_258, x_60_259, x_60_262, x_60_263, x_60_266, e_61, x_61_0, x_61_1n, x_61_1r, x_61_4, x_61_5, x_61_8, x_61_9, x_61_12, e_62, x_62_0, x_62_1n, x_62_1r, x_62_4, x_62_5, x_62_8, x_62_9, x_62_12, e_63, x_63_0, x_63_1n, x_63_1r, x_63_4, x_63_5, x_63_8, x_63_9, x_63_12, e_65, x_65_0, x_65_1n, x_65_1r, x_65_4, x_65_5, x_65_6, x_65_9, kv_s, ki_s, kj_s, kd_s, kq_s, kq_n, kq_o, ka_s, kc_r, kc_t, kc0_r, kc0_t, kch_r, kc0h_r, kw_s, kw0_s, kwh_s, kw0h_s, rg_ref, rg_null, rg_rf, ck_t, sel_some, lkn_hd, Option.isSome_some, Bool.true_and, Bool.and_true, okv_i, okv_l, okv_r, okv_n, okv_rf, okv_b, okv_0, okv_1, okv_f, okv_d, c1_i, c1_r, c1_n, c1_rf, c1_f, nI_add, n_mul, n_sub, n_pred, n_eq, n_le, n_lt, n_neN, n_Nne, N_lt, N_le, n_ltN, n_leN, rdI_n, rdJ_n, rdD_n, wrI_n, wrI_z0, wrI_z1, wrI_zb, wrJ_n, wrD_n, aln_s, okn_n, upd_is, upd_ne, Nat.add_zero, Nat.add_sub_cancel, decide_true, decide_false, cond_true, cond_false, if_true, if_false, ite_not, not_true_eq_false, not_false_eq_true, Nat.reduceEqDiff, Nat.reduceAdd, Nat.reduceMul, Nat.reduceSub, Nat.reduceLeDiff, gf_setf_ne, gf_setf_p, gf_setf_is, va_rf_s, va_rf_n, gf_seta, ga_setf, gc_setf, gc_seta, ga_seta_ne, ga_seta_eq, gf_new, gc_new, gf_newo_o, gc_newo_o, ga_newo_o, ga_new, gf_newa_o, gc_newa_o, ga_newa_o, nx_setf, nx_seta, nx_newo, nx_newa, su_setf, su_seta, su_newo, su_newa, sg_setf, sg_seta, sg_newo, sg_newa, okq_n, mN, mc, tH_103, tH_gc, uL_is, uL_ne, bI_t, eq_self, Option.some.injEq, reduceCtorEq, tH_112 hx, tH_113 hx, tH_114 hx, tH_115 hx, tH_s115 hx, tH_112 hp, tH_113 hp, tH_114 hp, tH_115 hp, tH_s115 hp, tH_112 hg, tH_113 hg, tH_114 hg, tH_115 hg, tH_s115 hg, q64, w2, okp, hP, hG, hS, cp, mx, hxr, hB]
  | some y =>
    have hxy : (x = y) = False := eq_false (fun e => hI (by rw [hB, e]))
    simp (disch := first | omega | (simp (disch := omega) only [nx_setf, nx_seta, nx_newo, nx_newa]; omega)) only [x_60_0, x_60_1, x_60_2, x_60_6n, x_60_6r, x_60_9, x_60_10, x_60_11, x_60_14, x_60_14rn, x_60_14nr, x_60_14nn, x_60_17, x_60_18, x_60_21, x_60_24, x_60_27, x_60_28, x_60_31, x_60_32, x_60_35, x_60_38, x_60_41, x_60_41rn, x_60_41nr, x_60_41nn, x_60_44, x_60_45, x_60_48, x_60_51, x_60_54, x_60_55, x_60_56, x_60_59, x_60_62, x_60_63, x_60_66, x_60_67, x_60_70, x_60_71, x_60_72, x_60_75, x_60_76, x_60_79, x_60_82, x_60_83, x_60_86, x_60_87, x_60_90, x_60_93, x_60_94, x_60_97, x_60_98, x_60_99, x_60_102, x_60_105, x_60_105rn, x_60_105nr, x_60_105nn, x_60_108, x_60_109, x_60_112, x_60_113, x_60_114, x_60_115, x_60_118, x_60_119, x_60_122, x_60_123, x_60_126, x_60_127, x_60_130, x_60_133, x_60_134, x_60_137, x_60_138, x_60_139, x_60_142, x_60_145, x_60_148, x_60_151, x_60_152, x_60_155, x_60_158, x_60_161, x_60_162, x_60_163, x_60_166, x_60_169, x_60_170, x_60_173, x_60_174, x_60_177, x_60_178, x_60_179, x_60_182, x_60_183, x_60_186, x_60_189, x_60_190, x_60_193, x_60_194, x_60_197, x_60_200, x_60_201, x_60_204, x_60_205, x_60_206, x_60_209, x_60_212, x_60_212rn, x_60_212nr, x_60_212nn, x_60_215, x_60_216, x_60_219, x_60_220, x_60_221, x_60_222, x_60_225, x_60_226, x_60_229, x_60_230, x_60_233, x_60_234, x_60_237, x_60_240, x_60_241, x_60_244, x_60_245, x_60_246, x_60_249, x_60_252, x_60_255, x_60_258, x_60_259, x_60_262, x_60_263, x_60_266, e_61, x_61_0, x_61_1n, x_61_1r, x_61_4, x_61_5, x_61_8, x_61_9, x_61_12, e_62, x_62_0, x_62_1n, x_62_1r, x_62_4, x_62_5, x_62_8, x_62_9, x_62_12, e_63, x_63_0, x_63_1n, x_63_1r, x_63_4, x_63_5, x_63_8, x_63_9, x_63_12, e_65, x_65_0, x_65_1n, x_65_1r, x_65_4, x_65_5, x_65_6, x_65_9, kv_s, ki_s, kj_s, kd_s, kq_s, kq_n, kq_o, ka_s, kc_r, kc_t, kc0_r, kc0_t, kch_r, kc0h_r, kw_s, kw0_s, kwh_s, kw0h_s, rg_ref, rg_null, rg_rf, ck_t, sel_some, lkn_hd, Option.isSome_some, Bool.true_and, Bool.and_true, okv_i, okv_l, okv_r, okv_n, okv_rf, okv_b, okv_0, okv_1, okv_f, okv_d, c1_i, c1_r, c1_n, c1_rf, c1_f, nI_add, n_mul, n_sub, n_pred, n_eq, n_le, n_lt, n_neN, n_Nne, N_lt, N_le, n_ltN, n_leN, rdI_n, rdJ_n, rdD_n, wrI_n, wrI_z0, wrI_z1, wrI_zb, wrJ_n, wrD_n, aln_s, okn_n, upd_is, upd_ne, Nat.add_zero, Nat.add_sub_cancel, decide_true, decide_false, cond_true, cond_false, if_true, if_false, ite_not, not_true_eq_false, not_false_eq_true, Nat.reduceEqDiff, Nat.reduceAdd, Nat.reduceMul, Nat.reduceSub, Nat.reduceLeDiff, gf_setf_ne, gf_setf_p, gf_setf_is, va_rf_s, va_rf_n, gf_seta, ga_setf, gc_setf, gc_seta, ga_seta_ne, ga_seta_eq, gf_new, gc_new, gf_newo_o, gc_newo_o, ga_newo_o, ga_new, gf_newa_o, gc_newa_o, ga_newa_o, nx_setf, nx_seta, nx_newo, nx_newa, su_setf, su_seta, su_newo, su_newa, sg_setf, sg_seta, sg_newo, sg_newa, okq_n, mN, mc, tH_103, tH_gc, uL_is, uL_ne, bI_t, eq_self, Option.some.injEq, reduceCtorEq, tH_112 hx, tH_113 hx, tH_114 hx, tH_115 hx, tH_s115 hx, tH_112 hp, tH_113 hp, tH_114 hp, tH_115 hp, tH_s115 hp, tH_112 hg, tH_113 hg, tH_114 hg, tH_115 hg, tH_s115 hg, q64, w2, okp, hP, hG, hS, cp, mx, hxr, hB, hxy]
/-- parent red, uncle not -/
theorem m_60_rotLi (tn : TN A N m) (hN : ∀ y, y ∈ l → N y = true) (h : TrF L R P rt l) (hx : x ∈ l) (hC : ∀ y, C y = nI 0 ∨ C y = nI 1) (hr : rt = some r) (hxr : (x = r) = False) (hrC : C r = nI 1) (hP : P x = some p) (hp : p ∈ l) (cp : C p = nI 0) (hG : P p = some g) (hg : g ∈ l) (hS : L g = some p) (hU : ∀ u, R g = some u → C u = nI 1) (hI : R p = some x) : FxE A N m d l x j L R P C rt := by
  have mN := tn.mN
  have mc := tn.mc
  have mx := tn.mx
  have hx0 := hx
  have hp0 := hp
  have hg0 := hg
  have hx := hN x hx
  have hp := hN p hp
  have hg := hN g hg
  have lx := tn.lt x hx
  have lp := tn.lt p hp
  have lg := tn.lt g hg
  have okp := okv5_0 cp
  have xp : x ≠ p := fun e => h.ac1 hx0 (by rw [hP, e])
  have pg : p ≠ g := fun e => h.ac1 hp0 (by rw [hG, e])
  have xg : x ≠ g := fun e => h.ac2 hx0 hP (by rw [hG, e])
  have rp : r ≠ p := fun e => by have := (h.root hr).2; rw [e, hG] at this; cases this
  have rx : r ≠ x := fun e => of_eq_false hxr e.symm
  have rg0 : ¬ P g = none → r ≠ g := fun q e => q (by rw [← e]; exact (h.root hr).2)
  subst hr
  have q64 : evG TB (d + 2) 64 [va_rf (R g)] (tH A N m L R P C (some r)) = some (.inl (some (.int (nI 1))), tH A N m L R P C (some r)) := by
    cases e : R g with
    | none => simp (disch := first | omega | (simp (disch := omega) only [nx_setf, nx_seta, nx_newo, nx_newa]; omega)) only [e_64, x_64_0, x_64_1n, x_64_1r, x_64_4, x_64_5, x_64_8, x_64_9, x_64_12, kv_s, ki_s, kj_s, kd_s, kq_s, kq_n, kq_o, ka_s, kc_r, kc_t, kc0_r, kc0_t, kch_r, kc0h_r, kw_s, kw0_s, kwh_s, kw0h_s, rg_ref, rg_null, rg_rf, ck_t, sel_some, lkn_hd, Option.isSome_some, Bool.true_and, Bool.and_true, okv_i, okv_l, okv_r, okv_n, okv_rf, okv_b, okv_0, okv_1, okv_f, okv_d, c1_i, c1_r, c1_n, c1_rf, c1_f, nI_add, n_mul, n_sub, n_pred, n_eq, n_le, n_lt, n_neN, n_Nne, N_lt, N_le, n_ltN, n_leN, rdI_n, rdJ_n, rdD_n, wrI_n, wrI_z0, wrI_z1, wrI_zb, wrJ_n, wrD_n, aln_s, okn_n, upd_is, upd_ne, Nat.add_zero, Nat.add_sub_cancel, decide_true, decide_false, cond_true, cond_false, if_true, if_false, ite_not, not_true_eq_false, not_false_eq_true, Nat.reduceEqDiff, Nat.reduceAdd, Nat.reduceMul, Nat.reduceSub, Nat.reduceLeDiff, gf_setf_ne, gf_setf_p, gf_setf_is, va_rf_s, va_rf_n, gf_seta, ga_setf, gc_setf, gc_seta, ga_seta_ne, ga_seta_eq, gf_new, gc_new, gf_newo_o, gc_newo_o, ga_newo_o, ga_new, gf_newa_o, gc_newa_o, ga_newa_o, nx_setf, nx_seta, nx_newo, nx_newa, su_setf, su_seta, su_newo, su_newa, sg_setf, sg_seta, sg_newo, sg_newa, okq_n]
    | some u =>
      have hu := hN u (h.rg hg0 e).1
      have lu := tn.lt u hu
      have cu := hU u e
      simp (disch := first | omega | (simp (disch := omega) only [nx_setf, nx_seta, nx_newo, nx_newa]; omega)) only [e_64, x_64_0, x_64_1n, x_64_1r, x_64_4, x_64_5, x_64_8, x_64_9, x_64_12, kv_s, ki_s, kj_s, kd_s, kq_s, kq_n, kq_o, ka_s, kc_r, kc_t, kc0_r, kc0_t, kch_r, kc0h_r, kw_s, kw0_s, kwh_s, kw0h_s, rg_ref, rg_null, rg_rf, ck_t, sel_some, lkn_hd, Option.isSome_some, Bool.true_and, Bool.and_true, okv_i, okv_l, okv_r, okv_n, okv_rf, okv_b, okv_0, okv_1, okv_f, okv_d, c1_i, c1_r, c1_n, c1_rf, c1_f, nI_add, n_mul, n_sub, n_pred, n_eq, n_le, n_lt, n_neN, n_Nne, N_lt, N_le, n_ltN, n_leN, rdI_n, rdJ_n, rdD_n, wrI_n, wrI_z0, wrI_z1, wrI_zb, wrJ_n, wrD_n, aln_s, okn_n, upd_is, upd_ne, Nat.add_zero, Nat.add_sub_cancel, decide_true, decide_false, cond_true, cond_false, if_true, if_false, ite_not, not_true_eq_false, not_false_eq_true, Nat.reduceEqDiff, Nat.reduceAdd, Nat.reduceMul, Nat.reduceSub, Nat.reduceLeDiff, gf_setf_ne, gf_setf_p, gf_setf_is, va_rf_s, va_rf_n, gf_seta, ga_setf, gc_setf, gc_seta, ga_seta_ne, ga_seta_eq, gf_new, gc_new, gf_newo_o, gc_newo_o, ga_newo_o, ga_new, gf_newa_o, gc_newa_o, ga_newa_o, nx_setf, nx_seta, nx_newo, nx_newa, su_setf, su_seta, su_newo, su_newa, sg_setf, sg_seta, sg_newo, sg_newa, okq_n, tH_115 hu, cu]
  have h1 : TrF (rtL L R P p x).1 (rtL L R P p x).2.1 (rtL L R P p x).2.2 (some r) l := by
    have := h.turnL hp0 hI
    rw [if_neg (by rw [hG]; exact fun e => by cases e)] at this
    exact this
  have w1 := m_66' (d := d + 1) (C := C) tn hN h hp0 hI
  rw [if_neg (by rw [hG]; exact fun e => by cases e)] at w1
  have a1 : (rtL L R P p x).2.2 p = some x := rtL_Pp (L := L) (R := R)
  have a2 : (rtL L R P p x).2.2 x = some g := (rtL_Pq (L := L) (R := R) xp).trans hG
  have a3 : (rtL L R P p x).1 g = some x := rtL_Lg (L := L) (R := R) (fun e => xg e.symm) hG hS
  have w2 := m_67' (d := d + 1) (C := upd (upd C x (nI 1)) g (nI 0)) tn hN h1 hg0 a3
  have h2 := h1.turnR hg0 a3
  have a4 : (rtL L R P p x).2.2 g = P g := rtL_P (L := L) (R := R) (fun e => pg e.symm) (fun e => xg e.symm) (fun e => h.ac3 hx0 hP hG (h.lf hx0 e).2)
  have b1 : (rtL L R P p x).2.1 x ≠ some p := by
    have : (rtL L R P p x).2.1 x = R x := rtL_R (L := L) (R := R) xp (fun e => xg (by have := e.1; rw [hG] at this; exact (Option.some.inj this).symm))
    rw [this]
    exact fun e => xg (by have := (h.rg hx0 e).2; rw [hG] at this; exact (Option.some.inj this).symm)
  have a5 : (rtR (rtL L R P p x).1 (rtL L R P p x).2.1 (rtL L R P p x).2.2 g x).2.2 p = some x := (rtL_P (L := (rtL L R P p x).2.1) (R := (rtL L R P p x).1) pg (fun e => xp e.symm) b1).trans a1
  rw [a4] at w2 h2
  have bl := m_60_blk (d := d) (j := some (va_rf (R g))) (x := p) (p := x) (r := if P g = none then x else r) (C := upd (upd C x (nI 1)) g (nI 0)) tn hN h2 hp0 (col_upd (col_upd hC (Or.inr rfl)) (Or.inl rfl)) (by
    by_cases e : P g = none
    · rw [if_pos e, if_pos e]
    · rw [if_neg e, if_neg e]) (eq_false (fun e => by
    by_cases q : P g = none
    · rw [if_pos q] at e; exact xp e.symm
    · rw [if_neg q] at e; exact rp e.symm)) (by
    by_cases q : P g = none
    · rw [if_pos q, upd_ne xg, upd_is rfl]
    · rw [if_neg q, upd_ne (rg0 q), upd_ne rx]; exact hrC) a5 hx0 (by rw [upd_ne xg, upd_is rfl])
  obtain ⟨L', R', P', C', rt', e, f⟩ := bl
  refine ⟨L', R', P', C', rt', x_60_5.trans ?_, f⟩
  rw [← e]
  simp (disch := first | omega | (simp (disch := omega) only [nx_setf, nx_seta, nx_newo, nx_newa]; omega)) only [x_60_0, x_60_1, x_60_2, x_60_6n, x_60_6r, x_60_9, x_60_10, x_60_11, x_60_14, x_60_14rn, x_60_14nr, x_60_14nn, x_60_17, x_60_18, x_60_21, x_60_24, x_60_27, x_60_28, x_60_31, x_60_32, x_60_35, x_60_38, x_60_41, x_60_41rn, x_60_41nr, x_60_41nn, x_60_44, x_60_45, x_60_48, x_60_51, x_60_54, x_60_55, x_60_56, x_60_59, x_60_62, x_60_63, x_60_66, x_60_67, x_60_70, x_60_71, x_60_72, x_60_75, x_60_76, x_60_79, x_60_82, x_60_83, x_60_86, x_60_87, x_60_90, x_60_93, x_60_94, x_60_97, x_60_98, x_60_99, x_60_102, x_60_105, x_60_105rn, x_60_105nr, x_60_105nn, x_60_108, x_60_109, x_60_112, x_60_113, x_60_114, x_60_115, x_60_118, x_60_119, x_60_122, x_60_123, x_60_126, x_60_127, x_60_130, x_60_133, x_60_134, x_60_137, x_60_138, x_60_139, x_60_142, x_60_145, x_60_148, x_60_151, x_60_152, x_60_155, x_60_158, x_60_161, x_60_162, x_60_163, x_60_166, x_60_169, x_60_170, x_60_173, x_60_174, x_60_177, x_60_178, x_60_179, x_60_182, x_60_183, x_60_186, x_60_189, x_60_190, x_60_193, x_60_194, x_60_197, x_60_200, x_60_201, x_60_204, x_60_205, x_60_206, x_60_209, x_60_212, x_60_212rn, x_60_212nr, x_60_212nn, x_60_215, x_60_216, x_60_219, x_60_220, x_60_221, x_60_222, x_60_225, x_60_226, x_60_229, x_60_230, x_60_233, x_60_234, x_60_237, x_60_240, x_60_241, x_60_244, x_60_245, x_60_246, x_60_249, x_60_252, x_60_255, x_60_258, x_60_259, x_60_262, x_60_263, x_60_266, e_61, x_61_0, x_61_1n, x_61_1r, x_61_4, x_61_5, x_61_8, x_61_9, x_61_12, e_62, x_62_0, x_62_1n, x_62_1r, x_62_4, x_62_5, x_62_8, x_62_9, x_62_12, e_63, x_63_0, x_63_1n, x_63_1r, x_63_4, x_63_5, x_63_8, x_63_9, x_63_12, e_65, x_65_0, x_65_1n, x_65_1r, x_65_4, x_65_5, x_65_6, x_65_9, kv_s, ki_s, kj_s, kd_s, kq_s, kq_n, kq_o, ka_s, kc_r, kc_t, kc0_r, kc0_t, kch_r, kc0h_r, kw_s, kw0_s, kwh_s, kw0h_s, rg_ref, rg_null, rg_rf, ck_t, sel_some, lkn_hd, Option.isSome_some, Bool.true_and, Bool.and_true, okv_i, okv_l, okv_r, okv_n, okv_rf, okv_b, okv_0, okv_1, okv_f, okv_d, c1_i, c1_r, c1_n, c1_rf, c1_f, nI_add, n_mul, n_sub, n_pred, n_eq, n_le, n_lt, n_neN, n_Nne, N_lt, N_le, n_ltN, n_leN, rdI_n, rdJ_n, rdD_n, wrI_n, wrI_z0, wrI_z1, wrI_zb, wrJ_n, wrD_n, aln_s, okn_n, upd_is, upd_ne, Nat.add_zero, Nat.add_sub_cancel, decide_true, decide_false, cond_true, cond_false, if_true, if_false, ite_not, not_true_eq_false, not_false_eq_true, Nat.reduceEqDiff, Nat.reduceAdd, Nat.reduceMul, Nat.reduceSub, Nat.reduceLeDiff, gf_setf_ne, gf_setf_p, gf_setf_is, va_rf_s, va_rf_n, gf_seta, ga_setf, gc_setf, gc_seta, ga_seta_ne, ga_seta_eq, gf_new, gc_new, gf_newo_o, gc_newo_o, ga_newo_o, ga_new, gf_newa_o, gc_newa_o, ga_newa_o, nx_setf, nx_seta, nx_newo, nx_newa, su_setf, su_seta, su_newo, su_newa, sg_setf, sg_seta, sg_newo, sg_newa, okq_n, mN, mc, tH_103, tH_gc, uL_is, uL_ne, bI_t, eq_self, Option.some.injEq, reduceCtorEq, tH_112 hx, tH_113 hx, tH_114 hx, tH_115 hx, tH_s115 hx, tH_112 hp, tH_113 hp, tH_114 hp, tH_115 hp, tH_s115 hp, tH_112 hg, tH_113 hg, tH_114 hg, tH_115 hg, tH_s115 hg, q64, w1, w2, a1, a2, a4, okp, hP, hG, hS, hI, cp, mx, hxr]
/-- parent red, uncle not -/
theorem m_60_rotRo (tn : TN A N m) (hN : ∀ y, y ∈ l → N y = true) (h : TrF L R P rt l) (hx : x ∈ l) (hC : ∀ y, C y = nI 0 ∨ C y = nI 1) (hr : rt = some r) (hxr : (x = r) = False) (hrC : C r = nI 1) (hP : P x = some p) (hp : p ∈ l) (cp : C p = nI 0) (hG : P p = some g) (hg : g ∈ l) (hS : R g = some p) (hU : ∀ u, L g = some u → C u = nI 1) (hI : ¬ L p = some x) : FxE A N m d l x j L R P C rt := by
  have mN := tn.mN
  have mc := tn.mc
  have mx := tn.mx
  have hx0 := hx
  have hp0 := hp
  have hg0 := hg
  have hx := hN x hx
  have hp := hN p hp
  have hg := hN g hg
  have lx := tn.lt x hx
  have lp := tn.lt p hp
  have lg := tn.lt g hg
  have okp := okv5_0 cp
  have xp : x ≠ p := fun e => h.ac1 hx0 (by rw [hP, e])
  have pg : p ≠ g := fun e => h.ac1 hp0 (by rw [hG, e])
  have xg : x ≠ g := fun e => h.ac2 hx0 hP (by rw [hG, e])
  have rp : r ≠ p := fun e => by have := (h.root hr).2; rw [e, hG] at this; cases this
  have rx : r ≠ x := fun e => of_eq_false hxr e.symm
  have rg0 : ¬ P g = none → r ≠ g := fun q e => q (by rw [← e]; exact (h.root hr).2)
  subst hr
  have q64 : evG TB (d + 2) 64 [va_rf (L g)] (tH A N m L R P C (some r)) = some (.inl (some (.int (nI 1))), tH A N m L R P C (some r)) := by
    cases e : L g with
    | none => simp (disch := first | omega | (simp (disch := omega) only [nx_setf, nx_seta, nx_newo, nx_newa]; omega)) only [e_64, x_64_0, x_64_1n, x_64_1r, x_64_4, x_64_5, x_64_8, x_64_9, x_64_12, kv_s, ki_s, kj_s, kd_s, kq_s, kq_n, kq_o, ka_s, kc_r, kc_t, kc0_r, kc0_t, kch_r, kc0h_r, kw_s, kw0_s, kwh_s, kw0h_s, rg_ref, rg_null, rg_rf, ck_t, sel_some, lkn_hd, Option.isSome_some, Bool.true_and, Bool.and_true, okv_i, okv_l, okv_r, okv_n, okv_rf, okv_b, okv_0, okv_1, okv_f, okv_d, c1_i, c1_r, c1_n, c1_rf, c1_f, nI_add, n_mul, n_sub, n_pred, n_eq, n_le, n_lt, n_neN, n_Nne, N_lt, N_le, n_ltN, n_leN, rdI_n, rdJ_n, rdD_n, wrI_n, wrI_z0, wrI_z1, wrI_zb, wrJ_n, wrD_n, aln_s, okn_n, upd_is, upd_ne, Nat.add_zero, Nat.add_sub_cancel, decide_true, decide_false, cond_true, cond_false, if_true, if_false, ite_not, not_true_eq_false, not_false_eq_true, Nat.reduceEqDiff, Nat.reduceAdd, Nat.reduceMul, Nat.reduceSub, Nat.reduceLeDiff, gf_setf_ne, gf_setf_p, gf_setf_is, va_rf_s, va_rf_n, gf_seta, ga_setf, gc_setf, gc_seta, ga_seta_ne, ga_seta_eq, gf_new, gc_new, gf_newo_o, gc_newo_o, ga_newo_o, ga_new, gf_newa_o, gc_newa_o, ga_newa_o, nx_setf, nx_seta, nx_newo, nx_newa, su_setf, su_seta, su_newo, su_newa, sg_setf, sg_seta, sg_newo, sg_newa, okq_n]
    | some u =>
      have hu := hN u (h.lf hg0 e).1
      have lu := tn.lt u hu
      have cu := hU u e
      simp (disch := first | omega | (simp (disch := omega) only [nx_setf, nx_seta, nx_newo, nx_newa]; omega)) only [e_64, x_64_0, x_64_1n, x_64_1r, x_64_4, x_64_5, x_64_8, x_64_9, x_64_12, kv_s, ki_s, kj_s, kd_s, kq_s, kq_n, kq_o, ka_s, kc_r, kc_t, kc0_r, kc0_t, kch_r, kc0h_r, kw_s, kw0_s, kwh_s, kw0h_s, rg_ref, rg_null, rg_rf, ck_t, sel_some, lkn_hd, Option.isSome_some, Bool.true_and, Bool.and_true, okv_i, okv_l, okv_r, okv_n, okv_rf, okv_b, okv_0, okv_1, okv_f, okv_d, c1_i, c1_r, c1_n, c1_rf, c1_f, nI_add, n_mul, n_sub, n_pred, n_eq, n_le, n_lt, n_neN, n_Nne, N_lt, N_le, n_ltN, n_leN, rdI_n, rdJ_n, rdD_n, wrI_n, wrI_z0, wrI_z1, wrI_zb, wrJ_n, wrD_n, aln_s, okn_n, upd_is, upd_ne, Nat.add_zero, Nat.add_sub_cancel, decide_true, decide_false, cond_true, cond_false, if_true, if_false, ite_not, not_true_eq_false, not_false_eq_true, Nat.reduceEqDiff, Nat.reduceAdd, Nat.reduceMul, Nat.reduceSub, Nat.reduceLeDiff, gf_setf_ne, gf_setf_p, gf_setf_is, va_rf_s, va_rf_n, gf_seta, ga_setf, gc_setf, gc_seta, ga_seta_ne, ga_seta_eq, gf_new, gc_new, gf_newo_o, gc_newo_o, ga_newo_o, ga_new, gf_newa_o, gc_newa_o, ga_newa_o, nx_setf, nx_seta, nx_newo, nx_newa, su_setf, su_seta, su_newo, su_newa, sg_setf, sg_seta, sg_newo, sg_newa, okq_n, tH_115 hu, cu]
  have hne : ∀ u, L g = some u → (p = u) = False := fun u hu => eq_false (fun q => by
    subst q
    obtain ⟨⟨f, ht⟩, hn⟩ := h
    exact isT_LR ht hn hg0 hu hS)
  have w2 := m_66' (d := d + 1) (C := upd (upd C p (nI 1)) g (nI 0)) tn hN h hg0 hS
  have h2 := h.turnL hg0 hS
  have a5 : (rtL L R P g p).2.2 x = some p := (rtL_P (L := L) (R := R) xg xp hI).trans hP
  have bl := m_60_blk (d := d) (j := some (va_rf (L g))) (x := x) (p := p) (r := if P g = none then p else r) (C := upd (upd C p (nI 1)) g (nI 0)) tn hN h2 hx0 (col_upd (col_upd hC (Or.inr rfl)) (Or.inl rfl)) (by
    by_cases e : P g = none
    · rw [if_pos e, if_pos e]
    · rw [if_neg e, if_neg e]) (eq_false (fun e => by
    by_cases q : P g = none
    · rw [if_pos q] at e; exact xp e
    · rw [if_neg q] at e; exact rx e.symm)) (by
    by_cases q : P g = none
    · rw [if_pos q, upd_ne pg, upd_is rfl]
    · rw [if_neg q, upd_ne (rg0 q), upd_ne rp]; exact hrC) a5 hp0 (by rw [upd_ne pg, upd_is rfl])
  obtain ⟨L', R', P', C', rt', e, f⟩ := bl
  refine ⟨L', R', P', C', rt', x_60_5.trans ?_, f⟩
  rw [← e]
  cases hL : L g with
  | none =>
    rw [hL, va_rf_n] at q64
    cases hB : L p with
    | none =>
      simp (disch := first | omega | (simp (disch := omega) only [nx_setf, nx_seta, nx_newo, nx_newa]; omega)) only [x_60_0, x_60_1, x_60_2, x_60_6n, x_60_6r, x_60_9, x_60_10, x_60_11, x_60_14, x_60_14rn, x_60_14nr, x_60_14nn, x_60_17, x_60_18, x_60_21, x_60_24, x_60_27, x_60_28, x_60_31, x_60_32, x_60_35, x_60_38, x_60_41, x_60_41rn, x_60_41nr, x_60_41nn, x_60_44, x_60_45, x_60_48, x_60_51, x_60_54, x_60_55, x_60_56, x_60_59, x_60_62, x_60_63, x_60_66, x_60_67, x_60_70, x_60_71, x_60_72, x_60_75, x_60_76, x_60_79, x_60_82, x_60_83, x_60_86, x_60_87, x_60_90, x_60_93, x_60_94, x_60_97, x_60_98, x_60_99, x_60_102, x_60_105, x_60_105rn, x_60_105nr, x_60_105nn, x_60_108, x_60_109, x_60_112, x_60_113, x_60_114, x_60_115, x_60_118, x_60_119, x_60_122, x_60_123, x_60_126, x_60_127, x_60_130, x_60_133, x_60_134, x_60_137, x_60_138, x_60_139, x_60_142, x_60_145, x_60_148, x_60_151, x_60_152, x_60_155, x_60_158, x_60_161, x_60_162, x_60_163, x_60_166, x_60_169, x_60_170, x_60_173, x_60_174, x_60_177, x_60_178, x_60_179, x_60_182, x_60_183, x_60_186, x_60_189, x_60_190, x_60_193, x_60_194, x_60_197, x_60_200, x_60_201, x_60_204, x_60_205, x_60_206, x_60_209, x_60_212, x_60_212rn, x_60_212nr, x_60_212nn, x_60_215, x_60_216, x_60_219, x_60_220, x_60_221, x_60_222, x_60_225, x_60_226, x_60_229, x_60_230, x_60_233, x_60_234, x_60_237, x_60_240, x_60_241, x_60_244, x_60_245, x_60_246, x_60_249, x_60_252, x_60_255, x_60_258, x_60_259, x_60_262, x_60_263, x_60_266, e_61, x_61_0, x_61_1n, x_61_1r, x_61_4, x_61_5, x_61_8, x_61_9, x_61_12, e_62, x_62_0, x_62_1n, x_62_1r, x_62_4, x_62_5, x_62_8, x_62_9, x_62_12, e_63, x_63_0, x_63_1n, x_63_1r, x_63_4, x_63_5, x_63_8, x_63_9, x_63_12, e_65, x_65_0, x_65_1n, x_65_1r, x_65_4, x_65_5, x_65_6, x_65_9, kv_s, ki_s, kj_s, kd_s, kq_s, kq_n, kq_o, ka_s, kc_r, kc_t, kc0_r, kc0_t, kch_r, kc0h_r, kw_s, kw0_s, kwh_s, kw0h_s, rg_ref, rg_null, rg_rf, ck_t, sel_some, lkn_hd, Option.isSome_some, Bool.true_and, Bool.and_true, okv_i, okv_l, okv_r, okv_n, okv_rf, okv_b, okv_0, okv_1, okv_f, okv_d, c1_i, c1_r, c1_n, c1_rf, c1_f, nI_add, n_mul, n_sub, n_pred, n_eq, n_le, n_lt, n_neN, n_Nne, N_lt, N_le, n_ltN, n_leN, rdI_n, rdJ_n, rdD_n, wrI_n, wrI_z0, wrI_z1, wrI_zb, wrJ_n, wrD_n, aln_s, okn_n, upd_is, upd_ne, Nat.add_zero, Nat.add_sub_cancel, decide_true, decide_false, cond_true, cond_false, if_true, if_false, ite_not, not_true_eq_false, not_false_eq_true, Nat.reduceEqDiff, Nat.reduceAdd, Nat.reduceMul, Nat.reduceSub, Nat.reduceLeDiff, gf_setf_ne, gf_setf_p, gf_setf_is, va_rf_s, va_rf_n, gf_seta, ga_setf, gc_setf, gc_seta, ga_seta_ne, ga_seta_eq, gf_new, gc_new, gf_newo_o, gc_newo_o, ga_newo_o, ga_new, gf_newa_o, gc_newa_o, ga_newa_o, nx_setf, nx_seta, nx_newo, nx_newa, su_setf, su_seta, su_newo, su_newa, sg_setf, sg_seta, sg_newo, sg_newa, okq_n, mN, mc, tH_103, tH_gc, uL_is, uL_ne, bI_t, eq_self, Option.some.injEq, reduceCtorEq, tH_112 hx, tH_113 hx, tH_114 hx, tH_115 hx, tH_s115 hx, tH_112 hp, tH_113 hp, tH_114 hp, tH_115 hp, tH_s115 hp, tH_112 hg, tH_113 hg, tH_114 hg, tH_115 hg, tH_s115 hg, q64, w2, okp, hP, hG, hS, cp, mx, hxr, hL, hB]
    | some y =>
      have hxy : (x = y) = False := eq_false (fun e => hI (by rw [hB, e]))
      simp (disch := first | omega | (simp (disch := omega) only [nx_setf, nx_seta, nx_newo, nx_newa]; omega)) only [x_60_0, x_60_1, x_60_2, x_60_6n, x_60_6r, x_60_9, x_60_10, x_60_11, x_60_14, x_60_14rn, x_60_14nr, x_60_14nn, x_60_17, x_60_18, x_60_21, x_60_24, x_60_27, x_60_28, x_60_31, x_60_32, x_60_35, x_60_38, x_60_41, x_60_41rn, x_60_41nr, x_60_41nn, x_60_44, x_60_45, x_60_48, x_60_51, x_60_54, x_60_55, x_60_56, x_60_59, x_60_62, x_60_63, x_60_66, x_60_67, x_60_70, x_60_71, x_60_72, x_60_75, x_60_76, x_60_79, x_60_82, x_60_83, x_60_86, x_60_87, x_60_90, x_60_93, x_60_94, x_60_97, x_60_98, x_60_99, x_60_102, x_60_105, x_60_105rn, x_60_105nr, x_60_105nn, x_60_108, x_60_109, x_60_112, x_60_113, x_60_114, x_60_115, x_60_118, x_60_119, x_60_122, x_60_123, x_60_126, x_60_127, x_60_130, x_60_133, x_60_134, x_60_137, x_60_138, x_60_139, x_60_142, x_60_145, x_60_148, x_60_151, x_60_152, x_60_155, x_60_158, x_60_161, x_60_162, x_60_163, x_60_166, x_60_169, x_60_170, x_60_173, x_60_174, x_60_177, x_60_178, x_60_179, x_60_182, x_60_183, x_60_186, x_60_189, x_60_190, x_60_193, x_60_194, x_60_197, x_60_200, x_60_201, x_60_204, x_60_205, x_60_206, x_60_209, x_60_212, x_60_212rn, x_60_212nr, x_60_212nn, x_60_215, x_60_216, x_60_219, x_60_220, x_60_221, x_60_222, x_60_225, x_60_226, x_60_229, x_60_230, x_60_233, x_60_234, x_60_237, x_60_240, x_60_241, x_60_244, x_60_245, x_60_246, x_60_249, x_60_252, x_60_255, x_60_258, x_60_259, x_60_262, x_60_263, x_60_266, e_61, x_61_0, x_61_1n, x_61_1r, x_61_4, x_61_5, x_61_8, x_61_9, x_61_12, e_62, x_62_0, x_62_1n, x_62_1r, x_62_4, x_62_5, x_62_8, x_62_9, x_62_12, e_63, x_63_0, x_63_1n, x_63_1r, x_63_4, x_63_5, x_63_8, x_63_9, x_63_12, e_65, x_65_0, x_65_1n, x_65_1r, x_65_4, x_65_5, x_65_6, x_65_9, kv_s, ki_s, kj_s, kd_s, kq_s, kq_n, kq_o, ka_s, kc_r, kc_t, kc0_r, kc0_t, kch_r, kc0h_r, kw_s, kw0_s, kwh_s, kw0h_s, rg_ref, rg_null, rg_rf, ck_t, sel_some, lkn_hd, Option.isSome_some, Bool.true_and, Bool.and_true, okv_i, okv_l, okv_r, okv_n, okv_rf, okv_b, okv_0, okv_1, okv_f, okv_d, c1_i, c1_r, c1_n, c1_rf, c1_f, nI_add, n_mul, n_sub, n_pred, n_eq, n_le, n_lt, n_neN, n_Nne, N_lt, N_le, n_ltN, n_leN, rdI_n, rdJ_n, rdD_n, wrI_n, wrI_z0, wrI_z1, wrI_zb, wrJ_n, wrD_n, aln_s, okn_n, upd_is, upd_ne, Nat.add_zero, Nat.add_sub_cancel, decide_true, decide_false, cond_true, cond_false, if_true, if_false, ite_not, not_true_eq_false, not_false_eq_true, Nat.reduceEqDiff, Nat.reduceAdd, Nat.reduceMul, Nat.reduceSub, Nat.reduceLeDiff, gf_setf_ne, gf_setf_p, gf_setf_is, va_rf_s, va_rf_n, gf_seta, ga_setf, gc_setf, gc_seta, ga_seta_ne, ga_seta_eq, gf_new, gc_new, gf_newo_o, gc_newo_o, ga_newo_o, ga_new, gf_newa_o, gc_newa_o, ga_newa_o, nx_setf, nx_seta, nx_newo, nx_newa, su_setf, su_seta, su_newo, su_newa, sg_setf, sg_seta, sg_newo, sg_newa, okq_n, mN, mc, tH_103, tH_gc, uL_is, uL_ne, bI_t, eq_self, Option.some.injEq, reduceCtorEq, tH_112 hx, tH_113 hx, tH_114 hx, tH_115 hx, tH_s115 hx, tH_112 hp, tH_113 hp, tH_114 hp, tH_115 hp, tH_s115 hp, tH_112 hg, tH_113 hg, tH_114 hg, tH_115 hg, tH_s115 hg, q64, w2, okp, hP, hG, hS, cp, mx, hxr, hL, hB, hxy]
  | some u =>
    rw [hL, va_rf_s] at q64
    have hpu := hne u hL
    cases hB : L p with
    | none =>
      simp (disch := first | omega | (simp (disch := omega) only [nx_setf, nx_seta, nx_newo, nx_newa]; omega)) only [x_60_0, x_60_1, x_60_2, x_60_6n, x_60_6r, x_60_9, x_60_10, x_60_11, x_60_14, x_60_14rn, x_60_14nr, x_60_14nn, x_60_17, x_60_18, x_60_21, x_60_24, x_60_27, x_60_28, x_60_31, x_60_32, x_60_35, x_60_38, x_60_41, x_60_41rn, x_60_41nr, x_60_41nn, x_60_44, x_60_45, x_60_48, x_60_51, x_60_54, x_60_55, x_60_56, x_60_59, x_60_62, x_60_63, x_60_66, x_60_67, x_60_70, x_60_71, x_60_72, x_60_75, x_60_76, x_60_79, x_60_82, x_60_83, x_60_86, x_60_87, x_60_90, x_60_93, x_60_94, x_60_97, x_60_98, x_60_99, x_60_102, x_60_105, x_60_105rn, x_60_105nr, x_60_105nn, x_60_108, x_60_109, x_60_112, x_60_113, x_60_114, x_60_115, x_60_118, x_60_119, x_60_122, x_60_123, x_60_126, x_60_127, x_60_130, x_60_133, x_60_134, x_60_137, x_60_138, x_60_139, x_60_142, x_60_145, x_60_148, x_60_151, x_60_152, x_60_155, x_60_158, x_60_161, x_60_162, x_60_163, x_60_166, x_60_169, x_60_170, x_60_173, x_60_174, x_60_177, x_60_178, x_60_179, x_60_182, x_60_183, x_60_186, x_60_189, x_60_190, x_60_193, x_60_194, x_60_197, x_60_200, x_60_201, x_60_204, x_60_205, x_60_206, x_60_209, x_60_212, x_60_212rn, x_60_212nr, x_60_212nn, x_60_215, x_60_216, x_60_219, x_60_220, x_60_221, x_60_222, x_60_225, x_60_226, x_60_229, x_60_230, x_60_233, x_60_234, x_60_237, x_60_240, x_60_241, x_60_244, x_60_245, x_60_246, x_60_249, x_60_252, x_60_255, x_60_258, x_60_259, x_60_262, x_60_263, x_60_266, e_61, x_61_0, x_61_1n, x_61_1r, x_61_4, x_61_5, x_61_8, x_61_9, x_61_12, e_62, x_62_0, x_62_1n, x_62_1r, x_62_4, x_62_5, x_62_8, x_62_9, x_62_12, e_63, x_63_0, x_63_1n, x_63_1r, x_63_4, x_63_5, x_63_8, x_63_9, x_63_12, e_65, x_65_0, x_65_1n, x_65_1r, x_65_4, x_65_5, x_65_6, x_65_9, kv_s, ki_s, kj_s, kd_s, kq_s, kq_n, kq_o, ka_s, kc_r, kc_t, kc0_r, kc0_t, kch_r, kc0h_r, kw_s, kw0_s, kwh_s, kw0h_s, rg_ref, rg_null, rg_rf, ck_t, sel_some, lkn_hd, Option.isSome_some, Bool.true_and, Bool.and_true, okv_i, okv_l, okv_r, okv_n, okv_rf, okv_b, okv_0, okv_1, okv_f, okv_d, c1_i, c1_r, c1_n, c1_rf, c1_f, nI_add, n_mul, n_sub, n_pred, n_eq, n_le, n_lt, n_neN, n_Nne, N_lt, N_le, n_ltN, n_leN, rdI_n, rdJ_n, rdD_n, wrI_n, wrI_z0, wrI_z1, wrI_zb, wrJ_n, wrD_n, aln_s, okn_n, upd_is, upd_ne, Nat.add_zero, Nat.add_sub_cancel, decide_true, decide_false, cond_true, cond_false, if_true, if_false, ite_not, not_true_eq_false, not_false_eq_true, Nat.reduceEqDiff, Nat.reduceAdd, Nat.reduceMul, Nat.reduceSub, Nat.reduceLeDiff, gf_setf_ne, gf_setf_p, gf_setf_is, va_rf_s, va_rf_n, gf_seta, ga_setf, gc_setf, gc_seta, ga_seta_ne, ga_seta_eq, gf_new, gc_new, gf_newo_o, gc_newo_o, ga_newo_o, ga_new, gf_newa_o, gc_newa_o, ga_newa_o, nx_setf, nx_seta, nx_newo, nx_newa, su_setf, su_seta, su_newo, su_newa, sg_setf, sg_seta, sg_newo, sg_newa, okq_n, mN, mc, tH_103, tH_gc, uL_is, uL_ne, bI_t, eq_self, Option.some.injEq, reduceCtorEq, tH_112 hx, tH_113 hx, tH_114 hx, tH_115 hx, tH_s115 hx, tH_112 hp, tH_113 hp, tH_114 hp, tH_115 hp, tH_s115 hp, tH_112 hg, tH_113 hg, tH_114 hg, tH_115 hg, tH_s115 hg, q64, w2, okp, hP, hG, hS, cp, mx, hxr, hL, hpu, hB]
    | some y =>
      have hxy : (x = y) = False := eq_false (fun e => hI (by rw [hB, e]))
      simp (disch := first | omega | (simp (disch := omega) only [nx_setf, nx_seta, nx_newo, nx_newa]; omega)) only [x_60_0, x_60_1, x_60_2, x_60_6n, x_60_6r, x_60_9, x_60_10, x_60_11, x_60_14, x_60_14rn, x_60_14nr, x_60_14nn, x_60_17, x_60_18, x_60_21, x_60_24, x_60_27, x_60_28, x_60_31, x_60_32, x_60_35, x_60_38, x_60_41, x_60_41rn, x_60_41nr, x_60_41nn, x_60_44, x_60_45, x_60_48, x_60_51, x_60_54, x_60_55, x_60_56, x_60_59, x_60_62, x_60_63, x_60_66, x_60_67, x_60_70, x_60_71, x_60_72, x_60_75, x_60_76, x_60_79, x_60_82, x_60_83, x_60_86, x_60_87, x_60_90, x_60_93, x_60_94, x_60_97, x_60_98, x_60_99, x_60_102, x_60_105, x_60_105rn, x_60_105nr, x_60_105nn, x_60_108, x_60_109, x_60_112, x_60_113, x_60_114, x_60_115, x_60_118, x_60_119, x_60_122, x_60_123, x_60_126, x_60_127, x_60_130, x_60_133, x_60_134, x_60_137, x_60_138, x_60_139, x_60_142, x_60_145, x_60_148, x_60_151, x_60_152, x_60_155, x_60_158, x_60_161, x_60_162, x_60_163, x_60_166, x_60_169, x_60_170, x_60_173, x_60_174, x_60_177, x_60_178, x_60_179, x_60_182, x_60_183, x_60_186, x_60_189, x_60_190, x_60_193, x_60_194, x_60_197, x_60_200, x_60_201, x_60_204, x_60_205, x_60_206, x_60_209, x_60_212, x_60_212rn, x_60_212nr, x_60_212nn, x_60_215, x_60_216, x_60_219, x_60_220, x_60_221, x_60_222, x_60_225, x_60_226, x_60_229, x_60_230, x_60_233, x_60_234, x_60_237, x_60_240, x_60_241, x_60_244, x_60_245, x_60_246, x_60_249, x_60_252, x_60_255, x_60_258, x_60_259, x_60_262, x_60_263, x_60_266, e_61, x_61_0, x_61_1n, x_61_1r, x_61_4, x_61_5, x_61_8, x_61_9, x_61_12, e_62, x_62_0, x_62_1n, x_62_1r, x_62_4, x_62_5, x_62_8, x_62_9, x_62_12, e_63, x_63_0, x_63_1n, x_63_1r, x_63_4, x_63_5, x_63_8, x_63_9, x_63_12, e_65, x_65_0, x_65_1n, x_65_1r, x_65_4, x_65_5, x_65_6, x_65_9, kv_s, ki_s, kj_s, kd_s, kq_s, kq_n, kq_o, ka_s, kc_r, kc_t, kc0_r, kc0_t, kch_r, kc0h_r, kw_s, kw0_s, kwh_s, kw0h_s, rg_ref, rg_null, rg_rf, ck_t, sel_some, lkn_hd, Option.isSome_some, Bool.true_and, Bool.and_true, okv_i, okv_l, okv_r, okv_n, okv_rf, okv_b, okv_0, okv_1, okv_f, okv_d, c1_i, c1_r, c1_n, c1_rf, c1_f, nI_add, n_mul, n_sub, n_pred, n_eq, n_le, n_lt, n_neN, n_Nne, N_lt, N_le, n_ltN, n_leN, rdI_n, rdJ_n, rdD_n, wrI_n, wrI_z0, wrI_z1, wrI_zb, wrJ_n, wrD_n, aln_s, okn_n, upd_is, upd_ne, Nat.add_zero, Nat.add_sub_cancel, decide_true, decide_false, cond_true, cond_false, if_true, if_false, ite_not, not_true_eq_false, not_false_eq_true, Nat.reduceEqDiff, Nat.reduceAdd, Nat.reduceMul, Nat.reduceSub, Nat.reduceLeDiff, gf_setf_ne, gf_setf_p, gf_setf_is, va_rf_s, va_rf_n, gf_seta, ga_setf, gc_setf, gc_seta, ga_seta_ne, ga_seta_eq, gf_new, gc_new, gf_newo_o, gc_newo_o, ga_newo_o, ga_new, gf_newa_o, gc_newa_o, ga_newa_o, nx_setf, nx_seta, nx_newo, nx_newa, su_setf, su_seta, su_newo, su_newa, sg_setf, sg_seta, sg_newo, sg_newa, okq_n, mN, mc, tH_103, tH_gc, uL_is, uL_ne, bI_t, eq_self, Option.some.injEq, reduceCtorEq, tH_112 hx, tH_113 hx, tH_114 hx, tH_115 hx, tH_s115 hx, tH_112 hp, tH_113 hp, tH_114 hp, tH_115 hp, tH_s115 hp, tH_112 hg, tH_113 hg, tH_114 hg, tH_115 hg, tH_s115 hg, q64, w2, okp, hP, hG, hS, cp, mx, hxr, hL, hpu, hB, hxy]
/-- parent red, uncle not -/
theorem m_60_rotRi (tn : TN A N m) (hN : ∀ y, y ∈ l → N y = true) (h : TrF L R P rt l) (hx : x ∈ l) (hC : ∀ y, C y = nI 0 ∨ C y = nI 1) (hr : rt = some r) (hxr : (x = r) = False) (hrC : C r = nI 1) (hP : P x = some p) (hp : p ∈ l) (cp : C p = nI 0) (hG : P p = some g) (hg : g ∈ l) (hS : R g = some p) (hU : ∀ u, L g = some u → C u = nI 1) (hI : L p = some x) : FxE A N m d l x j L R P C rt := by
  have mN := tn.mN
  have mc := tn.mc
  have mx := tn.mx
  have hx0 := hx
  have hp0 := hp
  have hg0 := hg
  have hx := hN x hx
  have hp := hN p hp
  have hg := hN g hg
  have lx := tn.lt x hx
  have lp := tn.lt p hp
  have lg := tn.lt g hg
  have okp := okv5_0 cp
  have xp : x ≠ p := fun e => h.ac1 hx0 (by rw [hP, e])
  have pg : p ≠ g := fun e => h.ac1 hp0 (by rw [hG, e])
  have xg : x ≠ g := fun e => h.ac2 hx0 hP (by rw [hG, e])
  have rp : r ≠ p := fun e => by have := (h.root hr).2; rw [e, hG] at this; cases this
  have rx : r ≠ x := fun e => of_eq_false hxr e.symm
  have rg0 : ¬ P g = none → r ≠ g := fun q e => q (by rw [← e]; exact (h.root hr).2)
  subst hr
  have q64 : evG TB (d + 2) 64 [va_rf (L g)] (tH A N m L R P C (some r)) = some (.inl (some (.int (nI 1))), tH A N m L R P C (some r)) := by
    cases e : L g with
    | none => simp (disch := first | omega | (simp (disch := omega) only [nx_setf, nx_seta, nx_newo, nx_newa]; omega)) only [e_64, x_64_0, x_64_1n, x_64_1r, x_64_4, x_64_5, x_64_8, x_64_9, x_64_12, kv_s, ki_s, kj_s, kd_s, kq_s, kq_n, kq_o, ka_s, kc_r, kc_t, kc0_r, kc0_t, kch_r, kc0h_r, kw_s, kw0_s, kwh_s, kw0h_s, rg_ref, rg_null, rg_rf, ck_t, sel_some, lkn_hd, Option.isSome_some, Bool.true_and, Bool.and_true, okv_i, okv_l, okv_r, okv_n, okv_rf, okv_b, okv_0, okv_1, okv_f, okv_d, c1_i, c1_r, c1_n, c1_rf, c1_f, nI_add, n_mul, n_sub, n_pred, n_eq, n_le, n_lt, n_neN, n_Nne, N_lt, N_le, n_ltN, n_leN, rdI_n, rdJ_n, rdD_n, wrI_n, wrI_z0, wrI_z1, wrI_zb, wrJ_n, wrD_n, aln_s, okn_n, upd_is, upd_ne, Nat.add_zero, Nat.add_sub_cancel, decide_true, decide_false, cond_true, cond_false, if_true, if_false, ite_not, not_true_eq_false, not_false_eq_true, Nat.reduceEqDiff, Nat.reduceAdd, Nat.reduceMul, Nat.reduceSub, Nat.reduceLeDiff, gf_setf_ne, gf_setf_p, gf_setf_is, va_rf_s, va_rf_n, gf_seta, ga_setf, gc_setf, gc_seta, ga_seta_ne, ga_seta_eq, gf_new, gc_new, gf_newo_o, gc_newo_o, ga_newo_o, ga_new, gf_newa_o, gc_newa_o, ga_newa_o, nx_setf, nx_seta, nx_newo, nx_newa, su_setf, su_seta, su_newo, su_newa, sg_setf, sg_seta, sg_newo, sg_newa, okq_n]
    | some u =>
      have hu := hN u (h.lf hg0 e).1
      have lu := tn.lt u hu
      have cu := hU u e
      simp (disch := first | omega | (simp (disch := omega) only [nx_setf, nx_seta, nx_newo, nx_newa]; omega)) only [e_64, x_64_0, x_64_1n, x_64_1r, x_64_4, x_64_5, x_64_8, x_64_9, x_64_12, kv_s, ki_s, kj_s, kd_s, kq_s, kq_n, kq_o, ka_s, kc_r, kc_t, kc0_r, kc0_t, kch_r, kc0h_r, kw_s, kw0_s, kwh_s, kw0h_s, rg_ref, rg_null, rg_rf, ck_t, sel_some, lkn_hd, Option.isSome_some, Bool.true_and, Bool.and_true, okv_i, okv_l, okv_r, okv_n, okv_rf, okv_b, okv_0, okv_1, okv_f, okv_d, c1_i, c1_r, c1_n, c1_rf, c1_f, nI_add, n_mul, n_sub, n_pred, n_eq, n_le, n_lt, n_neN, n_Nne, N_lt, N_le, n_ltN, n_leN, rdI_n, rdJ_n, rdD_n, wrI_n, wrI_z0, wrI_z1, wrI_zb, wrJ_n, wrD_n, aln_s, okn_n, upd_is, upd_ne, Nat.add_zero, Nat.add_sub_cancel, decide_true, decide_false, cond_true, cond_false, if_true, if_false, ite_not, not_true_eq_false, not_false_eq_true, Nat.reduceEqDiff, Nat.reduceAdd, Nat.reduceMul, Nat.reduceSub, Nat.reduceLeDiff, gf_setf_ne, gf_setf_p, gf_setf_is, va_rf_s, va_rf_n, gf_seta, ga_setf, gc_setf, gc_seta, ga_seta_ne, ga_seta_eq, gf_new, gc_new, gf_newo_o, gc_newo_o, ga_newo_o, ga_new, gf_newa_o, gc_newa_o, ga_newa_o, nx_setf, nx_seta, nx_newo, nx_newa, su_setf, su_seta, su_newo, su_newa, sg_setf, sg_seta, sg_newo, sg_newa, okq_n, tH_115 hu, cu]
  have hne : ∀ u, L g = some u → (p = u) = False := fun u hu => eq_false (fun q => by
    subst q
    obtain ⟨⟨f, ht⟩, hn⟩ := h
    exact isT_LR ht hn hg0 hu hS)
  have h1 : TrF (rtR L R P p x).1 (rtR L R P p x).2.1 (rtR L R P p x).2.2 (some r) l := by
    have := h.turnR hp0 hI
    rw [if_neg (by rw [hG]; exact fun e => by cases e)] at this
    exact this
  have w1 := m_67' (d := d + 1) (C := C) tn hN h hp0 hI
  rw [if_neg (by rw [hG]; exact fun e => by cases e)] at w1
  have a1 : (rtR L R P p x).2.2 p = some x := rtL_Pp (L := R) (R := L)
  have a2 : (rtR L R P p x).2.2 x = some g := (rtL_Pq (L := R) (R := L) xp).trans hG
  have a3 : (rtR L R P p x).2.1 g = some x := rtL_Lg (L := R) (R := L) (fun e => xg e.symm) hG hS
  have w2 := m_66' (d := d + 1) (C := upd (upd C x (nI 1)) g (nI 0)) tn hN h1 hg0 a3
  have h2 := h1.turnL hg0 a3
  have a4 : (rtR L R P p x).2.2 g = P g := rtL_P (L := R) (R := L) (fun e => pg e.symm) (fun e => xg e.symm) (fun e => h.ac3 hx0 hP hG (h.rg hx0 e).2)
  have b1 : (rtR L R P p x).1 x ≠ some p := by
    have : (rtR L R P p x).1 x = L x := rtL_R (L := R) (R := L) xp (fun e => xg (by have := e.1; rw [hG] at this; exact (Option.some.inj this).symm))
    rw [this]
    exact fun e => xg (by have := (h.lf hx0 e).2; rw [hG] at this; exact (Option.some.inj this).symm)
  have a5 : (rtL (rtR L R P p x).1 (rtR L R P p x).2.1 (rtR L R P p x).2.2 g x).2.2 p = some x := (rtL_P (L := (rtR L R P p x).1) (R := (rtR L R P p x).2.1) pg (fun e => xp e.symm) b1).trans a1
  rw [a4] at w2 h2
  have bl := m_60_blk (d := d) (j := some (va_rf (L g))) (x := p) (p := x) (r := if P g = none then x else r) (C := upd (upd C x (nI 1)) g (nI 0)) tn hN h2 hp0 (col_upd (col_upd hC (Or.inr rfl)) (Or.inl rfl)) (by
    by_cases e : P g = none
    · rw [if_pos e, if_pos e]
    · rw [if_neg e, if_neg e]) (eq_false (fun e => by
    by_cases q : P g = none
    · rw [if_pos q] at e; exact xp e.symm
    · rw [if_neg q] at e; exact rp e.symm)) (by
    by_cases q : P g = none
    · rw [if_pos q, upd_ne xg, upd_is rfl]
    · rw [if_neg q, upd_ne (rg0 q), upd_ne rx]; exact hrC) a5 hx0 (by rw [upd_ne xg, upd_is rfl])
  obtain ⟨L', R', P', C', rt', e, f⟩ := bl
  refine ⟨L', R', P', C', rt', x_60_5.trans ?_, f⟩
  rw [← e]
  cases hL : L g with
  | none =>
    rw [hL, va_rf_n] at q64
    simp (disch := first | omega | (simp (disch := omega) only [nx_setf, nx_seta, nx_newo, nx_newa]; omega)) only [x_60_0, x_60_1, x_60_2, x_60_6n, x_60_6r, x_60_9, x_60_10, x_60_11, x_60_14, x_60_14rn, x_60_14nr, x_60_14nn, x_60_17, x_60_18, x_60_21, x_60_24, x_60_27, x_60_28, x_60_31, x_60_32, x_60_35, x_60_38, x_60_41, x_60_41rn, x_60_41nr, x_60_41nn, x_60_44, x_60_45, x_60_48, x_60_51, x_60_54, x_60_55, x_60_56, x_60_59, x_60_62, x_60_63, x_60_66, x_60_67, x_60_70, x_60_71, x_60_72, x_60_75, x_60_76, x_60_79, x_60_82, x_60_83, x_60_86, x_60_87, x_60_90, x_60_93, x_60_94, x_60_97, x_60_98, x_60_99, x_60_102, x_60_105, x_60_105rn, x_60_105nr, x_60_105nn, x_60_108, x_60_109, x_60_112, x_60_113, x_60_114, x_60_115, x_60_118, x_60_119, x_60_122, x_60_123, x_60_126, x_60_127, x_60_130, x_60_133, x_60_134, x_60_137, x_60_138, x_60_139, x_60_142, x_60_145, x_60_148, x_60_151, x_60_152, x_60_155, x_60_158, x_60_161, x_60_162, x_60_163, x_60_166, x_60_169, x_60_170, x_60_173, x_60_174, x_60_177, x_60_178, x_60_179, x_60_182, x_60_183, x_60_186, x_60_189, x_60_190, x_60_193, x_60_194, x_60_197, x_60_200, x_60_201, x_60_204, x_60_205, x_60_206, x_60_209, x_60_212, x_60_212rn, x_60_212nr, x_60_212nn, x_60_215, x_60_216, x_60_219, x_60_220, x_60_221, x_60_222, x_60_225, x_60_226, x_60_229, x_60_230, x_60_233, x_60_234, x_60_237, x_60_240, x_60_241, x_60_244, x_60_245, x_60_246, x_60_249, x_60_252, x_60_255, x_60_258, x_60_259, x_60_262, x_60_263, x_60_266, e_61, x_61_0, x_61_1n, x_61_1r, x_61_4, x_61_5, x_61_8, x_61_9, x_61_12, e_62, x_62_0, x_62_1n, x_62_1r, x_62_4, x_62_5, x_62_8, x_62_9, x_62_12, e_63, x_63_0, x_63_1n, x_63_1r, x_63_4, x_63_5, x_63_8, x_63_9, x_63_12, e_65, x_65_0, x_65_1n, x_65_1r, x_65_4, x_65_5, x_65_6, x_65_9, kv_s, ki_s, kj_s, kd_s, kq_s, kq_n, kq_o, ka_s, kc_r, kc_t, kc0_r, kc0_t, kch_r, kc0h_r, kw_s, kw0_s, kwh_s, kw0h_s, rg_ref, rg_null, rg_rf, ck_t, sel_some, lkn_hd, Option.isSome_some, Bool.true_and, Bool.and_true, okv_i, okv_l, okv_r, okv_n, okv_rf, okv_b, okv_0, okv_1, okv_f, okv_d, c1_i, c1_r, c1_n, c1_rf, c1_f, nI_add, n_mul, n_sub, n_pred, n_eq, n_le, n_lt, n_neN, n_Nne, N_lt, N_le, n_ltN, n_leN, rdI_n, rdJ_n, rdD_n, wrI_n, wrI_z0, wrI_z1, wrI_zb, wrJ_n, wrD_n, aln_s, okn_n, upd_is, upd_ne, Nat.add_zero, Nat.add_sub_cancel, decide_true, decide_false, cond_true, cond_false, if_true, if_false, ite_not, not_true_eq_false, not_false_eq_true, Nat.reduceEqDiff, Nat.reduceAdd, Nat.reduceMul, Nat.reduceSub, Nat.reduceLeDiff, gf_setf_ne, gf_setf_p, gf_setf_is, va_rf_s, va_rf_n, gf_seta, ga_setf, gc_setf, gc_seta, ga_seta_ne, ga_seta_eq, gf_new, gc_new, gf_newo_o, gc_newo_o, ga_newo_o, ga_new, gf_newa_o, gc_newa_o, ga_newa_o, nx_setf, nx_seta, nx_newo, nx_newa, su_setf, su_seta, su_newo, su_newa, sg_setf, sg_seta, sg_newo, sg_newa, okq_n, mN, mc, tH_103, tH_gc, uL_is, uL_ne, bI_t, eq_self, Option.some.injEq, reduceCtorEq, tH_112 hx, tH_113 hx, tH_114 hx, tH_115 hx, tH_s115 hx, tH_112 hp, tH_113 hp, tH_114 hp, tH_115 hp, tH_s115 hp, tH_112 hg, tH_113 hg, tH_114 hg, tH_115 hg, tH_s115 hg, q64, w1, w2, a1, a2, a4, okp, hP, hG, hS, hI, cp, mx, hxr, hL]
  | some u =>
    rw [hL, va_rf_s] at q64
    have hpu := hne u hL
    simp (disch := first | omega | (simp (disch := omega) only [nx_setf, nx_seta, nx_newo, nx_newa]; omega)) only [x_60_0, x_60_1, x_60_2, x_60_6n, x_60_6r, x_60_9, x_60_10, x_60_11, x_60_14, x_60_14rn, x_60_14nr, x_60_14nn, x_60_17, x_60_18, x_60_21, x_60_24, x_60_27, x_60_28, x_60_31, x_60_32, x_60_35, x_60_38, x_60_41, x_60_41rn, x_60_41nr, x_60_41nn, x_60_44, x_60_45, x_60_48, x_60_51, x_60_54, x_60_55, x_60_56, x_60_59, x_60_62, x_60_63, x_60_66, x_60_67, x_60_70, x_60_71, x_60_72, x_60_75, x_60_76, x_60_79, x_60_82, x_60_83, x_60_86, x_60_87, x_60_90, x_60_93, x_60_94, x_60_97, x_60_98, x_60_99, x_60_102, x_60_105, x_60_105rn, x_60_105nr, x_60_105nn, x_60_108, x_60_109, x_60_112, x_60_113, x_60_114, x_60_115, x_60_118, x_60_119, x_60_122, x_60_123, x_60_126, x_60_127, x_60_130, x_60_133, x_60_134, x_60_137, x_60_138, x_60_139, x_60_142, x_60_145, x_60_148, x_60_151, x_60_152, x_60_155, x_60_158, x_60_161, x_60_162, x_60_163, x_60_166, x_60_169, x_60_170, x_60_173, x_60_174, x_60_177, x_60_178, x_60_179, x_60_182, x_60_183, x_60_186, x_60_189, x_60_190, x_60_193, x_60_194, x_60_197, x_60_200, x_60_201, x_60_204, x_60_205, x_60_206, x_60_209, x_60_212, x_60_212rn, x_60_212nr, x_60_212nn, x_60_215, x_60_216, x_60_219, x_60_220, x_60_221, x_60_222, x_60_225, x_60_226, x_60_229, x_60_230, x_60_233, x_60_234, x_60_237, x_60_240, x_60_241, x_60_244, x_60_245, x_60_246, x_60_249, x_60_252, x_60_255, x_60_258, x_60_259, x_60_262, x_60_263, x_60_266, e_61, x_61_0, x_61_1n, x_61_1r, x_61_4, x_61_5, x_61_8, x_61_9, x_61_12, e_62, x_62_0, x_62_1n, x_62_1r, x_62_4, x_62_5, x_62_8, x_62_9, x_62_12, e_63, x_63_0, x_63_1n, x_63_1r, x_63_4, x_63_5, x_63_8, x_63_9, x_63_12, e_65, x_65_0, x_65_1n, x_65_1r, x_65_4, x_65_5, x_65_6, x_65_9, kv_s, ki_s, kj_s, kd_s, kq_s, kq_n, kq_o, ka_s, kc_r, kc_t, kc0_r, kc0_t, kch_r, kc0h_r, kw_s, kw0_s, kwh_s, kw0h_s, rg_ref, rg_null, rg_rf, ck_t, sel_some, lkn_hd, Option.isSome_some, Bool.true_and, Bool.and_true, okv_i, okv_l, okv_r, okv_n, okv_rf, okv_b, okv_0, okv_1, okv_f, okv_d, c1_i, c1_r, c1_n, c1_rf, c1_f, nI_add, n_mul, n_sub, n_pred, n_eq, n_le, n_lt, n_neN, n_Nne, N_lt, N_le, n_ltN, n_leN, rdI_n, rdJ_n, rdD_n, wrI_n, wrI_z0, wrI_z1, wrI_zb, wrJ_n, wrD_n, aln_s, okn_n, upd_is, upd_ne, Nat.add_zero, Nat.add_sub_cancel, decide_true, decide_false, cond_true, cond_false, if_true, if_false, ite_not, not_true_eq_false, not_false_eq_true, Nat.reduceEqDiff, Nat.reduceAdd, Nat.reduceMul, Nat.reduceSub, Nat.reduceLeDiff, gf_setf_ne, gf_setf_p, gf_setf_is, va_rf_s, va_rf_n, gf_seta, ga_setf, gc_setf, gc_seta, ga_seta_ne, ga_seta_eq, gf_new, gc_new, gf_newo_o, gc_newo_o, ga_newo_o, ga_new, gf_newa_o, gc_newa_o, ga_newa_o, nx_setf, nx_seta, nx_newo, nx_newa, su_setf, su_seta, su_newo, su_newa, sg_setf, sg_seta, sg_newo, sg_newa, okq_n, mN, mc, tH_103, tH_gc, uL_is, uL_ne, bI_t, eq_self, Option.some.injEq, reduceCtorEq, tH_112 hx, tH_113 hx, tH_114 hx, tH_115 hx, tH_s115 hx, tH_112 hp, tH_113 hp, tH_114 hp, tH_115 hp, tH_s115 hp, tH_112 hg, tH_113 hg, tH_114 hg, tH_115 hg, tH_s115 hg, q64, w1, w2, a1, a2, a4, okp, hP, hG, hS, hI, cp, mx, hxr, hL, hpu]
end
