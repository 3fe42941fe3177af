/-! the component's bills: copied; what a trip costs its vehicle -/
section
variable {A A' B : Hp} {w w' : Lb} {X : Nat → Prop} {y l e b n d c u x k T p q s a v r bl mk V C i R : Nat} {aO vO acO : Nat → Nat} {t : Tp} {S f g : Nat → Int32} {sz ac pc im iv z w0 : Int32}
theorem m_250 (h : BlO A w y l f T) (ht : TpO A w T n e aO sz t) : evG TB (d + 3) 250 [.ref y] A = some (.inl (some (.int (t.to * sz * f 4 / nI 100))), A) := by
  have q := m_255 (d := d) (pc := f 4) ht
  have c26 := ht.c
  have f137 : gf A y 137 = some (.int (f 4)) := h.gs 4 (by decide) (by decide)
  simp (disch := first | omega | (simp (disch := omega) only [nx_setf, nx_seta, nx_newo, nx_newa]; omega)) only [e_250, x_250_0, x_250_1, x_250_4, x_250_5, x_250_6, x_250_7, x_250_10, x_250_15, kv_s, ki_s, kj_s, kd_s, kq_s, kq_n, kq_o, ka_s, kc_r, kc_t, kc0_r, kc0_t, kch_r, kc0h_r, kw_s, kw0_s, kwh_s, kw0h_s, rg_ref, rg_null, rg_rf, ck_t, sel_some, lkn_hd, Option.isSome_some, Bool.true_and, Bool.and_true, okv_i, okv_l, okv_r, okv_n, okv_rf, okv_b, okv_0, okv_1, okv_f, okv_d, c1_i, c1_r, c1_n, c1_rf, c1_f, nI_add, n_mul, n_sub, n_pred, n_eq, n_le, n_lt, n_neN, n_Nne, N_lt, N_le, n_ltN, n_leN, rdI_n, rdJ_n, rdD_n, wrI_n, wrI_z0, wrI_z1, wrI_zb, wrJ_n, wrD_n, aln_s, okn_n, upd_is, upd_ne, Nat.add_zero, Nat.add_sub_cancel, decide_true, decide_false, cond_true, cond_false, if_true, if_false, ite_not, not_true_eq_false, not_false_eq_true, Nat.reduceEqDiff, Nat.reduceAdd, Nat.reduceMul, Nat.reduceSub, Nat.reduceLeDiff, h.ft, f137, c26, q]
theorem m_252 (h : BlO A w y l f T) : evG TB (d + 1) 252 [.ref y, .int z] A = some (.inl (some (.int (z - z * f 4 / nI 100 + f 5 + f 6))), A) := by
  have f137 : gf A y 137 = some (.int (f 4)) := h.gs 4 (by decide) (by decide)
  have f138 : gf A y 138 = some (.int (f 5)) := h.gs 5 (by decide) (by decide)
  have f139 : gf A y 139 = some (.int (f 6)) := h.gs 6 (by decide) (by decide)
  have n0 : (nI 100 = nI 0) = False := eq_false (by decide)
  simp (disch := first | omega | (simp (disch := omega) only [nx_setf, nx_seta, nx_newo, nx_newa]; omega)) only [e_252, x_252_0, x_252_1, x_252_2, x_252_3, x_252_6, x_252_7, x_252_9, x_252_10, x_252_11, x_252_12, x_252_15, x_252_16, x_252_17, x_252_20, x_252_21, kv_s, ki_s, kj_s, kd_s, kq_s, kq_n, kq_o, ka_s, kc_r, kc_t, kc0_r, kc0_t, kch_r, kc0h_r, kw_s, kw0_s, kwh_s, kw0h_s, rg_ref, rg_null, rg_rf, ck_t, sel_some, lkn_hd, Option.isSome_some, Bool.true_and, Bool.and_true, okv_i, okv_l, okv_r, okv_n, okv_rf, okv_b, okv_0, okv_1, okv_f, okv_d, c1_i, c1_r, c1_n, c1_rf, c1_f, nI_add, n_mul, n_sub, n_pred, n_eq, n_le, n_lt, n_neN, n_Nne, N_lt, N_le, n_ltN, n_leN, rdI_n, rdJ_n, rdD_n, wrI_n, wrI_z0, wrI_z1, wrI_zb, wrJ_n, wrD_n, aln_s, okn_n, upd_is, upd_ne, Nat.add_zero, Nat.add_sub_cancel, decide_true, decide_false, cond_true, cond_false, if_true, if_false, ite_not, not_true_eq_false, not_false_eq_true, Nat.reduceEqDiff, Nat.reduceAdd, Nat.reduceMul, Nat.reduceSub, Nat.reduceLeDiff, f137, f138, f139, n0]
theorem m_251 (h : BlO A w y l f T) (ht : TpO A w T n e aO sz t) (hl2 : t.rs.length < 10000) (hi : ∀ j, j ∈ t.rs → IV A (aO j) 17 89 8 (rdFn S j)) (hk : ∀ j, j ∈ t.rs → S (280 + 7 * j + 3) = nI 0 ∨ S (280 + 7 * j + 3) = nI 1) : evG TB (d + 5) 251 [.ref y] A = some (.inl (some (.int (nI (imgN S t.rs)))), A) := by
  have q := m_247 (d := d) ht hl2 hi hk
  have c26 := ht.c
  simp (disch := first | omega | (simp (disch := omega) only [nx_setf, nx_seta, nx_newo, nx_newa]; omega)) only [e_251, x_251_0, x_251_1, x_251_4, x_251_7, kv_s, ki_s, kj_s, kd_s, kq_s, kq_n, kq_o, ka_s, kc_r, kc_t, kc0_r, kc0_t, kch_r, kc0h_r, kw_s, kw0_s, kwh_s, kw0h_s, rg_ref, rg_null, rg_rf, ck_t, sel_some, lkn_hd, Option.isSome_some, Bool.true_and, Bool.and_true, okv_i, okv_l, okv_r, okv_n, okv_rf, okv_b, okv_0, okv_1, okv_f, okv_d, c1_i, c1_r, c1_n, c1_rf, c1_f, nI_add, n_mul, n_sub, n_pred, n_eq, n_le, n_lt, n_neN, n_Nne, N_lt, N_le, n_ltN, n_leN, rdI_n, rdJ_n, rdD_n, wrI_n, wrI_z0, wrI_z1, wrI_zb, wrJ_n, wrD_n, aln_s, okn_n, upd_is, upd_ne, Nat.add_zero, Nat.add_sub_cancel, decide_true, decide_false, cond_true, cond_false, if_true, if_false, ite_not, not_true_eq_false, not_false_eq_true, Nat.reduceEqDiff, Nat.reduceAdd, Nat.reduceMul, Nat.reduceSub, Nat.reduceLeDiff, h.ft, c26, q]
/-- a bill copied -/
theorem m_253 (h : BlO A w y l f T) (ht : TpO A w T n e aO sz t) (h3 : f 3 = t.to * sz) (h2 : f 2 = t.to * sz - t.to * sz * f 4 / nI 100 + f 5 + f 6) (l' : Nat) : ∃ A', evG TB (d + 5) 253 [.ref y] A = some (.inl (some (.ref (nx A))), A') ∧ BlO A' (upL w (nx A) l') (nx A) l' f T ∧ ∀ X, Fr A w A' (upL w (nx A) l') X 1 10 := by
  have hy := gc_lt h.c
  have yn : y ≠ nx A := Nat.ne_of_lt hy
  obtain ⟨A1, e1, b1, f1⟩ := m_249 (d := d) (v := f 0) (ac := f 1) (pc := f 4) (im := f 5) (iv := f 6) ht l'
  have y0 : gf A y 133 = some (.int (f 0)) := h.gs 0 (by decide) (by decide)
  have y1 : gf A y 134 = some (.int (f 1)) := h.gs 1 (by decide) (by decide)
  have y4 : gf A y 137 = some (.int (f 4)) := h.gs 4 (by decide) (by decide)
  have y5 : gf A y 138 = some (.int (f 5)) := h.gs 5 (by decide) (by decide)
  have y6 : gf A y 139 = some (.int (f 6)) := h.gs 6 (by decide) (by decide)
  have h1 := h.fr (f1 (fun _ => False)) (fun z => z)
  have z8 : gf A1 y 141 = some (.int (f 8)) := h1.gs 8 (by decide) (by decide)
  have z9 : gf A1 y 142 = some (.int (f 9)) := h1.gs 9 (by decide) (by decide)
  have n8 := b1.gs 8 (by decide) (by decide)
  have n9 := b1.gs 9 (by decide) (by decide)
  have n0 : nx (newo A 27 10 dv27) = nx A + 1 := rfl
  have ft := h.ft
  refine ⟨setf (setf A1 (nx A) 141 (.int (f 8))) (nx A) 142 (.int (f 9)), ?_, ((b1.set 8 (by decide) (f 8)).set 9 (by decide) (f 9)).too (fun k hk h7 => ?_), fun X => ((f1 X).stn (Nat.le_refl _)).stn (Nat.le_refl _)⟩
  · simp (disch := first | omega | (simp (disch := omega) only [nx_setf, nx_seta, nx_newo, nx_newa]; omega)) only [e_253, x_253_0, x_253_3, x_253_4, x_253_5, x_253_8, x_253_9, x_253_12, x_253_13, x_253_16, x_253_17, x_253_20, x_253_21, x_253_24, x_253_25, x_253_28, x_253_31, x_253_32, x_253_33, x_253_34, x_253_37, x_253_40, x_253_41, x_253_42, x_253_45, x_253_48, x_253_49, kv_s, ki_s, kj_s, kd_s, kq_s, kq_n, kq_o, ka_s, kc_r, kc_t, kc0_r, kc0_t, kch_r, kc0h_r, kw_s, kw0_s, kwh_s, kw0h_s, rg_ref, rg_null, rg_rf, ck_t, sel_some, lkn_hd, Option.isSome_some, Bool.true_and, Bool.and_true, okv_i, okv_l, okv_r, okv_n, okv_rf, okv_b, okv_0, okv_1, okv_f, okv_d, c1_i, c1_r, c1_n, c1_rf, c1_f, nI_add, n_mul, n_sub, n_pred, n_eq, n_le, n_lt, n_neN, n_Nne, N_lt, N_le, n_ltN, n_leN, rdI_n, rdJ_n, rdD_n, wrI_n, wrI_z0, wrI_z1, wrI_zb, wrJ_n, wrD_n, aln_s, okn_n, upd_is, upd_ne, Nat.add_zero, Nat.add_sub_cancel, decide_true, decide_false, cond_true, cond_false, if_true, if_false, ite_not, not_true_eq_false, not_false_eq_true, Nat.reduceEqDiff, Nat.reduceAdd, Nat.reduceMul, Nat.reduceSub, Nat.reduceLeDiff, gf_newo_o, y0, y1, y4, y5, y6, ft, e1, z8, z9, n8, n9, gf_setf_ne, gf_setf_p, Option.isSome_some]
  · have : k = 0 ∨ k = 1 ∨ k = 2 ∨ k = 3 ∨ k = 4 ∨ k = 5 ∨ k = 6 ∨ k = 8 ∨ k = 9 := by omega
    rcases this with z | z | z | z | z | z | z | z | z <;> subst z
    · rfl
    · rfl
    · exact h2
    · exact h3
    · rfl
    · rfl
    · rfl
    · rfl
    · rfl
/-- whether a trip may be billed -/
theorem m_266 (o : WO A w b p q s a v r bl mk w0) (ws : WSt A w b s S) (h : TpO A w T l e aO sz t) (hn : t.rs ≠ []) (hl2 : t.rs.length < 10000) (hi : ∀ j, j ∈ t.rs → IV A (aO j) 17 89 8 (rdFn S j)) : evG TB (d + 5) 266 [.ref p, .ref T, .int z] A = some (.inl (some (.int (bI (decide (lstT S t + S 0 < z))))), A) := by
  have q := m_245 (d := d) h hn hl2 hi
  have f7 := o.f7
  obtain ⟨k0, s0, s0'⟩ := ws.rd (k := 0) (by decide)
  have c26 := h.c
  by_cases e1 : lstT S t + S 0 < z
  · have e2 : (z ≤ lstT S t + S 0) = False := eq_false (Int32.not_le.mpr e1)
    rw [decide_eq_true e1, bI_t]
    simp (disch := first | omega | (simp (disch := omega) only [nx_setf, nx_seta, nx_newo, nx_newa]; omega)) only [e_266, x_266_0, x_266_1, x_266_4, x_266_5, x_266_8, x_266_9, x_266_10, x_266_11, x_266_12, x_266_15, x_266_16, x_266_19, x_266_20, kv_s, ki_s, kj_s, kd_s, kq_s, kq_n, kq_o, ka_s, kc_r, kc_t, kc0_r, kc0_t, kch_r, kc0h_r, kw_s, kw0_s, kwh_s, kw0h_s, rg_ref, rg_null, rg_rf, ck_t, sel_some, lkn_hd, Option.isSome_some, Bool.true_and, Bool.and_true, okv_i, okv_l, okv_r, okv_n, okv_rf, okv_b, okv_0, okv_1, okv_f, okv_d, c1_i, c1_r, c1_n, c1_rf, c1_f, nI_add, n_mul, n_sub, n_pred, n_eq, n_le, n_lt, n_neN, n_Nne, N_lt, N_le, n_ltN, n_leN, rdI_n, rdJ_n, rdD_n, wrI_n, wrI_z0, wrI_z1, wrI_zb, wrJ_n, wrD_n, aln_s, okn_n, upd_is, upd_ne, Nat.add_zero, Nat.add_sub_cancel, decide_true, decide_false, cond_true, cond_false, if_true, if_false, ite_not, not_true_eq_false, not_false_eq_true, Nat.reduceEqDiff, Nat.reduceAdd, Nat.reduceMul, Nat.reduceSub, Nat.reduceLeDiff, c26, q, f7, s0, s0', e2]
  · have e2 : (z ≤ lstT S t + S 0) = True := eq_true (Int32.not_lt.mp e1)
    rw [decide_eq_false e1, bI_f]
    simp (disch := first | omega | (simp (disch := omega) only [nx_setf, nx_seta, nx_newo, nx_newa]; omega)) only [e_266, x_266_0, x_266_1, x_266_4, x_266_5, x_266_8, x_266_9, x_266_10, x_266_11, x_266_12, x_266_15, x_266_16, x_266_19, x_266_20, kv_s, ki_s, kj_s, kd_s, kq_s, kq_n, kq_o, ka_s, kc_r, kc_t, kc0_r, kc0_t, kch_r, kc0h_r, kw_s, kw0_s, kwh_s, kw0h_s, rg_ref, rg_null, rg_rf, ck_t, sel_some, lkn_hd, Option.isSome_some, Bool.true_and, Bool.and_true, okv_i, okv_l, okv_r, okv_n, okv_rf, okv_b, okv_0, okv_1, okv_f, okv_d, c1_i, c1_r, c1_n, c1_rf, c1_f, nI_add, n_mul, n_sub, n_pred, n_eq, n_le, n_lt, n_neN, n_Nne, N_lt, N_le, n_ltN, n_leN, rdI_n, rdJ_n, rdD_n, wrI_n, wrI_z0, wrI_z1, wrI_zb, wrJ_n, wrD_n, aln_s, okn_n, upd_is, upd_ne, Nat.add_zero, Nat.add_sub_cancel, decide_true, decide_false, cond_true, cond_false, if_true, if_false, ite_not, not_true_eq_false, not_false_eq_true, Nat.reduceEqDiff, Nat.reduceAdd, Nat.reduceMul, Nat.reduceSub, Nat.reduceLeDiff, c26, q, f7, s0, s0', e2]
/-- a bill for a trip; its account has got some bills more -/
theorem m_267 {D : Nat} (o : WO A w b p q s a v r bl mk w0) (ws : WSt A w b s S) (hv : WVh A w b v V vO S) (ha : WAc A w b a C acO S) (hi : i < V) (hac : S (235 + 3 * i + 1) = nN ∨ ∃ c, c < C ∧ S (235 + 3 * i + 1) = nI c) (h : TpO A w T l e aO (S (235 + 3 * i)) t) (hl2 : t.rs.length < 10000) (hr : ∀ j, j ∈ t.rs → IV A (aO j) 17 89 8 (rdFn S j)) (hk : ∀ j, j ∈ t.rs → S (280 + 7 * j + 3) = nI 0 ∨ S (280 + 7 * j + 3) = nI 1) (l' : Nat) :
    ∃ A' w' y, evG TB (d + 7) 267 [.ref p, .int (nI i), .ref T, .int z] A = some (.inl (some (.ref y)), A') ∧ BlO A' w' y l' (fun k => if k = 0 then nI i else if k = 1 then S (235 + 3 * i + 1) else if k = 2 then amtV S i t (prcV S i (gotV S i + z)) else if k = 3 then tllV S i t else if k = 4 then prcV S i (gotV S i + z) else if k = 5 then S 6 * nI (imgN S t.rs) else if k = 6 then invV S i else nI 0) T ∧ ∀ X, X 7 → Fr A w A' w' X 2 18 := by
  have f10 := o.f10
  have f7 := o.f7
  have lc := hv.l.kc
  have q47 := hv.l.get (d := d + 3) hi
  have vo := hv.o i hi
  have c13 : cin (gcs A (vO i)) [13] = true := by rw [gcs_d vo.c]; rfl
  have f70 : gf A (vO i) 70 = some (.int (S (235 + 3 * i + 1))) := vo.fs 1 (by decide)
  obtain ⟨k6, s6, s6'⟩ := ws.rd (k := 6) (by decide)
  have q247 := m_247 (d := d + 2) h hl2 hr hk
  have c26 := h.c
  have cp := o.c
  rcases hac with hac | ⟨c, hc, hac⟩
  · have q268 := m_268n (A := A) (p := p) (d := d + 5)
    have q269 := m_269n (A := A) (p := p) (d := d + 4) (x := z)
    have f1 : ∀ X, Fr A w (newo A 34 8 (fun _ => none)) (upL w (nx A) 7) X 1 8 := fun X => Fr.nwo
    have t1 := h.fr (f1 (fun _ => False)) (fun z => z) (fun z => z) (fun z => z) (fun z => z)
    obtain ⟨A2, e2, b2, f2⟩ := m_249 (d := d + 2) (v := nI i) (ac := nN) (pc := nI 0) (im := S 6 * nI (imgN S t.rs)) (iv := S 7) t1 l'
    rw [show nx (newo A 34 8 (fun _ => none)) = nx A + 1 from rfl] at e2
    have pV : prcV S i (gotV S i + z) = nI 0 := by unfold prcV; rw [if_pos hac]
    have iV : invV S i = S 7 := by unfold invV; rw [if_pos hac]
    have fN : Fr A w (newo (newo A 34 8 (fun _ => none)) 27 10 dv27) (upL (upL w (nx A) 7) (nx A + 1) 0) (fun _ => False) 2 18 := (f1 _).trans Fr.nwo
    have oN := o.fr fN (fun z => z)
    have wN := ws.fr fN (fun z => z)
    have f7N := oN.f7
    obtain ⟨k7, s7, s7'⟩ := wN.rd (k := 7) (by decide)
    rw [hac] at f70
    refine ⟨A2, _, _, ?_, b2.too (fun k hk h7 => ?_), fun X hX => ((f1 X).trans (f2 X)).mono (fun _ h => h) (by decide) (by decide)⟩
    · simp (disch := first | omega | (simp (disch := omega) only [nx_setf, nx_seta, nx_newo, nx_newa]; omega)) only [e_267, x_267_0, x_267_1, x_267_4, x_267_5, x_267_8n, x_267_8r, x_267_11, x_267_14, x_267_16, x_267_17, x_267_20, x_267_22, x_267_23, x_267_24, x_267_27, x_267_28, x_267_30, x_267_31, x_267_32, x_267_34, x_267_37, x_267_38, x_267_41, x_267_43, x_267_46, x_267_47, x_267_48, x_267_50, x_267_51, x_267_53, x_267_55, x_267_57, x_267_58, x_267_61, x_267_62, x_267_65, x_267_67, x_267_68, x_267_71, x_267_72, x_267_75, kv_s, ki_s, kj_s, kd_s, kq_s, kq_n, kq_o, ka_s, kc_r, kc_t, kc0_r, kc0_t, kch_r, kc0h_r, kw_s, kw0_s, kwh_s, kw0h_s, rg_ref, rg_null, rg_rf, ck_t, sel_some, lkn_hd, Option.isSome_some, Bool.true_and, Bool.and_true, okv_i, okv_l, okv_r, okv_n, okv_rf, okv_b, okv_0, okv_1, okv_f, okv_d, c1_i, c1_r, c1_n, c1_rf, c1_f, nI_add, n_mul, n_sub, n_pred, n_eq, n_le, n_lt, n_neN, n_Nne, N_lt, N_le, n_ltN, n_leN, rdI_n, rdJ_n, rdD_n, wrI_n, wrI_z0, wrI_z1, wrI_zb, wrJ_n, wrD_n, aln_s, okn_n, upd_is, upd_ne, Nat.add_zero, Nat.add_sub_cancel, decide_true, decide_false, cond_true, cond_false, if_true, if_false, ite_not, not_true_eq_false, not_false_eq_true, Nat.reduceEqDiff, Nat.reduceAdd, Nat.reduceMul, Nat.reduceSub, Nat.reduceLeDiff, f10, lc, q47, c13, ckT, f70, f7, s6, s6', q247, c26, cp, q268, q269, nx_newo, e2, f7N, s7, s7', eq_self]
    · rw [pV, iV, hac]
      unfold amtV tllV
      rw [iV]
  · have q268 := m_268 (d := d + 5) ha o hc
    have acc := (ha.e).elim (fun e he => (he.2 c hc).2)
    have q269 := m_269 (d := d + 4) (p := p) (x := z) acc
    obtain ⟨A2, e2, b2, f2⟩ := m_249 (d := d + 2) (v := nI i) (ac := nI c) (pc := if acF S c 3 + z < acF S c 2 then nI 0 else acF S c 1) (im := S 6 * nI (imgN S t.rs)) (iv := nI 0) h l'
    have h8 := ha.n8
    have hne : (nI c = nN) = False := n_neN (by omega)
    have hacN : ¬ S (235 + 3 * i + 1) = nN := by rw [hac]; exact of_eq_false hne
    have aN : acN S i = c := by unfold acN; rw [hac]; exact n_cl (by omega)
    have pV : prcV S i (gotV S i + z) = if acF S c 3 + z < acF S c 2 then nI 0 else acF S c 1 := by
      unfold prcV gotV acF
      rw [if_neg hacN, if_neg hacN, aN]
      by_cases e1 : S (187 + 6 * c + 2) ≤ S (187 + 6 * c + 3) + z
      · rw [if_pos e1, if_neg (Int32.not_lt.mpr e1)]
      · rw [if_neg e1, if_pos (Int32.not_le.mp e1)]
    have iV : invV S i = nI 0 := by unfold invV; rw [if_neg hacN]
    rw [hac] at f70
    refine ⟨A2, _, _, ?_, b2.too (fun k hk h7 => ?_), fun X hX => (f2 X).mono (fun _ h => h) (by decide) (by decide)⟩
    · simp (disch := first | omega | (simp (disch := omega) only [nx_setf, nx_seta, nx_newo, nx_newa]; omega)) only [e_267, x_267_0, x_267_1, x_267_4, x_267_5, x_267_8n, x_267_8r, x_267_11, x_267_14, x_267_16, x_267_17, x_267_20, x_267_22, x_267_23, x_267_24, x_267_27, x_267_28, x_267_30, x_267_31, x_267_32, x_267_34, x_267_37, x_267_38, x_267_41, x_267_43, x_267_46, x_267_47, x_267_48, x_267_50, x_267_51, x_267_53, x_267_55, x_267_57, x_267_58, x_267_61, x_267_62, x_267_65, x_267_67, x_267_68, x_267_71, x_267_72, x_267_75, kv_s, ki_s, kj_s, kd_s, kq_s, kq_n, kq_o, ka_s, kc_r, kc_t, kc0_r, kc0_t, kch_r, kc0h_r, kw_s, kw0_s, kwh_s, kw0h_s, rg_ref, rg_null, rg_rf, ck_t, sel_some, lkn_hd, Option.isSome_some, Bool.true_and, Bool.and_true, okv_i, okv_l, okv_r, okv_n, okv_rf, okv_b, okv_0, okv_1, okv_f, okv_d, c1_i, c1_r, c1_n, c1_rf, c1_f, nI_add, n_mul, n_sub, n_pred, n_eq, n_le, n_lt, n_neN, n_Nne, N_lt, N_le, n_ltN, n_leN, rdI_n, rdJ_n, rdD_n, wrI_n, wrI_z0, wrI_z1, wrI_zb, wrJ_n, wrD_n, aln_s, okn_n, upd_is, upd_ne, Nat.add_zero, Nat.add_sub_cancel, decide_true, decide_false, cond_true, cond_false, if_true, if_false, ite_not, not_true_eq_false, not_false_eq_true, Nat.reduceEqDiff, Nat.reduceAdd, Nat.reduceMul, Nat.reduceSub, Nat.reduceLeDiff, f10, lc, q47, c13, ckT, f70, f7, s6, s6', q247, c26, cp, q268, q269, hne, e2]
    · rw [pV, iV, hac]
      unfold amtV tllV
      rw [iV]
end
