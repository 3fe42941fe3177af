/-! the component's routes: Search new, Route, Cheapest, what they find -/
theorem dv15_77 : dv15 77 = some .null := rfl
theorem dv15_78 : dv15 78 = some (.int (nI 0)) := rfl
theorem dv15_79 : dv15 79 = some .null := rfl
theorem dv15_80 : dv15 80 = some .null := rfl
theorem dv15_k : ∀ k, k < 7 → dv15 (81 + k) = some (.int (nI 0))
  | 0, _ => rfl
  | 1, _ => rfl
  | 2, _ => rfl
  | 3, _ => rfl
  | 4, _ => rfl
  | 5, _ => rfl
  | 6, _ => rfl
theorem dv16_77 : dv16 77 = some .null := rfl
theorem dv16_78 : dv16 78 = some (.int (nI 0)) := rfl
theorem dv16_79 : dv16 79 = some .null := rfl
theorem dv16_80 : dv16 80 = some .null := rfl
theorem dv16_k : ∀ k, (k = 0 ∨ k = 7) → dv16 (81 + k) = some (.int (nI 0)) := fun k hk => by
  rcases hk with e | e <;> subst e <;> rfl
/-- a search laid -/
def srB (A : Hp) (ci n : Nat) (dv : Nat → Option Value) : Hp := setf (newa (setf (newa (newo A ci n dv) (zar 0 7)) (nx A) 79 (.ref (nx A + 1))) (zar 0 7)) (nx A) 80 (.ref (nx A + 2))
def srH (A : Hp) (ci n : Nat) (dv : Nat → Option Value) (q to : Nat) (x : Int32) : Hp := seta (setf (setf (setf (srB A ci n dv) (nx A) 81 (.int nN)) (nx A) 77 (.ref q)) (nx A) 78 (.int (nI to))) (nx A + 1) (0, (7, .inl (upd (fun _ => nI 0) 0 x)))
def srW (A : Hp) (w : Lb) : Lb := upL (upL (upL w (nx A) 7) (nx A + 1) 7) (nx A + 2) 7
section
variable {A A' : Hp} {w w' : Lb} {X : Nat → Prop} {y ci n q to a1 a2 b d c s G R u h r t e sl a : Nat} {K : Nat → Prop} {f1 f2 g f1' f2' : Nat → Int32} {S : Nat → Int32} {tk : Tk} {mi tl ms mc mh x el : Int32} {dv : Nat → Option Value}
theorem srH_fr : Fr A w (srH A ci n dv q to x) (srW A w) X 3 (n + 14) := by
  have f1 : Fr A w (newo A ci n dv) (upL w (nx A) 7) X 1 n := Fr.nwo
  have f2 := ((f1.trans (Fr.nwa (x := zar 0 7) (l := 7))).stn (p := nx A) (f := 79) (v := .ref (nx A + 1)) (Nat.le_refl _)).trans (Fr.nwa (x := zar 0 7) (l := 7))
  exact ((((f2.stn (p := nx A) (f := 80) (v := .ref (nx A + 2)) (Nat.le_refl _)).stn (p := nx A) (f := 81) (v := .int nN) (Nat.le_refl _)).stn (p := nx A) (f := 77) (v := .ref q) (Nat.le_refl _)).stn (p := nx A) (f := 78) (v := .int (nI to)) (Nat.le_refl _)).san (p := nx A + 1) (g := (0, (7, .inl (upd (fun _ => nI 0) 0 x)))) (by omega)
theorem srB_nx : nx (srB A ci n dv) = nx A + 3 := rfl
theorem srB_a1 : ga (srB A ci n dv) (nx A + 1) = some (0, (7, .inl fun _ => nI 0)) := by
  unfold srB
  rw [ga_setf, ga_newa_o (by show nx A + 1 < nx A + 1 + 1; omega), ga_setf]
  exact ga_newa
theorem srB_a2 : ga (srB A ci n dv) (nx A + 2) = some (0, (7, .inl fun _ => nI 0)) := by
  unfold srB
  rw [ga_setf]
  exact ga_newa
theorem srB_f {f : Nat} (h : f ≠ 79 ∧ f ≠ 80) : gf (srB A ci n dv) (nx A) f = dv f := by
  unfold srB
  rw [gf_setf_ne h.2, gf_newa_o (by show nx A < nx A + 1 + 1; omega), gf_setf_ne h.1, gf_newa_o (by show nx A < nx A + 1; omega)]
  exact gf_newo
theorem srB_79 : gf (srB A ci n dv) (nx A) 79 = some (.ref (nx A + 1)) := by
  unfold srB
  rw [gf_setf_ne (by decide), gf_newa_o (by show nx A < nx A + 1 + 1; omega)]
  exact gf_setf_is (by show nx A < nx A + 1 + 1; omega)
theorem srB_80 : gf (srB A ci n dv) (nx A) 80 = some (.ref (nx A + 2)) := by
  unfold srB
  exact gf_setf_is (by show nx A < nx A + 1 + 1 + 1; omega)
theorem srB_c : gc (srB A ci n dv) (nx A) = some ci := by
  unfold srB
  rw [gc_setf, gc_newa_o (by show nx A < nx A + 1 + 1; omega), gc_setf, gc_newa_o (by show nx A < nx A + 1; omega)]
  exact gc_newo
theorem m_227 (h77 : dv 77 = some .null) (h78 : dv 78 = some (.int (nI 0))) (h79 : dv 79 = some .null) (h80 : dv 80 = some .null) (h81 : dv 81 = some (.int (nI 0))) : evG TB (d + 2) 227 [.ref (nx A), .ref q, .int x, .int (nI to)] (newo A ci n dv) = some (.inl none, srH A ci n dv q to x) := by
  have b77 := srB_f (A := A) (ci := ci) (n := n) (dv := dv) (f := 77) (by decide)
  have b78 := srB_f (A := A) (ci := ci) (n := n) (dv := dv) (f := 78) (by decide)
  have b81 := srB_f (A := A) (ci := ci) (n := n) (dv := dv) (f := 81) (by decide)
  have b79 := srB_79 (A := A) (ci := ci) (n := n) (dv := dv)
  have ba1 := srB_a1 (A := A) (ci := ci) (n := n) (dv := dv)
  rw [h77] at b77
  rw [h78] at b78
  rw [h81] at b81
  have hB : setf (newa (setf (newa (newo A ci n dv) (zar 0 7)) (nx A) 79 (.ref (nx A + 1))) (zar 0 7)) (nx A) 80 (.ref (nx A + 2)) = srB A ci n dv := rfl
  have e2 : nx A + 1 + 1 = nx A + 2 := rfl
  have n7 := n_cl (n := 7) (by decide)
  have wr : wrI 0 (some ((0, (7, .inl fun _ => nI 0)) : ArC)) (nI 0) x = some (0, (7, .inl (upd (fun _ => nI 0) 0 x))) := wrI_n (by decide) (by decide)
  unfold srH
  simp (disch := first | omega | (simp (disch := omega) only [nx_setf, nx_seta, nx_newo, nx_newa]; omega)) only [e_227, x_227_0, x_227_1, x_227_4, x_227_5, x_227_7, x_227_9, x_227_12, x_227_13, x_227_15, x_227_17, x_227_20, x_227_21, x_227_22, x_227_25, x_227_26, x_227_27, x_227_30, x_227_31, x_227_32, x_227_35, x_227_36, x_227_39, x_227_40, x_227_41, x_227_42, kv_s, ki_s, kj_s, kd_s, kq_s, kq_n, kq_o, ka_s, kc_r, kc_t, kc0_r, kc0_t, kch_r, kc0h_r, kw_s, kw0_s, kwh_s, kw0h_s, rg_ref, rg_null, rg_rf, ck_t, sel_some, lkn_hd, Option.isSome_some, Bool.true_and, Bool.and_true, okv_i, okv_l, okv_r, okv_n, okv_rf, okv_b, okv_0, okv_1, okv_f, okv_d, c1_i, c1_r, c1_n, c1_rf, c1_f, nI_add, n_mul, n_sub, n_pred, n_eq, n_le, n_lt, n_neN, n_Nne, N_lt, N_le, n_ltN, n_leN, rdI_n, rdJ_n, rdD_n, wrI_n, wrI_z0, wrI_z1, wrI_zb, wrJ_n, wrD_n, aln_s, okn_n, upd_is, upd_ne, Nat.add_zero, Nat.add_sub_cancel, decide_true, decide_false, cond_true, cond_false, if_true, if_false, ite_not, not_true_eq_false, not_false_eq_true, Nat.reduceEqDiff, Nat.reduceAdd, Nat.reduceMul, Nat.reduceSub, Nat.reduceLeDiff, gf_setf_ne, gf_setf_p, gf_setf_is, va_rf_s, va_rf_n, gf_seta, ga_setf, gc_setf, gc_seta, ga_seta_ne, ga_seta_eq, gf_new, gc_new, gf_newo_o, gc_newo_o, ga_newo_o, ga_new, gf_newa_o, gc_newa_o, ga_newa_o, nx_setf, nx_seta, nx_newo, nx_newa, su_setf, su_seta, su_newo, su_newa, sg_setf, sg_seta, sg_newo, sg_newa, okq_n, h79, h80, n7, e2, hB, b77, b78, b79, b81, ba1, wr]
theorem srH_o (hK : ∀ k, K k → dv (81 + k) = some (.int (nI 0))) (k0 : K 0) : SrO (srH A ci n dv q to x) (srW A w) (nx A) ci q to (nx A + 1) (nx A + 2) K (upd (fun _ => nI 0) 0 x) (fun _ => nI 0) (upd (fun _ => nI 0) 0 nN) := by
  have hx : nx A < nx (srB A ci n dv) := by rw [srB_nx]; omega
  unfold srH srW
  refine ⟨?_, ?_, ?_, ?_, ?_, ?_, ?_, ?_, ?_, ?_, fun k hk => ?_, k0, by omega⟩
  · simp (disch := first | omega | (simp (disch := omega) only [nx_setf, nx_seta, nx_newo, nx_newa]; omega)) only [gf_setf_ne, gf_setf_p, gf_setf_is, va_rf_s, va_rf_n, gf_seta, ga_setf, gc_setf, gc_seta, ga_seta_ne, ga_seta_eq, gf_new, gc_new, gf_newo_o, gc_newo_o, ga_newo_o, ga_new, gf_newa_o, gc_newa_o, ga_newa_o, nx_setf, nx_seta, nx_newo, nx_newa, su_setf, su_seta, su_newo, su_newa, sg_setf, sg_seta, sg_newo, sg_newa, okq_n, srB_c]
  · rw [upL_ne (by omega), upL_ne (by omega)]; exact upL_is rfl
  · rw [gf_seta, gf_setf_ne (by decide)]; exact gf_setf_is hx
  · rw [gf_seta]; exact gf_setf_is hx
  · rw [gf_seta, gf_setf_ne (by decide), gf_setf_ne (by decide), gf_setf_ne (by decide)]; exact srB_79
  · rw [gf_seta, gf_setf_ne (by decide), gf_setf_ne (by decide), gf_setf_ne (by decide)]; exact srB_80
  · rw [upL_ne (by omega)]; exact upL_is rfl
  · exact upL_is rfl
  · exact ga_seta_lt (by show nx A + 1 < nx (srB A ci n dv); rw [srB_nx]; omega)
  · rw [ga_seta_ne (by omega), ga_setf, ga_setf, ga_setf]; exact srB_a2
  · have h := hK k hk
    rw [gf_seta, gf_setf_ne (by omega), gf_setf_ne (by omega)]
    by_cases z : k = 0
    · subst z
      rw [upd_is rfl]
      exact gf_setf_is hx
    · rw [gf_setf_ne (by omega), upd_ne z, srB_f (by omega)]
      exact h
theorem SrO.tog (h : SrO A w y ci q to a1 a2 K f1 f2 g) {g' : Nat → Int32} (e : ∀ k, K k → g' k = g k) : SrO A w y ci q to a1 a2 K f1 f2 g' := by
  obtain ⟨h1, h2, h3, h4, h5, h6, h7, h8, h9, h10, h11, h12, h13⟩ := h
  exact ⟨h1, h2, h3, h4, h5, h6, h7, h8, h9, h10, fun k hk => by rw [e k hk]; exact h11 k hk, h12, h13⟩
theorem m_230 (h : SrO A w y ci q to a1 a2 K f1 f2 g) : evG TB (d + 1) 230 [.ref y] A = some (.inl (some (.int (bI (decide (¬ g 0 = nN))))), A) := by
  have g0 := h.gs 0 h.k0
  rw [Nat.add_zero] at g0
  rcases pc (g 0 = nN) with e | e
  · simp (disch := first | omega | (simp (disch := omega) only [nx_setf, nx_seta, nx_newo, nx_newa]; omega)) only [e_230, x_230_0, x_230_1, x_230_4, x_230_5, x_230_8, x_230_9, x_230_12, x_230_13, kv_s, ki_s, kj_s, kd_s, kq_s, kq_n, kq_o, ka_s, kc_r, kc_t, kc0_r, kc0_t, kch_r, kc0h_r, kw_s, kw0_s, kwh_s, kw0h_s, rg_ref, rg_null, rg_rf, ck_t, sel_some, lkn_hd, Option.isSome_some, Bool.true_and, Bool.and_true, okv_i, okv_l, okv_r, okv_n, okv_rf, okv_b, okv_0, okv_1, okv_f, okv_d, c1_i, c1_r, c1_n, c1_rf, c1_f, nI_add, n_mul, n_sub, n_pred, n_eq, n_le, n_lt, n_neN, n_Nne, N_lt, N_le, n_ltN, n_leN, rdI_n, rdJ_n, rdD_n, wrI_n, wrI_z0, wrI_z1, wrI_zb, wrJ_n, wrD_n, aln_s, okn_n, upd_is, upd_ne, Nat.add_zero, Nat.add_sub_cancel, decide_true, decide_false, cond_true, cond_false, if_true, if_false, ite_not, not_true_eq_false, not_false_eq_true, Nat.reduceEqDiff, Nat.reduceAdd, Nat.reduceMul, Nat.reduceSub, Nat.reduceLeDiff, g0, e, not_true_eq_false, decide_false, bI_f]
  · simp (disch := first | omega | (simp (disch := omega) only [nx_setf, nx_seta, nx_newo, nx_newa]; omega)) only [e_230, x_230_0, x_230_1, x_230_4, x_230_5, x_230_8, x_230_9, x_230_12, x_230_13, kv_s, ki_s, kj_s, kd_s, kq_s, kq_n, kq_o, ka_s, kc_r, kc_t, kc0_r, kc0_t, kch_r, kc0h_r, kw_s, kw0_s, kwh_s, kw0h_s, rg_ref, rg_null, rg_rf, ck_t, sel_some, lkn_hd, Option.isSome_some, Bool.true_and, Bool.and_true, okv_i, okv_l, okv_r, okv_n, okv_rf, okv_b, okv_0, okv_1, okv_f, okv_d, c1_i, c1_r, c1_n, c1_rf, c1_f, nI_add, n_mul, n_sub, n_pred, n_eq, n_le, n_lt, n_neN, n_Nne, N_lt, N_le, n_ltN, n_leN, rdI_n, rdJ_n, rdD_n, wrI_n, wrI_z0, wrI_z1, wrI_zb, wrJ_n, wrD_n, aln_s, okn_n, upd_is, upd_ne, Nat.add_zero, Nat.add_sub_cancel, decide_true, decide_false, cond_true, cond_false, if_true, if_false, ite_not, not_true_eq_false, not_false_eq_true, Nat.reduceEqDiff, Nat.reduceAdd, Nat.reduceMul, Nat.reduceSub, Nat.reduceLeDiff, g0, e, not_false_eq_true, decide_true, bI_t]
/-- the search begun and done -/
theorem m_228 (hk : TkS ci K tk) (hci : ci = 15 ∨ ci = 16) (hto : to < 12) (hb : 0 < b) (hG : S 8 = nI G) (hG2 : G ≤ 12) (hR : cS S 9 ≤ 40) (h : SrO A w y ci q to a1 a2 K f1 f2 g) (nt : WNt A w b q S) (ha : f1 0 = nI a) (ha2 : a < 12) (hne : a ≠ to) :
    ∃ A' f1', evG TB (d + 12) 228 [.ref y] A = some (.inl (some (.ref y)), A') ∧ SrO A' w y ci q to a1 a2 K f1' (dfs S G (cS S 9) to (tkN tk) 6 0 (fun _ => nI a) (nI 0) (nI 0) (nI 0) (g, f2)).2 (dfs S G (cS S 9) to (tkN tk) 6 0 (fun _ => nI a) (nI 0) (nI 0) (nI 0) (g, f2)).1 ∧ Fr A w A' w (fun z => z = 7) 0 0 := by
  obtain ⟨A', f1', e1, e2, _, e4⟩ := m_229 (d := d) (w := w) (y := y) (q := q) (to := to) (a1 := a1) (a2 := a2) hk hci hto hb hG hG2 hR 6 0 A (fun _ => nI a) f1 f2 g (nI 0) (nI 0) (nI 0) (nI 0) (2 ^ a) a rfl h nt (fun j hj => by rw [show j = 0 from by omega]; exact ha) (UsO.new ha2 rfl) rfl ha2 hne rfl
  refine ⟨A', f1', ?_, e2, e4⟩
  have f79 := h.f79
  have n1 := h.n1
  have hc := h.c
  have rd : rdI 0 (some ((0, (7, .inl f1)) : ArC)) (nI 0) = some (nI a) := by rw [← ha]; exact rdI_n (by omega) (by omega)
  have sl := n_shl1 ha2
  rcases hci with e | e <;> subst e <;> simp (disch := first | omega | (simp (disch := omega) only [nx_setf, nx_seta, nx_newo, nx_newa]; omega)) only [e_228, x_228_0, x_228_1, x_228_2, x_228_3, x_228_4, x_228_7, x_228_8, x_228_9, x_228_10, x_228_11, x_228_12, x_228_13, x_228_16, x_228_17, kv_s, ki_s, kj_s, kd_s, kq_s, kq_n, kq_o, ka_s, kc_r, kc_t, kc0_r, kc0_t, kch_r, kc0h_r, kw_s, kw0_s, kwh_s, kw0h_s, rg_ref, rg_null, rg_rf, ck_t, sel_some, lkn_hd, Option.isSome_some, Bool.true_and, Bool.and_true, okv_i, okv_l, okv_r, okv_n, okv_rf, okv_b, okv_0, okv_1, okv_f, okv_d, c1_i, c1_r, c1_n, c1_rf, c1_f, nI_add, n_mul, n_sub, n_pred, n_eq, n_le, n_lt, n_neN, n_Nne, N_lt, N_le, n_ltN, n_leN, rdI_n, rdJ_n, rdD_n, wrI_n, wrI_z0, wrI_z1, wrI_zb, wrJ_n, wrD_n, aln_s, okn_n, upd_is, upd_ne, Nat.add_zero, Nat.add_sub_cancel, decide_true, decide_false, cond_true, cond_false, if_true, if_false, ite_not, not_true_eq_false, not_false_eq_true, Nat.reduceEqDiff, Nat.reduceAdd, Nat.reduceMul, Nat.reduceSub, Nat.reduceLeDiff, gf_setf_ne, gf_setf_p, gf_setf_is, va_rf_s, va_rf_n, gf_seta, ga_setf, gc_setf, gc_seta, ga_seta_ne, ga_seta_eq, gf_new, gc_new, gf_newo_o, gc_newo_o, ga_newo_o, ga_new, gf_newa_o, gc_newa_o, ga_newa_o, nx_setf, nx_seta, nx_newo, nx_newa, su_setf, su_seta, su_newo, su_newa, sg_setf, sg_seta, sg_newo, sg_newa, okq_n, f79, n1, rd, sl, hc, lk_b, e1]
end
