/-! the component's routes: searched whole; the least toll -/
section
variable {A A' : Hp} {w w' : Lb} {X : Nat → Prop} {y ci n q to a1 a2 b d c s G R u h r t e sl z : Nat} {p v bl mk : Nat} {K : Nat → Prop} {f1 f2 g f1' f2' : Nat → Int32} {S : Nat → Int32} {tk : Tk} {mi tl ms mc mh x el w0 : Int32}
/-- a route searched -/
theorem m_228r (hb : 0 < b) (hN : NetOK S G (cS S 9)) (hG : S 8 = nI G) (hsl : S 2 = nI sl) (hsl2 : sl ≤ 20) (he : e ≤ 600) (h : SrO A w y 15 q to a1 a2 (fun k => k < 7) (upd (fun _ => nI 0) 0 (nI z)) (fun _ => nI 0) (upd (upd (upd (upd (fun _ => nI 0) 0 nN) 1 (nI e)) 2 (S 2)) 3 (S 3))) (nt : WNt A w b q S) (hz : z < G) (hto : to < G) (hne : z ≠ to) :
    ∃ A' f1' f, evG TB (d + 12) 228 [.ref y] A = some (.inl (some (.ref y)), A') ∧ SrO A' w y 15 q to a1 a2 (fun k => k < 7) f1' f.2 f.1 ∧ RtQ S (nI e) f (bst S G (cS S 9) (nI z) to (nI e)) ∧ Fr A w A' w (fun z => z = 7) 0 0 := by
  have hG2 := hN.G12
  have hR := hN.R40
  obtain ⟨A', f1', e1, e2, e3⟩ := m_228 (d := d) (a := z) tkR_ok (Or.inl rfl) (by omega) hb hG hG2 hR h nt (upd_is rfl) (by omega) hne
  refine ⟨A', f1', _, e1, e2, ?_, e3⟩
  have hw : WyOK G to (nI z) 0 (fun _ => nI z) (nI 0) (nI 0) (nI 0) := ⟨rfl, fun j h0 hj => by omega, ⟨0, rfl, by omega⟩, ⟨0, rfl, by omega⟩, ⟨0, rfl, by omega⟩⟩
  exact dfs_rel (Q := RtQ S (nI e)) (nt := tkN tkR) (nt' := aNote S (nI e)) hN (fun r wy mi tl ms a b hn h => RtQ.nt he hsl hsl2 hn h) 6 0 (fun _ => nI z) (nI 0) (nI 0) (nI 0) _ _ (by omega) hw ⟨⟨rfl, rfl, rfl⟩, Or.inl ⟨rfl, rfl, rfl⟩⟩
theorem m_228c (hb : 0 < b) (hN : NetOK S G (cS S 9)) (hG : S 8 = nI G) (h : SrO A w y 16 q to a1 a2 (fun k => k = 0 ∨ k = 7) (upd (fun _ => nI 0) 0 (nI z)) (fun _ => nI 0) (upd (upd (fun _ => nI 0) 0 nN) 7 nN)) (nt : WNt A w b q S) (hz : z < G) (hto : to < G) (hne : z ≠ to) :
    ∃ A' f1' f, evG TB (d + 12) 228 [.ref y] A = some (.inl (some (.ref y)), A') ∧ SrO A' w y 16 q to a1 a2 (fun k => k = 0 ∨ k = 7) f1' f.2 f.1 ∧ ChQ f (bst S G (cS S 9) (nI z) to el) ∧ Fr A w A' w (fun z => z = 7) 0 0 := by
  have hG2 := hN.G12
  have hR := hN.R40
  obtain ⟨A', f1', e1, e2, e3⟩ := m_228 (d := d) (a := z) tkC_ok (Or.inr rfl) (by omega) hb hG hG2 hR h nt (upd_is rfl) (by omega) hne
  refine ⟨A', f1', _, e1, e2, ?_, e3⟩
  have hw : WyOK G to (nI z) 0 (fun _ => nI z) (nI 0) (nI 0) (nI 0) := ⟨rfl, fun j h0 hj => by omega, ⟨0, rfl, by omega⟩, ⟨0, rfl, by omega⟩, ⟨0, rfl, by omega⟩⟩
  exact dfs_rel (Q := ChQ) (nt := tkN tkC) (nt' := aNote S el) hN (fun r wy mi tl ms a b hn h => ChQ.nt hn h) 6 0 (fun _ => nI z) (nI 0) (nI 0) (nI 0) _ _ (by omega) hw (Or.inl ⟨rfl, rfl⟩)
theorem srW_o (h : y < nx A) : srW A w y = w y := by
  unfold srW
  rw [upL_ne (by omega), upL_ne (by omega), upL_ne (by omega)]
/-- the least toll -/
theorem m_261 (hb : 0 < b) (hN : NetOK S G (cS S 9)) (hG : S 8 = nI G) (nt : WNt A w b q S) (o : WO A w b p q s u v r bl mk w0) (hz : z < G) (hto : to < G) : ∃ A' w', evG TB (d + 13) 261 [.ref p, .int (nI z), .int (nI to)] A = some (.inl (some (.int (ltV z to (bst S G (cS S 9) (nI z) to el).2.2.2.2.1))), A') ∧ ∀ X, X 7 → Fr A w A' w' X 3 20 := by
  have hG2 := hN.G12
  by_cases hne : z = to
  · refine ⟨A, w, ?_, fun X _ => Fr.rf.mono (fun _ h => h) (by decide) (by decide)⟩
    have e0 : (z = to) = True := eq_true hne
    unfold ltV
    rw [if_pos hne]
    simp (disch := first | omega | (simp (disch := omega) only [nx_setf, nx_seta, nx_newo, nx_newa]; omega)) only [e_261, x_261_0, x_261_1, x_261_2, x_261_5, x_261_6, kv_s, ki_s, kj_s, kd_s, kq_s, kq_n, kq_o, ka_s, kc_r, kc_t, kc0_r, kc0_t, kch_r, kc0h_r, kw_s, kw0_s, kwh_s, kw0h_s, rg_ref, rg_null, rg_rf, ck_t, sel_some, lkn_hd, Option.isSome_some, Bool.true_and, Bool.and_true, okv_i, okv_l, okv_r, okv_n, okv_rf, okv_b, okv_0, okv_1, okv_f, okv_d, c1_i, c1_r, c1_n, c1_rf, c1_f, nI_add, n_mul, n_sub, n_pred, n_eq, n_le, n_lt, n_neN, n_Nne, N_lt, N_le, n_ltN, n_leN, rdI_n, rdJ_n, rdD_n, wrI_n, wrI_z0, wrI_z1, wrI_zb, wrJ_n, wrD_n, aln_s, okn_n, upd_is, upd_ne, Nat.add_zero, Nat.add_sub_cancel, decide_true, decide_false, cond_true, cond_false, if_true, if_false, ite_not, not_true_eq_false, not_false_eq_true, Nat.reduceEqDiff, Nat.reduceAdd, Nat.reduceMul, Nat.reduceSub, Nat.reduceLeDiff, e0]
  · have f6 := o.f6
    obtain ⟨A1, e1, s1, fr1⟩ := m_234 (A := A) (w := w) (d := d + 9) (q := q) (to := to) (x := nI z)
    have nt1 := nt.fr (fr1 (fun _ => False)) (fun z => z) (fun z => z) (fun z => z) (fun z => z)
    obtain ⟨A2, f1', f, e2, s2, ch, fr2⟩ := m_228c (d := d) (el := el) hb hN hG s1 nt1 hz hto hne
    have q230 := m_230 (d := d + 11) s2
    have c1 := s1.c
    have c2 := s2.c
    have f88 : gf A2 (nx A) 88 = some (.int (f.1 7)) := s2.gs 7 (by decide)
    have e0 : (z = to) = False := eq_false hne
    have hp := gc_lt o.c
    have f6n : gf (newo A 16 6 dv16) p 6 = some (.ref q) := by rw [gf_newo_o (by omega)]; exact f6
    refine ⟨A2, srW A w, ?_, fun X hX => ((fr1 X).trans (fr2.mono (fun l h => by rw [h]; exact hX) (Nat.le_refl _) (Nat.le_refl _))).mono (fun _ h => h) (by decide) (by decide)⟩
    unfold ltV
    rw [if_neg hne]
    rcases ch with ⟨k0, k1⟩ | ⟨k0, c, lc, k7, k1⟩
    · rw [decide_eq_false (not_not_intro k0), bI_f] at q230
      rw [k1, if_pos rfl]
      simp (disch := first | omega | (simp (disch := omega) only [nx_setf, nx_seta, nx_newo, nx_newa]; omega)) only [e_261, x_261_0, x_261_1, x_261_2, x_261_5, x_261_6, x_261_7, x_261_10, x_261_11, x_261_12, x_261_15, x_261_16, x_261_17, x_261_20, x_261_21, x_261_22, x_261_25, x_261_28, x_261_31, x_261_32, x_261_35, x_261_38, x_261_39, kv_s, ki_s, kj_s, kd_s, kq_s, kq_n, kq_o, ka_s, kc_r, kc_t, kc0_r, kc0_t, kch_r, kc0h_r, kw_s, kw0_s, kwh_s, kw0h_s, rg_ref, rg_null, rg_rf, ck_t, sel_some, lkn_hd, Option.isSome_some, Bool.true_and, Bool.and_true, okv_i, okv_l, okv_r, okv_n, okv_rf, okv_b, okv_0, okv_1, okv_f, okv_d, c1_i, c1_r, c1_n, c1_rf, c1_f, nI_add, n_mul, n_sub, n_pred, n_eq, n_le, n_lt, n_neN, n_Nne, N_lt, N_le, n_ltN, n_leN, rdI_n, rdJ_n, rdD_n, wrI_n, wrI_z0, wrI_z1, wrI_zb, wrJ_n, wrD_n, aln_s, okn_n, upd_is, upd_ne, Nat.add_zero, Nat.add_sub_cancel, decide_true, decide_false, cond_true, cond_false, if_true, if_false, ite_not, not_true_eq_false, not_false_eq_true, Nat.reduceEqDiff, Nat.reduceAdd, Nat.reduceMul, Nat.reduceSub, Nat.reduceLeDiff, e0, f6n, e1, c1, e2, c2, q230, lk_c]
    · rw [decide_eq_true k0, bI_t] at q230
      rw [k1, if_neg (far_ne (by omega)), ← k7]
      simp (disch := first | omega | (simp (disch := omega) only [nx_setf, nx_seta, nx_newo, nx_newa]; omega)) only [e_261, x_261_0, x_261_1, x_261_2, x_261_5, x_261_6, x_261_7, x_261_10, x_261_11, x_261_12, x_261_15, x_261_16, x_261_17, x_261_20, x_261_21, x_261_22, x_261_25, x_261_28, x_261_31, x_261_32, x_261_35, x_261_38, x_261_39, kv_s, ki_s, kj_s, kd_s, kq_s, kq_n, kq_o, ka_s, kc_r, kc_t, kc0_r, kc0_t, kch_r, kc0h_r, kw_s, kw0_s, kwh_s, kw0h_s, rg_ref, rg_null, rg_rf, ck_t, sel_some, lkn_hd, Option.isSome_some, Bool.true_and, Bool.and_true, okv_i, okv_l, okv_r, okv_n, okv_rf, okv_b, okv_0, okv_1, okv_f, okv_d, c1_i, c1_r, c1_n, c1_rf, c1_f, nI_add, n_mul, n_sub, n_pred, n_eq, n_le, n_lt, n_neN, n_Nne, N_lt, N_le, n_ltN, n_leN, rdI_n, rdJ_n, rdD_n, wrI_n, wrI_z0, wrI_z1, wrI_zb, wrJ_n, wrD_n, aln_s, okn_n, upd_is, upd_ne, Nat.add_zero, Nat.add_sub_cancel, decide_true, decide_false, cond_true, cond_false, if_true, if_false, ite_not, not_true_eq_false, not_false_eq_true, Nat.reduceEqDiff, Nat.reduceAdd, Nat.reduceMul, Nat.reduceSub, Nat.reduceLeDiff, e0, f6n, e1, c1, e2, c2, q230, f88]
end
