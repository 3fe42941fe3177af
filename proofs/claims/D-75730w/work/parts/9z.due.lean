/-! the component's World.due -/
section
variable {A A' B : Hp} {w w' wB : Lb} {X : Nat → Prop} {b p q s a v r bl mk C V R Bn P c N n i g0 tp G D T k e d : Nat} {vO rO acO bO tO : Nat → Nat} {S S' Z f : Nat → Int32} {Ts : Nat → Tp} {t : Tp} {z sz un : Int32}
theorem dueL_s {T : Nat → Tp} {v : Nat} {u z : Int32} {k c : Nat} : dueL S T v u (k + 1) c z = if S 13 + nI c < nI 60 ∧ lstT S (T c) + S 0 < u then dueL S T v u k (c + 1) (z + amtV S v (T c) (prcV S v (gotV S v + nI c))) else z := rfl
theorem dueL_0 {T : Nat → Tp} {v : Nat} {u z : Int32} {c : Nat} : dueL S T v u 0 c z = z := rfl
theorem m_272l (hb : 0 < b) (hi : i < V) (hN : N ≤ 120) (si : SI S G D C V R Bn P) (ts : TsB S G R i 0 N Ts) :
    ∀ (k c : Nat) (B : Hp) (wB : Lb) (sm : Int32) , c + k = N → WP B wB b p S q s a v r bl mk vO rO acO bO C V R Bn P → WL B wB tp 0 N tO → (∀ n, n < N → TpO B wB (tO n) 0 0 rO (S (235 + 3 * i)) (Ts n)) →
    ∃ B' w', exG TB (d + 15) 272 12 [some (.ref p), some (.int (nI i)), some (.int un), some (.ref tp), some (.int sm), some (.int (nI c))] [] B = some (.inl (some (.int (dueL S Ts i un k c sm))), B') ∧ Fr B wB B' w' (fun l => l = 7) (2 * k) (18 * k)
  | 0, c, B, wB, sm, hk, h, wl, tt => by
    have e : c = N := by omega
    subst e
    have q42 := wl.size (d := d + 14)
    have lc := wl.kc
    rw [dueL_0]
    refine ⟨B, wB, ?_, Fr.rf⟩
    refine x_272_12.trans ?_
    simp (disch := first | omega | (simp (disch := omega) only [nx_setf, nx_seta, nx_newo, nx_newa]; omega)) only [x_272_14, x_272_15, x_272_18, x_272_21, x_272_22, x_272_25, x_272_28, x_272_30, x_272_31, x_272_33, x_272_36, x_272_37, x_272_38, x_272_40, x_272_43n, x_272_43r, x_272_46, x_272_47, x_272_50, x_272_53, x_272_55, x_272_56, x_272_57, x_272_58, x_272_60, x_272_63n, x_272_63r, x_272_66, x_272_68, x_272_71, x_272_74, x_272_75, x_272_77, x_272_80, x_272_83, x_272_85, kv_s, ki_s, kj_s, kd_s, kq_s, kq_n, kq_o, ka_s, kc_r, kc_t, kc0_r, kc0_t, kch_r, kc0h_r, kw_s, kw0_s, kwh_s, kw0h_s, rg_ref, rg_null, rg_rf, ck_t, sel_some, lkn_hd, Option.isSome_some, Bool.true_and, Bool.and_true, okv_i, okv_l, okv_r, okv_n, okv_rf, okv_b, okv_0, okv_1, okv_f, okv_d, c1_i, c1_r, c1_n, c1_rf, c1_f, nI_add, n_mul, n_sub, n_pred, n_eq, n_le, n_lt, n_neN, n_Nne, N_lt, N_le, n_ltN, n_leN, rdI_n, rdJ_n, rdD_n, wrI_n, wrI_z0, wrI_z1, wrI_zb, wrJ_n, wrD_n, aln_s, okn_n, upd_is, upd_ne, Nat.add_zero, Nat.add_sub_cancel, decide_true, decide_false, cond_true, cond_false, if_true, if_false, ite_not, not_true_eq_false, not_false_eq_true, Nat.reduceEqDiff, Nat.reduceAdd, Nat.reduceMul, Nat.reduceSub, Nat.reduceLeDiff, lc, q42, yle (Nat.le_refl c)]
  | k + 1, c, B, wB, sm, hk, h, wl, tt => by
    have hc : c < N := by omega
    have q42 := wl.size (d := d + 14)
    have lc := wl.kc
    have q47 := wl.get (d := d + 12) hc
    have tb := ts.tb c (Nat.zero_le _) hc
    have tc := tt c hc
    have f12 := h.hO.f12
    have lcb := h.hB.l.kc
    have q42b := h.hB.l.size (d := d + 14)
    have b60 := si.bB
    have c26 : cin (gcs B (tO c)) [26] = true := by rw [gcs_d tc.c]; rfl
    have R120 := si.bR
    have hlr : (Ts c).rs.length ≤ R := by
      have h1 := cN_list (Ts c).rs tb.nd (fun x hx => (tb.rs x hx).1)
      have h2 := cN_le (p := fun j => decide (j ∈ (Ts c).rs)) R
      omega
    have ivs : ∀ j, j ∈ (Ts c).rs → IV B (rO j) 17 89 8 (rdFn S j) := fun j hj => (h.hR.o j (tb.rs j hj).1).iv
    have q266 := m_266 (d := d + 10) (z := un) h.hO h.hS tc tb.ne (by omega) ivs
    have cp := h.hO.c
    rw [dueL_s, si.c13, nI_add]
    by_cases h60 : Bn + c < 60
    · have h60' : nI (Bn + c) < nI 60 := (nI_ltI (by omega) (by omega)).mpr h60
      by_cases he : lstT S (Ts c) + S 0 < un
      · rw [if_pos ⟨h60', he⟩]
        rw [decide_eq_true he, bI_t] at q266
        obtain ⟨rg1, rk1⟩ := si.rk (l := (Ts c).rs) (fun x hx => (tb.rs x hx).1)
        obtain ⟨B1, w1, y, e1, y1, f1⟩ := m_267 (d := d + 8) (D := 0) (z := nI c) h.hO h.hS h.hV h.hA hi ((si.vh i hi).2) tc (by omega) ivs rk1 7
        have fF := f1 (fun l => l = 7) rfl
        have y135 : gf B1 y 135 = some (.int (amtV S i (Ts c) (prcV S i (gotV S i + nI c)))) := y1.gs 2 (by decide) (by decide)
        obtain ⟨B', w', g1, g2⟩ := m_272l hb hi hN si ts k (c + 1) B1 w1 (sm + amtV S i (Ts c) (prcV S i (gotV S i + nI c))) (by omega) (h.fr fF (fun l hl => by omega) (by omega)) (wl.fr fF (by omega)) (fun n hn => (tt n hn).fr fF (by omega) (by omega) (by omega) (by omega))
        refine ⟨B', w', Eq.trans ?_ g1, (fF.trans g2).mono (fun _ h => h) (by omega) (by omega)⟩
        refine x_272_12.trans ?_
        simp (disch := first | omega | (simp (disch := omega) only [nx_setf, nx_seta, nx_newo, nx_newa]; omega)) only [x_272_14, x_272_15, x_272_18, x_272_21, x_272_22, x_272_25, x_272_28, x_272_30, x_272_31, x_272_33, x_272_36, x_272_37, x_272_38, x_272_40, x_272_43n, x_272_43r, x_272_46, x_272_47, x_272_50, x_272_53, x_272_55, x_272_56, x_272_57, x_272_58, x_272_60, x_272_63n, x_272_63r, x_272_66, x_272_68, x_272_71, x_272_74, x_272_75, x_272_77, x_272_80, x_272_83, x_272_85, kv_s, ki_s, kj_s, kd_s, kq_s, kq_n, kq_o, ka_s, kc_r, kc_t, kc0_r, kc0_t, kch_r, kc0h_r, kw_s, kw0_s, kwh_s, kw0h_s, rg_ref, rg_null, rg_rf, ck_t, sel_some, lkn_hd, Option.isSome_some, Bool.true_and, Bool.and_true, okv_i, okv_l, okv_r, okv_n, okv_rf, okv_b, okv_0, okv_1, okv_f, okv_d, c1_i, c1_r, c1_n, c1_rf, c1_f, nI_add, n_mul, n_sub, n_pred, n_eq, n_le, n_lt, n_neN, n_Nne, N_lt, N_le, n_ltN, n_leN, rdI_n, rdJ_n, rdD_n, wrI_n, wrI_z0, wrI_z1, wrI_zb, wrJ_n, wrD_n, aln_s, okn_n, upd_is, upd_ne, Nat.add_zero, Nat.add_sub_cancel, decide_true, decide_false, cond_true, cond_false, if_true, if_false, ite_not, not_true_eq_false, not_false_eq_true, Nat.reduceEqDiff, Nat.reduceAdd, Nat.reduceMul, Nat.reduceSub, Nat.reduceLeDiff, lc, q42, nle hc, f12, lcb, q42b, nle h60, q47, c26, ckT, cp, q266, e1, y135]
      · rw [if_neg (fun z => he z.2)]
        rw [decide_eq_false he, bI_f] at q266
        refine ⟨B, wB, ?_, Fr.rf.mono (fun _ h => h) (by omega) (by omega)⟩
        refine x_272_12.trans ?_
        simp (disch := first | omega | (simp (disch := omega) only [nx_setf, nx_seta, nx_newo, nx_newa]; omega)) only [x_272_14, x_272_15, x_272_18, x_272_21, x_272_22, x_272_25, x_272_28, x_272_30, x_272_31, x_272_33, x_272_36, x_272_37, x_272_38, x_272_40, x_272_43n, x_272_43r, x_272_46, x_272_47, x_272_50, x_272_53, x_272_55, x_272_56, x_272_57, x_272_58, x_272_60, x_272_63n, x_272_63r, x_272_66, x_272_68, x_272_71, x_272_74, x_272_75, x_272_77, x_272_80, x_272_83, x_272_85, kv_s, ki_s, kj_s, kd_s, kq_s, kq_n, kq_o, ka_s, kc_r, kc_t, kc0_r, kc0_t, kch_r, kc0h_r, kw_s, kw0_s, kwh_s, kw0h_s, rg_ref, rg_null, rg_rf, ck_t, sel_some, lkn_hd, Option.isSome_some, Bool.true_and, Bool.and_true, okv_i, okv_l, okv_r, okv_n, okv_rf, okv_b, okv_0, okv_1, okv_f, okv_d, c1_i, c1_r, c1_n, c1_rf, c1_f, nI_add, n_mul, n_sub, n_pred, n_eq, n_le, n_lt, n_neN, n_Nne, N_lt, N_le, n_ltN, n_leN, rdI_n, rdJ_n, rdD_n, wrI_n, wrI_z0, wrI_z1, wrI_zb, wrJ_n, wrD_n, aln_s, okn_n, upd_is, upd_ne, Nat.add_zero, Nat.add_sub_cancel, decide_true, decide_false, cond_true, cond_false, if_true, if_false, ite_not, not_true_eq_false, not_false_eq_true, Nat.reduceEqDiff, Nat.reduceAdd, Nat.reduceMul, Nat.reduceSub, Nat.reduceLeDiff, lc, q42, nle hc, f12, lcb, q42b, nle h60, q47, c26, ckT, cp, q266]
    · have h60' : ¬ nI (Bn + c) < nI 60 := fun z => h60 ((nI_ltI (by omega) (by omega)).mp z)
      rw [if_neg (fun z => h60' z.1)]
      refine ⟨B, wB, ?_, Fr.rf.mono (fun _ h => h) (by omega) (by omega)⟩
      refine x_272_12.trans ?_
      simp (disch := first | omega | (simp (disch := omega) only [nx_setf, nx_seta, nx_newo, nx_newa]; omega)) only [x_272_14, x_272_15, x_272_18, x_272_21, x_272_22, x_272_25, x_272_28, x_272_30, x_272_31, x_272_33, x_272_36, x_272_37, x_272_38, x_272_40, x_272_43n, x_272_43r, x_272_46, x_272_47, x_272_50, x_272_53, x_272_55, x_272_56, x_272_57, x_272_58, x_272_60, x_272_63n, x_272_63r, x_272_66, x_272_68, x_272_71, x_272_74, x_272_75, x_272_77, x_272_80, x_272_83, x_272_85, kv_s, ki_s, kj_s, kd_s, kq_s, kq_n, kq_o, ka_s, kc_r, kc_t, kc0_r, kc0_t, kch_r, kc0h_r, kw_s, kw0_s, kwh_s, kw0h_s, rg_ref, rg_null, rg_rf, ck_t, sel_some, lkn_hd, Option.isSome_some, Bool.true_and, Bool.and_true, okv_i, okv_l, okv_r, okv_n, okv_rf, okv_b, okv_0, okv_1, okv_f, okv_d, c1_i, c1_r, c1_n, c1_rf, c1_f, nI_add, n_mul, n_sub, n_pred, n_eq, n_le, n_lt, n_neN, n_Nne, N_lt, N_le, n_ltN, n_leN, rdI_n, rdJ_n, rdD_n, wrI_n, wrI_z0, wrI_z1, wrI_zb, wrJ_n, wrD_n, aln_s, okn_n, upd_is, upd_ne, Nat.add_zero, Nat.add_sub_cancel, decide_true, decide_false, cond_true, cond_false, if_true, if_false, ite_not, not_true_eq_false, not_false_eq_true, Nat.reduceEqDiff, Nat.reduceAdd, Nat.reduceMul, Nat.reduceSub, Nat.reduceLeDiff, lc, q42, nle hc, f12, lcb, q42b, yle (show 60 ≤ Bn + c by omega)]
/-- what is due -/
theorem m_272 (hb : 0 < b) (h : WP A w b p S q s a v r bl mk vO rO acO bO C V R Bn P) (si : SI S G D C V R Bn P) (st : St A w g0) (hi : i < V) :
    ∃ A' w', evG TB (d + 16) 272 [.ref p, .int (nI i), .int un] A = some (.inl (some (.int (dueV S G D R i un))), A') ∧ Fr A w A' w' (fun l => l = 7) (6 + 29 * R) (25 + 25 * R + R * (155 + 76 * R)) := by
  have R120 := si.bR
  have ok := si.ly
  obtain ⟨A1, w1, tp, tO, e1, wl, tt, f1⟩ := m_264 (d := d) hb ok h.hO h.hN h.hS h.hR h.hV st hi
  have fF := f1 (fun l => l = 7) rfl
  have wp1 := h.fr fF (fun l hl => by omega) (by omega)
  have om := ordL_ok' S (nI i) R
  have hN1 : (tps S G D R (nI i)).1 ≤ R := by
    have h1 := (lay_b ok (fun x hx => ((om.mem x).mp hx).1) om.srt).1
    have h2 := om.len
    show (lay S G D (ordL S (nI i) R)).1 ≤ R
    omega
  obtain ⟨A2, w2, e2, f2⟩ := m_272l (d := d) (un := un) hb hi (by omega) si (si.tsb hi) (tps S G D R (nI i)).1 0 A1 w1 (nI 0) (Nat.zero_add _) wp1 wl tt
  have cp := h.hO.c
  refine ⟨A2, w2, ?_, (fF.trans f2).mono (fun _ h => h) (by omega) (by omega)⟩
  simp (disch := first | omega | (simp (disch := omega) only [nx_setf, nx_seta, nx_newo, nx_newa]; omega)) only [e_272, x_272_0, x_272_1, x_272_2, x_272_5, x_272_6, x_272_7, x_272_9, x_272_10, kv_s, ki_s, kj_s, kd_s, kq_s, kq_n, kq_o, ka_s, kc_r, kc_t, kc0_r, kc0_t, kch_r, kc0h_r, kw_s, kw0_s, kwh_s, kw0h_s, rg_ref, rg_null, rg_rf, ck_t, sel_some, lkn_hd, Option.isSome_some, Bool.true_and, Bool.and_true, okv_i, okv_l, okv_r, okv_n, okv_rf, okv_b, okv_0, okv_1, okv_f, okv_d, c1_i, c1_r, c1_n, c1_rf, c1_f, nI_add, n_mul, n_sub, n_pred, n_eq, n_le, n_lt, n_neN, n_Nne, N_lt, N_le, n_ltN, n_leN, rdI_n, rdJ_n, rdD_n, wrI_n, wrI_z0, wrI_z1, wrI_zb, wrJ_n, wrD_n, aln_s, okn_n, upd_is, upd_ne, Nat.add_zero, Nat.add_sub_cancel, decide_true, decide_false, cond_true, cond_false, if_true, if_false, ite_not, not_true_eq_false, not_false_eq_true, Nat.reduceEqDiff, Nat.reduceAdd, Nat.reduceMul, Nat.reduceSub, Nat.reduceLeDiff, cp, e1]
  exact e2
end
