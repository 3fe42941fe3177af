/-! the component's World.bill and World.due -/
section
variable {A A' B : Hp} {w w' wB : Lb} {X : Nat → Prop} {b p q s a v r bl mk C V R Bn P c N n i g0 tp G D T k e d : Nat} {vO rO acO bO tO : Nat → Nat} {S S' Z f : Nat → Int32} {Ts : Nat → Tp} {t : Tp} {z sz un : Int32}
theorem blL_s {T : Nat → Tp} {v : Nat} {u : Int32} {k c : Nat} : blL T v u (k + 1) c S = if S 13 < nI 60 ∧ lstT S (T c) + S 0 < u then blL T v u k (c + 1) (blT S v (S 13).toNatClampNeg (S 14).toNatClampNeg (T c)) else (c, S) := rfl
theorem blL_0 {T : Nat → Tp} {v : Nat} {u : Int32} {c : Nat} : blL T v u 0 c S = (c, S) := rfl
theorem m_265l (hb : 0 < b) (hi : i < V) (hN : N ≤ 120) {j5 : Option Value} :
    ∀ (k c : Nat) (B : Hp) (wB : Lb) (S : Nat → Int32) (bO : Nat → Nat) (Bn P : Nat), c + k = N → WP B wB b p S q s a v r bl mk vO rO acO bO C V R Bn P → SI S G D C V R Bn P → St B wB g0 → TsB S G R i c N Ts → WL B wB tp 0 N tO → (∀ n, n < N → TpO B wB (tO n) 0 0 rO sz (Ts n)) → S (235 + 3 * i) = sz →
    ∃ B' w' bO' Bn' np, exG TB (d + 15) 265 9 [some (.ref p), some (.int (nI i)), some (.int un), some (.ref tp), some (.int (nI c))] [] B = some (.inl (some (.int (nI (blL Ts i un k c S).1))), B') ∧ WP B' w' b p (blL Ts i un k c S).2 q s a v r bl mk vO rO acO bO' C V R Bn' (P + np) ∧ SI (blL Ts i un k c S).2 G D C V R Bn' (P + np) ∧ Fr B wB B' w' (Xb b) (10 * np) (206 * np) ∧ (blL Ts i un k c S).1 ≤ N
  | 0, c, B, wB, S, bO, Bn, P, hk, h, si, st, ts, wl, tt, hs => by
    have e : c = N := by omega
    subst e
    have q42 := wl.size (d := d + 14)
    have lc := wl.kc
    rw [blL_0]
    refine ⟨B, wB, bO, Bn, 0, ?_, h, si, Fr.rf, Nat.le_refl _⟩
    refine x_265_9.trans ?_
    simp (disch := first | omega | (simp (disch := omega) only [nx_setf, nx_seta, nx_newo, nx_newa]; omega)) only [x_265_11, x_265_12, x_265_15, x_265_18, x_265_19, x_265_22, x_265_25, x_265_27, x_265_30, x_265_31, x_265_32, x_265_34, x_265_37n, x_265_37r, x_265_40, x_265_41, x_265_44, x_265_47, x_265_48, x_265_49, x_265_50, x_265_51, x_265_53, x_265_56n, x_265_56r, x_265_59, x_265_60, x_265_63, x_265_66, x_265_69, x_265_72, x_265_74, kv_s, ki_s, kj_s, kd_s, kq_s, kq_n, kq_o, ka_s, kc_r, kc_t, kc0_r, kc0_t, kch_r, kc0h_r, kw_s, kw0_s, kwh_s, kw0h_s, rg_ref, rg_null, rg_rf, ck_t, sel_some, lkn_hd, Option.isSome_some, Bool.true_and, Bool.and_true, okv_i, okv_l, okv_r, okv_n, okv_rf, okv_b, okv_0, okv_1, okv_f, okv_d, c1_i, c1_r, c1_n, c1_rf, c1_f, nI_add, n_mul, n_sub, n_pred, n_eq, n_le, n_lt, n_neN, n_Nne, N_lt, N_le, n_ltN, n_leN, rdI_n, rdJ_n, rdD_n, wrI_n, wrI_z0, wrI_z1, wrI_zb, wrJ_n, wrD_n, aln_s, okn_n, upd_is, upd_ne, Nat.add_zero, Nat.add_sub_cancel, decide_true, decide_false, cond_true, cond_false, if_true, if_false, ite_not, not_true_eq_false, not_false_eq_true, Nat.reduceEqDiff, Nat.reduceAdd, Nat.reduceMul, Nat.reduceSub, Nat.reduceLeDiff, lc, q42, yle (Nat.le_refl c)]
  | k + 1, c, B, wB, S, bO, Bn, P, hk, h, si, st, ts, wl, tt, hs => by
    have hc : c < N := by omega
    have q42 := wl.size (d := d + 14)
    have lc := wl.kc
    have q47 := wl.get (d := d + 12) hc
    have tb := ts.tb c (Nat.le_refl _) hc
    have tc := tt c hc
    have f12 := h.hO.f12
    have lcb := h.hB.l.kc
    have q42b := h.hB.l.size (d := d + 14)
    have b60 := si.bB
    have c26 : cin (gcs B (tO c)) [26] = true := by rw [gcs_d tc.c]; rfl
    have R120 := si.bR
    have hlr : (Ts c).rs.length ≤ R := by
      have h1 := cN_list (Ts c).rs tb.nd (fun x hx => (tb.rs x hx).1)
      have h2 := cN_le (p := fun j => decide (j ∈ (Ts c).rs)) R
      omega
    have k0 := si.k12
    have P720 := k0.2.2.2.2.2.2.1
    have e14 : (S 14).toNatClampNeg = P := by rw [si.c14]; exact n_cl (by omega)
    have e13 : (S 13).toNatClampNeg = Bn := by rw [si.c13]; exact n_cl (by omega)
    have q266 := m_266 (d := d + 10) (z := un) h.hO h.hS tc tb.ne (by omega) (fun j hj => (h.hR.o j (tb.rs j hj).1).iv)
    have cp := h.hO.c
    rw [blL_s, si.c13, e14]
    by_cases h60 : Bn < 60
    · have h60' : (nI Bn < nI 60) = True := eq_true ((nI_ltI (by omega) (by omega)).mpr h60)
      by_cases he : lstT S (Ts c) + S 0 < un
      · rw [if_pos ⟨of_eq_true h60', he⟩, n_cl (by omega)]
        rw [decide_eq_true he, bI_t] at q266
        have tc' := tc
        rw [← hs] at tc'
        obtain ⟨B1, w1, y, B2, w2, bO2, e1, cp1, e2, wp2, si2, rr, f2⟩ := m_265b (d := d + 6) hb h si st hi tb h60 tc'
        have h0 : ¬ Xb b 0 := by unfold Xb; omega
        have hs2 : blT S i Bn P (Ts c) (235 + 3 * i) = sz := by
          have := (rr.v0 i (by have := si.bV; omega)).1
          rw [this]; exact hs
        obtain ⟨B', w', bO', Bn', np, g1, g2, g3, g4, g5⟩ := m_265l hb hi hN (j5 := j5) k (c + 1) B2 w2 _ bO2 (Bn + 1) (P + (Ts c).ps.length) (by omega) wp2 si2 (st.fr f2 h0) (ts.next hc R120 rr) (wl.fr f2 h0) (fun n hn => (tt n hn).fr f2 h0 h0 h0 h0) hs2
        rw [Nat.add_assoc] at g2 g3
        refine ⟨B', w', bO', Bn', (Ts c).ps.length + np, Eq.trans ?_ g1, g2, g3, (f2.trans g4).mono (fun _ h => h) (by omega) (by omega), g5⟩
        refine x_265_9.trans ?_
        simp (disch := first | omega | (simp (disch := omega) only [nx_setf, nx_seta, nx_newo, nx_newa]; omega)) only [x_265_11, x_265_12, x_265_15, x_265_18, x_265_19, x_265_22, x_265_25, x_265_27, x_265_30, x_265_31, x_265_32, x_265_34, x_265_37n, x_265_37r, x_265_40, x_265_41, x_265_44, x_265_47, x_265_48, x_265_49, x_265_50, x_265_51, x_265_53, x_265_56n, x_265_56r, x_265_59, x_265_60, x_265_63, x_265_66, x_265_69, x_265_72, x_265_74, kv_s, ki_s, kj_s, kd_s, kq_s, kq_n, kq_o, ka_s, kc_r, kc_t, kc0_r, kc0_t, kch_r, kc0h_r, kw_s, kw0_s, kwh_s, kw0h_s, rg_ref, rg_null, rg_rf, ck_t, sel_some, lkn_hd, Option.isSome_some, Bool.true_and, Bool.and_true, okv_i, okv_l, okv_r, okv_n, okv_rf, okv_b, okv_0, okv_1, okv_f, okv_d, c1_i, c1_r, c1_n, c1_rf, c1_f, nI_add, n_mul, n_sub, n_pred, n_eq, n_le, n_lt, n_neN, n_Nne, N_lt, N_le, n_ltN, n_leN, rdI_n, rdJ_n, rdD_n, wrI_n, wrI_z0, wrI_z1, wrI_zb, wrJ_n, wrD_n, aln_s, okn_n, upd_is, upd_ne, Nat.add_zero, Nat.add_sub_cancel, decide_true, decide_false, cond_true, cond_false, if_true, if_false, ite_not, not_true_eq_false, not_false_eq_true, Nat.reduceEqDiff, Nat.reduceAdd, Nat.reduceMul, Nat.reduceSub, Nat.reduceLeDiff, lc, q42, nle hc, f12, lcb, q42b, nle h60, q47, c26, ckT, cp, q266, e1, cp1, e2]
      · rw [if_neg (fun z => he z.2)]
        rw [decide_eq_false he, bI_f] at q266
        refine ⟨B, wB, bO, Bn, 0, ?_, h, si, Fr.rf, Nat.le_of_lt hc⟩
        refine x_265_9.trans ?_
        simp (disch := first | omega | (simp (disch := omega) only [nx_setf, nx_seta, nx_newo, nx_newa]; omega)) only [x_265_11, x_265_12, x_265_15, x_265_18, x_265_19, x_265_22, x_265_25, x_265_27, x_265_30, x_265_31, x_265_32, x_265_34, x_265_37n, x_265_37r, x_265_40, x_265_41, x_265_44, x_265_47, x_265_48, x_265_49, x_265_50, x_265_51, x_265_53, x_265_56n, x_265_56r, x_265_59, x_265_60, x_265_63, x_265_66, x_265_69, x_265_72, x_265_74, kv_s, ki_s, kj_s, kd_s, kq_s, kq_n, kq_o, ka_s, kc_r, kc_t, kc0_r, kc0_t, kch_r, kc0h_r, kw_s, kw0_s, kwh_s, kw0h_s, rg_ref, rg_null, rg_rf, ck_t, sel_some, lkn_hd, Option.isSome_some, Bool.true_and, Bool.and_true, okv_i, okv_l, okv_r, okv_n, okv_rf, okv_b, okv_0, okv_1, okv_f, okv_d, c1_i, c1_r, c1_n, c1_rf, c1_f, nI_add, n_mul, n_sub, n_pred, n_eq, n_le, n_lt, n_neN, n_Nne, N_lt, N_le, n_ltN, n_leN, rdI_n, rdJ_n, rdD_n, wrI_n, wrI_z0, wrI_z1, wrI_zb, wrJ_n, wrD_n, aln_s, okn_n, upd_is, upd_ne, Nat.add_zero, Nat.add_sub_cancel, decide_true, decide_false, cond_true, cond_false, if_true, if_false, ite_not, not_true_eq_false, not_false_eq_true, Nat.reduceEqDiff, Nat.reduceAdd, Nat.reduceMul, Nat.reduceSub, Nat.reduceLeDiff, lc, q42, nle hc, f12, lcb, q42b, nle h60, q47, c26, ckT, cp, q266]
    · have h60' : ¬ nI Bn < nI 60 := fun z => h60 ((nI_ltI (by omega) (by omega)).mp z)
      rw [if_neg (fun z => h60' z.1)]
      refine ⟨B, wB, bO, Bn, 0, ?_, h, si, Fr.rf, Nat.le_of_lt hc⟩
      refine x_265_9.trans ?_
      simp (disch := first | omega | (simp (disch := omega) only [nx_setf, nx_seta, nx_newo, nx_newa]; omega)) only [x_265_11, x_265_12, x_265_15, x_265_18, x_265_19, x_265_22, x_265_25, x_265_27, x_265_30, x_265_31, x_265_32, x_265_34, x_265_37n, x_265_37r, x_265_40, x_265_41, x_265_44, x_265_47, x_265_48, x_265_49, x_265_50, x_265_51, x_265_53, x_265_56n, x_265_56r, x_265_59, x_265_60, x_265_63, x_265_66, x_265_69, x_265_72, x_265_74, kv_s, ki_s, kj_s, kd_s, kq_s, kq_n, kq_o, ka_s, kc_r, kc_t, kc0_r, kc0_t, kch_r, kc0h_r, kw_s, kw0_s, kwh_s, kw0h_s, rg_ref, rg_null, rg_rf, ck_t, sel_some, lkn_hd, Option.isSome_some, Bool.true_and, Bool.and_true, okv_i, okv_l, okv_r, okv_n, okv_rf, okv_b, okv_0, okv_1, okv_f, okv_d, c1_i, c1_r, c1_n, c1_rf, c1_f, nI_add, n_mul, n_sub, n_pred, n_eq, n_le, n_lt, n_neN, n_Nne, N_lt, N_le, n_ltN, n_leN, rdI_n, rdJ_n, rdD_n, wrI_n, wrI_z0, wrI_z1, wrI_zb, wrJ_n, wrD_n, aln_s, okn_n, upd_is, upd_ne, Nat.add_zero, Nat.add_sub_cancel, decide_true, decide_false, cond_true, cond_false, if_true, if_false, ite_not, not_true_eq_false, not_false_eq_true, Nat.reduceEqDiff, Nat.reduceAdd, Nat.reduceMul, Nat.reduceSub, Nat.reduceLeDiff, lc, q42, nle hc, f12, lcb, q42b, yle (show 60 ≤ Bn by omega)]
theorem Xb_1 {l : Nat} (h : l < 1000 * b + 8 ∨ 1000 * b + 220 ≤ l) (h7 : l ≠ 7) : ¬ Xb b l := by unfold Xb; omega
/-- a vehicle's trips are billed -/
theorem m_265 (hb : 0 < b) (h : WP A w b p S q s a v r bl mk vO rO acO bO C V R Bn P) (si : SI S G D C V R Bn P) (st : St A w g0) (hi : i < V) :
    ∃ A' w' bO' Bn' np, evG TB (d + 16) 265 [.ref p, .int (nI i), .int un] A = some (.inl (some (.int (nI (blO S G D R i un).1))), A') ∧ WP A' w' b p (blO S G D R i un).2 q s a v r bl mk vO rO acO bO' C V R Bn' (P + np) ∧ SI (blO S G D R i un).2 G D C V R Bn' (P + np) ∧ (blO S G D R i un).1 ≤ 120 ∧ Fr A w A' w' (Xb b) (6 + 27 * R + 10 * np) (25 + 7 * R + R * (155 + 76 * R) + 206 * np) := by
  have R120 := si.bR
  have ok := si.ly
  obtain ⟨A1, w1, tp, tO, e1, wl, tt, f1⟩ := m_264 (d := d) hb ok h.hO h.hN h.hS h.hR h.hV st hi
  have fF := f1 (fun l => l = 7) rfl
  have wp1 := h.fr fF (fun l hl => by omega) (by omega)
  have om := ordL_ok' S (nI i) R
  have hN : (tps S G D R (nI i)).1 ≤ 120 := by
    have h1 := (lay_b ok (fun x hx => ((om.mem x).mp hx).1) om.srt).1
    have h2 := om.len
    show (lay S G D (ordL S (nI i) R)).1 ≤ 120
    omega
  obtain ⟨A2, w2, bO', Bn', np, e2, wp2, si2, f2, hle⟩ := m_265l (d := d) (un := un) (j5 := none) hb hi hN (tps S G D R (nI i)).1 0 A1 w1 S bO Bn P (Nat.zero_add _) wp1 si (st.fr fF (by omega)) (si.tsb hi) wl tt rfl
  have cp := h.hO.c
  refine ⟨A2, w2, bO', Bn', np, ?_, wp2, si2, Nat.le_trans hle hN, ((fF.mono (fun l h => Or.inl h) (Nat.le_refl _) (Nat.le_refl _)).trans f2).mono (fun _ h => h) (by omega) (by omega)⟩
  simp (disch := first | omega | (simp (disch := omega) only [nx_setf, nx_seta, nx_newo, nx_newa]; omega)) only [e_265, x_265_0, x_265_1, x_265_2, x_265_5, x_265_6, x_265_7, kv_s, ki_s, kj_s, kd_s, kq_s, kq_n, kq_o, ka_s, kc_r, kc_t, kc0_r, kc0_t, kch_r, kc0h_r, kw_s, kw0_s, kwh_s, kw0h_s, rg_ref, rg_null, rg_rf, ck_t, sel_some, lkn_hd, Option.isSome_some, Bool.true_and, Bool.and_true, okv_i, okv_l, okv_r, okv_n, okv_rf, okv_b, okv_0, okv_1, okv_f, okv_d, c1_i, c1_r, c1_n, c1_rf, c1_f, nI_add, n_mul, n_sub, n_pred, n_eq, n_le, n_lt, n_neN, n_Nne, N_lt, N_le, n_ltN, n_leN, rdI_n, rdJ_n, rdD_n, wrI_n, wrI_z0, wrI_z1, wrI_zb, wrJ_n, wrD_n, aln_s, okn_n, upd_is, upd_ne, Nat.add_zero, Nat.add_sub_cancel, decide_true, decide_false, cond_true, cond_false, if_true, if_false, ite_not, not_true_eq_false, not_false_eq_true, Nat.reduceEqDiff, Nat.reduceAdd, Nat.reduceMul, Nat.reduceSub, Nat.reduceLeDiff, cp, e1]
  exact e2
end
