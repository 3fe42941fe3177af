/-! the component's World.dispute, whole -/
section
variable {A A' B : Hp} {w w' wB : Lb} {X : Nat → Prop} {b p q s a v r bl mk C V R Bn P n i g0 G D T k e : Nat} {vO rO acO bO : Nat → Nat} {S S' Z f : Nat → Int32} {t : Tp} {z x : Int32}
theorem i32_sub0 {a : Int32} : a - nI 0 = a := Int32.sub_zero a
theorem i32_add0 {a : Int32} : a + nI 0 = a := Int32.add_zero a
theorem upd_slf {k : Nat} (h : z = S k) : upd S k z = S := upd_self h.symm
theorem m_273 {d : Nat} (hb : 0 < b) (h : WP A w b p S q s a v r bl mk vO rO acO bO C V R Bn P) (si : SI S G D C V R Bn P) (hi : i < Bn) (hn : n < 3) :
    ∃ A' w', evG TB (d + 16) 273 [.ref p, .ref (bO i), .int (nI n)] A = some (.inl (some (.int (rfW S G D R i n))), A') ∧ WP A' w' b p (dsS S i (rfW S G D R i n)) q s a v r bl mk vO rO acO bO C V R Bn P ∧ SI (dsS S i (rfW S G D R i n)) G D C V R Bn P ∧ Fr A w A' w' (fun l => l = 7 ∨ (1000 * b + 20 ≤ l ∧ l < 1000 * b + 360)) 4 28 := by
  have B60 := si.bB
  have V15 := si.bV
  have C8 := si.bC
  have D40 := si.net.R40
  obtain ⟨k8, k9, k10, k11, k12, k13, kP, k14⟩ := si.k12
  obtain ⟨A1, w1, c, e1, f1, c1, c2⟩ := m_274 (d := d) hb h si hi hn
  rw [c2] at e1 ⊢
  have fF := f1 (fun l => l = 7) rfl
  have wp1 := h.fr fF (fun l hl => by omega) (by omega)
  obtain ⟨T, t, aO, o1, o2, o3, o4⟩ := wp1.hB.o i hi
  obtain ⟨vv, v1, v2⟩ := o4.v
  have hac := o4.ac
  rw [k11] at v1
  rw [k10] at hac
  have nv : (S (1120 + 18 * i)).toNatClampNeg = vv := by rw [v2]; exact n_cl (by omega)
  obtain ⟨wp2, si2, fr2, g141, g142⟩ := wp1.di si hi (if c = 0 then nI 2 else nI 1) (nI c)
  have cp := h.hO.c
  have cp1 := wp1.hO.c
  have cp2 := wp2.hO.c
  have f12 := (fF.mono (Y := fun l => l = 7 ∨ (1000 * b + 20 ≤ l ∧ l < 1000 * b + 360)) (fun l h => Or.inl h) (Nat.le_refl _) (Nat.le_refl _)).trans (fr2.mono (fun l h => Or.inr (by omega)) (Nat.le_refl _) (Nat.le_refl _))
  have hif : (if nI c = nI 0 then nI 2 else nI 1 : Int32) = if c = 0 then nI 2 else nI 1 := by
    by_cases z : c = 0
    · rw [if_pos (by rw [z]), if_pos z]
    · rw [if_neg (fun q => z ((nI_eq (by omega) (by omega)).mp q)), if_neg z]
  generalize hS1 : upd (upd S (1120 + 18 * i + 11) (if c = 0 then nI 2 else nI 1)) (1120 + 18 * i + 12) (nI c) = S1 at wp2 si2
  have s1o : ∀ j, j < 1120 → S1 j = S j := fun j hj => by rw [← hS1, upd_ne (by omega), upd_ne (by omega)]
  have hD : dsS S i (nI c) = if S (1120 + 18 * i + 1) = nN then upd S1 (235 + 3 * vv + 2) (S (235 + 3 * vv + 2) - nI c) else upd (upd S1 (187 + 6 * (S (1120 + 18 * i + 1)).toNatClampNeg) (S (187 + 6 * (S (1120 + 18 * i + 1)).toNatClampNeg) + nI c)) (187 + 6 * (S (1120 + 18 * i + 1)).toNatClampNeg + 5) (S (187 + 6 * (S (1120 + 18 * i + 1)).toNatClampNeg + 5) + nI c) := by
    unfold dsS
    rw [hif, nv, ← hS1]
  rw [hD]
  -- the bill's account, read after it was noted
  have y134 : gf (setf (setf A1 (bO i) 141 (.int (if c = 0 then nI 2 else nI 1))) (bO i) 142 (.int (nI c))) (bO i) 134 = some (.int (S (1120 + 18 * i + 1))) := by
    rw [gf_setf_ne (by decide), gf_setf_ne (by decide)]
    exact o1.gs 1 (by decide) (by decide)
  have y133 : gf (setf (setf A1 (bO i) 141 (.int (if c = 0 then nI 2 else nI 1))) (bO i) 142 (.int (nI c))) (bO i) 133 = some (.int (nI vv)) := by
    rw [gf_setf_ne (by decide), gf_setf_ne (by decide), ← v2]
    exact o1.gs 0 (by decide) (by decide)
  have ly : bO i < nx (setf (setf A1 (bO i) 141 (.int (if c = 0 then nI 2 else nI 1))) (bO i) 142 (.int (nI c))) := (gf_spec y134).1
  by_cases c0 : c = 0
  · -- nothing is refunded
    subst c0
    rw [if_pos rfl] at *
    rcases hac with hac | ⟨ac, a1, a2⟩
    · rw [if_pos hac, i32_sub0, upd_slf (s1o _ (by omega)).symm]
      rw [hac] at y134
      have q268 := m_268n (A := setf (setf A1 (bO i) 141 (.int (nI 2))) (bO i) 142 (.int (nI 0))) (p := p) (d := d + 14)
      refine ⟨_, _, ?_, wp2, si2, f12.mono (fun _ h => h) (by decide) (by decide)⟩
      simp (disch := first | omega | (simp (disch := omega) only [nx_setf, nx_seta, nx_newo, nx_newa]; omega)) only [e_273, x_273_0, x_273_1, x_273_2, x_273_3, x_273_6, x_273_7, x_273_8, x_273_9, x_273_12, x_273_13, x_273_16, x_273_17, x_273_20, x_273_21, x_273_22, x_273_25, x_273_26, x_273_27, x_273_30, x_273_33, x_273_35, x_273_36, x_273_39, x_273_40, x_273_41, x_273_43, x_273_44n, x_273_44, x_273_47, x_273_50, x_273_52, x_273_53, x_273_56, x_273_57, x_273_60, x_273_63n, x_273_63r, x_273_66, x_273_67, x_273_70, x_273_71, x_273_72, x_273_75, x_273_76, kv_s, ki_s, kj_s, kd_s, kq_s, kq_n, kq_o, ka_s, kc_r, kc_t, kc0_r, kc0_t, kch_r, kc0h_r, kw_s, kw0_s, kwh_s, kw0h_s, rg_ref, rg_null, rg_rf, ck_t, sel_some, lkn_hd, Option.isSome_some, Bool.true_and, Bool.and_true, okv_i, okv_l, okv_r, okv_n, okv_rf, okv_b, okv_0, okv_1, okv_f, okv_d, c1_i, c1_r, c1_n, c1_rf, c1_f, nI_add, n_mul, n_sub, n_pred, n_eq, n_le, n_lt, n_neN, n_Nne, N_lt, N_le, n_ltN, n_leN, rdI_n, rdJ_n, rdD_n, wrI_n, wrI_z0, wrI_z1, wrI_zb, wrJ_n, wrD_n, aln_s, okn_n, upd_is, upd_ne, Nat.add_zero, Nat.add_sub_cancel, decide_true, decide_false, cond_true, cond_false, if_true, if_false, ite_not, not_true_eq_false, not_false_eq_true, Nat.reduceEqDiff, Nat.reduceAdd, Nat.reduceMul, Nat.reduceSub, Nat.reduceLeDiff, cp, e1, Nat.le_refl, g141, g142, y134, cp2, q268]
    · have an : (S (1120 + 18 * i + 1)).toNatClampNeg = ac := by rw [a2]; exact n_cl (by omega)
      rw [if_neg (by rw [a2]; exact of_eq_false (n_neN (by omega))), an, i32_add0, i32_add0, upd_slf (S := S1) (s1o _ (by omega)).symm, upd_slf (s1o _ (by omega)).symm]
      rw [a2] at y134
      have q268 := m_268 (d := d + 14) wp2.hA wp2.hO a1
      refine ⟨_, _, ?_, wp2, si2, f12.mono (fun _ h => h) (by decide) (by decide)⟩
      simp (disch := first | omega | (simp (disch := omega) only [nx_setf, nx_seta, nx_newo, nx_newa]; omega)) only [e_273, x_273_0, x_273_1, x_273_2, x_273_3, x_273_6, x_273_7, x_273_8, x_273_9, x_273_12, x_273_13, x_273_16, x_273_17, x_273_20, x_273_21, x_273_22, x_273_25, x_273_26, x_273_27, x_273_30, x_273_33, x_273_35, x_273_36, x_273_39, x_273_40, x_273_41, x_273_43, x_273_44n, x_273_44, x_273_47, x_273_50, x_273_52, x_273_53, x_273_56, x_273_57, x_273_60, x_273_63n, x_273_63r, x_273_66, x_273_67, x_273_70, x_273_71, x_273_72, x_273_75, x_273_76, kv_s, ki_s, kj_s, kd_s, kq_s, kq_n, kq_o, ka_s, kc_r, kc_t, kc0_r, kc0_t, kch_r, kc0h_r, kw_s, kw0_s, kwh_s, kw0h_s, rg_ref, rg_null, rg_rf, ck_t, sel_some, lkn_hd, Option.isSome_some, Bool.true_and, Bool.and_true, okv_i, okv_l, okv_r, okv_n, okv_rf, okv_b, okv_0, okv_1, okv_f, okv_d, c1_i, c1_r, c1_n, c1_rf, c1_f, nI_add, n_mul, n_sub, n_pred, n_eq, n_le, n_lt, n_neN, n_Nne, N_lt, N_le, n_ltN, n_leN, rdI_n, rdJ_n, rdD_n, wrI_n, wrI_z0, wrI_z1, wrI_zb, wrJ_n, wrD_n, aln_s, okn_n, upd_is, upd_ne, Nat.add_zero, Nat.add_sub_cancel, decide_true, decide_false, cond_true, cond_false, if_true, if_false, ite_not, not_true_eq_false, not_false_eq_true, Nat.reduceEqDiff, Nat.reduceAdd, Nat.reduceMul, Nat.reduceSub, Nat.reduceLeDiff, cp, e1, Nat.le_refl, g141, g142, y134, cp2, q268]
  · have c0' : (c ≤ 0) = False := eq_false (by omega)
    have c0'' : (c = 0) = False := eq_false c0
    rw [if_neg c0] at *
    rcases hac with hac | ⟨ac, a1, a2⟩
    · -- to the vehicle
      rw [if_pos hac]
      rw [hac] at y134
      generalize hB2 : setf (setf A1 (bO i) 141 (.int (nI 1))) (bO i) 142 (.int (nI c)) = B2 at wp2 fr2 f12 y134 y133 cp2 ly
      have q268 := m_268n (A := B2) (p := p) (d := d + 14)
      have fx : ∀ X, Fr B2 w1 (newo B2 34 8 (fun _ => none)) (upL w1 (nx B2) 7) X 1 8 := fun X => Fr.nwo
      have wp3 := wp2.fr (fx (fun _ => False)) (fun l hl z => z) (fun z => z)
      have vo := wp3.hV.o vv v1
      have v71 : gf (newo B2 34 8 (fun _ => none)) (vO vv) 71 = some (.int (S1 (235 + 3 * vv + 2))) := vo.fs 2 (by decide)
      have f10 := wp3.hO.f10
      have lc := wp3.hV.l.kc
      have q47 := wp3.hV.l.get (d := d + 12) v1
      have c13 : cin (gcs (newo B2 34 8 (fun _ => none)) (vO vv)) [13] = true := by rw [gcs_d vo.c]; rfl
      have y133' : gf (newo B2 34 8 (fun _ => none)) (bO i) 133 = some (.int (nI vv)) := by rw [gf_newo_o ly]; exact y133
      have e71 : S1 (235 + 3 * vv + 2) = S (235 + 3 * vv + 2) := s1o _ (by omega)
      rw [e71] at v71
      have f3 : Fr (newo B2 34 8 (fun _ => none)) (upL w1 (nx B2) 7) (setf (newo B2 34 8 (fun _ => none)) (vO vv) 71 (.int (S (235 + 3 * vv + 2) - nI c))) (upL w1 (nx B2) 7) (fun l => l = 1000 * b + (40 + vv)) 0 0 := Fr.stf vo.wy
      have hU : ∀ j, j ≠ 235 + 3 * vv + 2 → upd S1 (235 + 3 * vv + 2) (S (235 + 3 * vv + 2) - nI c) j = S1 j := fun j hj => upd_ne hj
      have hV3 := wp3.hV.up v1 f3 (S' := upd S1 (235 + 3 * vv + 2) (S (235 + 3 * vv + 2) - nI c)) ((vo.set 2 (S (235 + 3 * vv + 2) - nI c)).to (fun k hk => by
        rw [vhF_ag (S := S1) (z := S (235 + 3 * vv + 2) - nI c) (am := vhF S1 vv 5) (hU 12 (by omega)) (hU _ (by omega)) (hU _ (by omega)) (upd_is rfl) (fun j h1 h2 => hU j (by omega)) (vhF_5ag (hU 13 (by omega)) (fun j hj => hU _ (by omega))) k hk]
        by_cases z : k = 2
        · rw [if_pos z, if_pos z]
        · rw [if_neg z, if_neg z]
          by_cases z5 : k = 5
          · rw [if_pos z5, z5]
          · rw [if_neg z5])) (fun j m hj hne hm => by
        rw [vhF_ag (S := S1) (z := vhF S1 j 2) (am := vhF S1 j 5) (hU 12 (by omega)) (hU _ (by omega)) (hU _ (by omega)) (by rw [vhF_2]; exact hU _ (by omega)) (fun j h1 h2 => hU j (by omega)) (vhF_5ag (hU 13 (by omega)) (fun j hj => hU _ (by omega))) m hm]
        exact ite25)
      have wp4 := wp3.rv f3 (fun l h1 h2 => by omega) (by omega) (fun j hj => hU j (by omega)) (by rw [cS_c (s1o 9 (by omega)), k9]; exact D40) hV3
      have si4 := si2.to (S' := upd S1 (235 + 3 * vv + 2) (S (235 + 3 * vv + 2) - nI c)) (fun j hj => hU j (by omega)) (fun c hc => hU _ (by omega)) (fun j q1 q2 => hU j (by omega)) (fun v hv => ⟨hU _ (by omega), hU _ (by omega)⟩) (fun j q1 q2 => hU j (by omega))
      refine ⟨_, _, ?_, wp4, si4, ((f12.trans (fx _)).trans (f3.mono (fun l h => Or.inr (by omega)) (Nat.le_refl _) (Nat.le_refl _))).mono (fun _ h => h) (by decide) (by decide)⟩
      simp (disch := first | omega | (simp (disch := omega) only [nx_setf, nx_seta, nx_newo, nx_newa]; omega)) only [e_273, x_273_0, x_273_1, x_273_2, x_273_3, x_273_6, x_273_7, x_273_8, x_273_9, x_273_12, x_273_13, x_273_16, x_273_17, x_273_20, x_273_21, x_273_22, x_273_25, x_273_26, x_273_27, x_273_30, x_273_33, x_273_35, x_273_36, x_273_39, x_273_40, x_273_41, x_273_43, x_273_44n, x_273_44, x_273_47, x_273_50, x_273_52, x_273_53, x_273_56, x_273_57, x_273_60, x_273_63n, x_273_63r, x_273_66, x_273_67, x_273_70, x_273_71, x_273_72, x_273_75, x_273_76, kv_s, ki_s, kj_s, kd_s, kq_s, kq_n, kq_o, ka_s, kc_r, kc_t, kc0_r, kc0_t, kch_r, kc0h_r, kw_s, kw0_s, kwh_s, kw0h_s, rg_ref, rg_null, rg_rf, ck_t, sel_some, lkn_hd, Option.isSome_some, Bool.true_and, Bool.and_true, okv_i, okv_l, okv_r, okv_n, okv_rf, okv_b, okv_0, okv_1, okv_f, okv_d, c1_i, c1_r, c1_n, c1_rf, c1_f, nI_add, n_mul, n_sub, n_pred, n_eq, n_le, n_lt, n_neN, n_Nne, N_lt, N_le, n_ltN, n_leN, rdI_n, rdJ_n, rdD_n, wrI_n, wrI_z0, wrI_z1, wrI_zb, wrJ_n, wrD_n, aln_s, okn_n, upd_is, upd_ne, Nat.add_zero, Nat.add_sub_cancel, decide_true, decide_false, cond_true, cond_false, if_true, if_false, ite_not, not_true_eq_false, not_false_eq_true, Nat.reduceEqDiff, Nat.reduceAdd, Nat.reduceMul, Nat.reduceSub, Nat.reduceLeDiff, cp, e1, c0', g141, g142, hB2, y134, cp2, q268, c0'', f10, y133', lc, q47, c13, ckT, v71]
    · have an : (S (1120 + 18 * i + 1)).toNatClampNeg = ac := by rw [a2]; exact n_cl (by omega)
      rw [if_neg (by rw [a2]; exact of_eq_false (n_neN (by omega))), an]
      rw [a2] at y134
      generalize hB2 : setf (setf A1 (bO i) 141 (.int (nI 1))) (bO i) 142 (.int (nI c)) = B2 at wp2 fr2 f12 y134 y133 cp2 ly
      have q268 := m_268 (d := d + 14) wp2.hA wp2.hO a1
      obtain ⟨ee, he1, he2⟩ := wp2.hA.e
      have acc := (he2 ac a1).2
      obtain ⟨q422, acc2, f3⟩ := m_422 (d := d + 14) (x := nI c) acc
      have cA := acc.c
      have e0 : acF S1 ac 0 = S (187 + 6 * ac) := s1o _ (by omega)
      have e5 : acF S1 ac 5 = S (187 + 6 * ac + 5) := s1o _ (by omega)
      have hU : ∀ j, j ≠ 187 + 6 * ac → j ≠ 187 + 6 * ac + 5 → upd (upd S1 (187 + 6 * ac) (S (187 + 6 * ac) + nI c)) (187 + 6 * ac + 5) (S (187 + 6 * ac + 5) + nI c) j = S1 j := fun j h1 h2 => by rw [upd_ne h2, upd_ne h1]
      have hA3 := wp2.hA.up (S' := upd (upd S1 (187 + 6 * ac) (S (187 + 6 * ac) + nI c)) (187 + 6 * ac + 5) (S (187 + 6 * ac + 5) + nI c)) a1 f3 (acc2.to (fun k hk => by
        rw [e0, e5]
        by_cases z0 : k = 0
        · rw [z0, if_pos rfl]
          show upd (upd S1 (187 + 6 * ac) (S (187 + 6 * ac) + nI c)) (187 + 6 * ac + 5) (S (187 + 6 * ac + 5) + nI c) (187 + 6 * ac + 0) = _
          rw [upd_ne (by omega), upd_is (by omega)]
        · rw [if_neg z0]
          by_cases z5 : k = 5
          · rw [z5, if_pos rfl]
            show upd (upd S1 (187 + 6 * ac) (S (187 + 6 * ac) + nI c)) (187 + 6 * ac + 5) (S (187 + 6 * ac + 5) + nI c) (187 + 6 * ac + 5) = _
            rw [upd_is rfl]
          · rw [if_neg z5]
            exact hU _ (by omega) (by omega))) (fun j h1 h2 h3 => hU j (by omega) (by omega))
      have wp4 := wp2.ra f3 (fun l h1 h2 => by omega) (by omega) (fun j hj => hU j (by omega) (by omega)) (by rw [cS_c (s1o 9 (by omega)), k9]; exact D40) hA3
      have si4 := si2.to (S' := upd (upd S1 (187 + 6 * ac) (S (187 + 6 * ac) + nI c)) (187 + 6 * ac + 5) (S (187 + 6 * ac + 5) + nI c)) (fun j hj => hU j (by omega) (by omega)) (fun c hc => hU _ (by omega) (by omega)) (fun j q1 q2 => hU j (by omega) (by omega)) (fun v hv => ⟨hU _ (by omega) (by omega), hU _ (by omega) (by omega)⟩) (fun j q1 q2 => hU j (by omega) (by omega))
      refine ⟨_, w1, ?_, wp4, si4, (f12.trans (f3.mono (fun l h => Or.inr (by omega)) (Nat.le_refl _) (Nat.le_refl _))).mono (fun _ h => h) (by decide) (by decide)⟩
      simp (disch := first | omega | (simp (disch := omega) only [nx_setf, nx_seta, nx_newo, nx_newa]; omega)) only [e_273, x_273_0, x_273_1, x_273_2, x_273_3, x_273_6, x_273_7, x_273_8, x_273_9, x_273_12, x_273_13, x_273_16, x_273_17, x_273_20, x_273_21, x_273_22, x_273_25, x_273_26, x_273_27, x_273_30, x_273_33, x_273_35, x_273_36, x_273_39, x_273_40, x_273_41, x_273_43, x_273_44n, x_273_44, x_273_47, x_273_50, x_273_52, x_273_53, x_273_56, x_273_57, x_273_60, x_273_63n, x_273_63r, x_273_66, x_273_67, x_273_70, x_273_71, x_273_72, x_273_75, x_273_76, kv_s, ki_s, kj_s, kd_s, kq_s, kq_n, kq_o, ka_s, kc_r, kc_t, kc0_r, kc0_t, kch_r, kc0h_r, kw_s, kw0_s, kwh_s, kw0h_s, rg_ref, rg_null, rg_rf, ck_t, sel_some, lkn_hd, Option.isSome_some, Bool.true_and, Bool.and_true, okv_i, okv_l, okv_r, okv_n, okv_rf, okv_b, okv_0, okv_1, okv_f, okv_d, c1_i, c1_r, c1_n, c1_rf, c1_f, nI_add, n_mul, n_sub, n_pred, n_eq, n_le, n_lt, n_neN, n_Nne, N_lt, N_le, n_ltN, n_leN, rdI_n, rdJ_n, rdD_n, wrI_n, wrI_z0, wrI_z1, wrI_zb, wrJ_n, wrD_n, aln_s, okn_n, upd_is, upd_ne, Nat.add_zero, Nat.add_sub_cancel, decide_true, decide_false, cond_true, cond_false, if_true, if_false, ite_not, not_true_eq_false, not_false_eq_true, Nat.reduceEqDiff, Nat.reduceAdd, Nat.reduceMul, Nat.reduceSub, Nat.reduceLeDiff, cp, e1, c0', g141, g142, hB2, y134, cp2, q268, c0'', cA, q422]
end
