/-! the component's World.close, whole -/
section
variable {A A' B : Hp} {w w' wB : Lb} {X : Nat → Prop} {y l e b n d c u k T p q s a v r bl mk V C i R Bn x P g0 ar : Nat} {aO vO rO acO bO : Nat → Nat} {t : Tp} {S S' W Z f g : Nat → Int32} {sz ac z w0 am pr : Int32} {ps : List (Nat × Bool)}
theorem blH_lo {j : Nat} (hj : j < 1120 + 18 * Bn) : blH S i Bn t pr j = S j := by
  unfold blH
  rw [upd_ne (by omega), upd_ne (by omega), upd_ne (by omega), upd_ne (by omega), upd_ne (by omega), upd_ne (by omega), upd_ne (by omega), upd_ne (by omega), upd_ne (by omega), upd_ne (by omega), upd_ne (by omega), upd_ne (by omega), upd_ne (by omega), upd_ne (by omega), upd_ne (by omega), upd_ne (by omega), upd_ne (by omega)]
theorem blH_hi {j : Nat} (hj : 1120 + 18 * Bn + 18 ≤ j) : blH S i Bn t pr j = S j := by
  unfold blH
  rw [upd_ne (by omega), upd_ne (by omega), upd_ne (by omega), upd_ne (by omega), upd_ne (by omega), upd_ne (by omega), upd_ne (by omega), upd_ne (by omega), upd_ne (by omega), upd_ne (by omega), upd_ne (by omega), upd_ne (by omega), upd_ne (by omega), upd_ne (by omega), upd_ne (by omega), upd_ne (by omega), upd_ne (by omega)]
theorem kpS_lo {j : Nat} (h14 : j ≠ 14) (h15 : j ≠ 1120 + 18 * Bn + 15) (hj : j < 2200) : kpS S Bn P ps j = S j := by
  unfold kpS plS
  rw [upd_ne h14, if_neg (by omega), upd_ne h15]
theorem kpS_15 (hB : Bn < 60) : kpS S Bn P ps (1120 + 18 * Bn + 15) = nI P := by
  unfold kpS plS
  rw [upd_ne (by omega), if_neg (by omega), upd_is rfl]
theorem kpS_pl {k : Nat} (hB : Bn < 60) (hk : k < ps.length) : kpS S Bn P ps (2200 + (P + k)) = nI (codP (ps.getD k (0, false))) := by
  unfold kpS plS
  rw [upd_ne (by omega), if_pos (by omega), show 2200 + (P + k) - (2200 + P) = k from by omega]
theorem kpS_po {k : Nat} (hB : Bn < 60) (hk : k < P) : kpS S Bn P ps (2200 + k) = S (2200 + k) := by
  unfold kpS plS
  rw [upd_ne (by omega), if_neg (by omega), upd_ne (by omega)]
theorem chS_hi {j : Nat} (hi : i < 15) (ha : W (235 + 3 * i + 1) = nN ∨ acN W i < 8) (hj : 280 ≤ j) : chS W i am j = W j := by
  unfold chS
  by_cases z : W (235 + 3 * i + 1) = nN
  · rw [if_pos z, upd_ne (by omega)]
  · rw [if_neg z]
    have := ha.resolve_left z
    rw [upd_ne (by omega), upd_ne (by omega), upd_ne (by omega)]
theorem chS_lo {j : Nat} (hi : i < 15) (ha : W (235 + 3 * i + 1) = nN ∨ acN W i < 8) (hj : j < 187) : chS W i am j = W j := by
  unfold chS
  by_cases z : W (235 + 3 * i + 1) = nN
  · rw [if_pos z, upd_ne (by omega)]
  · rw [if_neg z]
    rw [upd_ne (by omega), upd_ne (by omega), upd_ne (by omega)]
/-- a trip's places are marked -/
theorem m_270m (hb : 0 < b) {j3 : Option Value} (hps : t.ps.length ≤ 900) (hg : ∀ x, x ∈ t.ps → x.1 < 12) (hZ : ∀ k, k < t.ps.length → Z (2200 + (P + k)) = nI (codP (t.ps.getD k (0, false)))) (hP : P + t.ps.length ≤ 900) (hf : ∀ i, i < t.ps.length → f i = bI (!(t.ps.getD i (0, false)).2)) :
    ∀ (k i : Nat) (B : Hp) (wB : Lb), i + k = t.ps.length → TpO B wB T 0 0 aO sz t → WO B wB b p q s a v r bl mk w0 → St B wB g0 → WMk B wB b mk Z (P + i) → ga B ar = some (boA t.ps.length f) → wB ar = 7 →
    ∃ B' wB', exG TB (d + 7) 270 147 [some (.ref p), some (.ref y), some (.ref x), j3, some (.ref T), some (.ref ar), some (.int (nI i))] [] B = exG TB (d + 7) 270 194 [some (.ref p), some (.ref y), some (.ref x), j3, some (.ref T), some (.ref ar), some (.int (nI t.ps.length))] [] B' ∧ WMk B' wB' b mk Z (P + t.ps.length) ∧ Fr B wB B' wB' (fun l => l = 1000 * b + 9) (5 * k) (55 * k)
  | 0, i, B, wB, hk, tp, o, st, wm, na, wa => by
    have e : i = t.ps.length := by omega
    subst e
    refine ⟨B, wB, ?_, wm, Fr.rf⟩
    have al : aln (some (boA t.ps.length f)) = some (nI t.ps.length) := rfl
    refine x_270_147.trans ?_
    simp (disch := first | omega | (simp (disch := omega) only [nx_setf, nx_seta, nx_newo, nx_newa]; omega)) only [x_270_149, x_270_151, x_270_152, x_270_155, x_270_156, x_270_158, x_270_161, x_270_163, x_270_166n, x_270_166r, x_270_169, x_270_172, x_270_174, x_270_176, x_270_177, x_270_180, x_270_181, x_270_184, x_270_185, x_270_188, x_270_191, kv_s, ki_s, kj_s, kd_s, kq_s, kq_n, kq_o, ka_s, kc_r, kc_t, kc0_r, kc0_t, kch_r, kc0h_r, kw_s, kw0_s, kwh_s, kw0h_s, rg_ref, rg_null, rg_rf, ck_t, sel_some, lkn_hd, Option.isSome_some, Bool.true_and, Bool.and_true, okv_i, okv_l, okv_r, okv_n, okv_rf, okv_b, okv_0, okv_1, okv_f, okv_d, c1_i, c1_r, c1_n, c1_rf, c1_f, nI_add, n_mul, n_sub, n_pred, n_eq, n_le, n_lt, n_neN, n_Nne, N_lt, N_le, n_ltN, n_leN, rdI_n, rdJ_n, rdD_n, wrI_n, wrI_z0, wrI_z1, wrI_zb, wrJ_n, wrD_n, aln_s, okn_n, upd_is, upd_ne, Nat.add_zero, Nat.add_sub_cancel, decide_true, decide_false, cond_true, cond_false, if_true, if_false, ite_not, not_true_eq_false, not_false_eq_true, Nat.reduceEqDiff, Nat.reduceAdd, Nat.reduceMul, Nat.reduceSub, Nat.reduceLeDiff, na, al, yle (Nat.le_refl t.ps.length)]
  | k + 1, i, B, wB, hk, tp, o, st, wm, na, wa => by
    have hi : i < t.ps.length := by omega
    obtain ⟨g, g1, g2⟩ := tp.gl
    obtain ⟨z, q47, i1, wz⟩ := g2.get hi
    have lc := g2.kc
    have hm : t.ps.getD i (0, false) ∈ t.ps := by rw [List.getD_eq_getElem?_getD, List.getElem?_eq_getElem hi]; exact List.getElem_mem _
    have hgx := hg _ hm
    have q21 := m_21 (d := d + 6) i1
    have k21 := i1.k1.2
    have cp := o.c
    have al : aln (some (boA t.ps.length f)) = some (nI t.ps.length) := rfl
    have rd : rdI 2 (some (boA t.ps.length f)) (nI i) = some (f i) := rdI_n hi (by omega)
    rw [hf i hi] at rd
    have hc := hZ i hi
    have q47 := q47 (d + 4)
    generalize t.ps.getD i (0, false) = xx at hm hgx rd hc i1 q21
    obtain ⟨gg, bb⟩ := xx
    dsimp only at hgx rd i1 q21
    cases bb with
    | false =>
      have hn : Z (2200 + (P + i)) = nI (gg + 16 * 0) := hc
      obtain ⟨B1, w1, e1, wm1, f1⟩ := m_271 (d := d + 1) wm o st hgx (Or.inl rfl) hb (by omega) (fun j hj => rfl) hn
      have wa' : ¬ wB ar = 1000 * b + 9 := by rw [wa]; omega
      obtain ⟨B', wB', e2, r2, r3⟩ := m_270m hb (j3 := j3) hps hg hZ hP hf k (i + 1) B1 w1 (by omega) (tp.fr f1 (by omega) (by omega) (by omega) (by omega)) (o.fr f1 (by omega)) (st.fr f1 (by omega)) wm1 (f1.ar wa' na) (by rw [f1.lb wa' (ga_lt na)]; exact wa)
      refine ⟨B', wB', Eq.trans ?_ e2, r2, (f1.trans r3).mono (fun _ h => h) (by omega) (by omega)⟩
      rw [Bool.not_false, bI_t] at rd
      refine x_270_147.trans ?_
      simp (disch := first | omega | (simp (disch := omega) only [nx_setf, nx_seta, nx_newo, nx_newa]; omega)) only [x_270_149, x_270_151, x_270_152, x_270_155, x_270_156, x_270_158, x_270_161, x_270_163, x_270_166n, x_270_166r, x_270_169, x_270_172, x_270_174, x_270_176, x_270_177, x_270_180, x_270_181, x_270_184, x_270_185, x_270_188, x_270_191, kv_s, ki_s, kj_s, kd_s, kq_s, kq_n, kq_o, ka_s, kc_r, kc_t, kc0_r, kc0_t, kch_r, kc0h_r, kw_s, kw0_s, kwh_s, kw0h_s, rg_ref, rg_null, rg_rf, ck_t, sel_some, lkn_hd, Option.isSome_some, Bool.true_and, Bool.and_true, okv_i, okv_l, okv_r, okv_n, okv_rf, okv_b, okv_0, okv_1, okv_f, okv_d, c1_i, c1_r, c1_n, c1_rf, c1_f, nI_add, n_mul, n_sub, n_pred, n_eq, n_le, n_lt, n_neN, n_Nne, N_lt, N_le, n_ltN, n_leN, rdI_n, rdJ_n, rdD_n, wrI_n, wrI_z0, wrI_z1, wrI_zb, wrJ_n, wrD_n, aln_s, okn_n, upd_is, upd_ne, Nat.add_zero, Nat.add_sub_cancel, decide_true, decide_false, cond_true, cond_false, if_true, if_false, ite_not, not_true_eq_false, not_false_eq_true, Nat.reduceEqDiff, Nat.reduceAdd, Nat.reduceMul, Nat.reduceSub, Nat.reduceLeDiff, na, al, nle hi, g1, lc, q47, cin_21, k21, ckT, q21, rd, cp, e1]
    | true =>
      have hn : Z (2200 + (P + i)) = nI (gg + 16 * 1) := hc
      obtain ⟨B1, w1, e1, wm1, f1⟩ := m_271 (d := d + 1) wm o st hgx (Or.inr rfl) hb (by omega) (fun j hj => rfl) hn
      have wa' : ¬ wB ar = 1000 * b + 9 := by rw [wa]; omega
      obtain ⟨B', wB', e2, r2, r3⟩ := m_270m hb (j3 := j3) hps hg hZ hP hf k (i + 1) B1 w1 (by omega) (tp.fr f1 (by omega) (by omega) (by omega) (by omega)) (o.fr f1 (by omega)) (st.fr f1 (by omega)) wm1 (f1.ar wa' na) (by rw [f1.lb wa' (ga_lt na)]; exact wa)
      refine ⟨B', wB', Eq.trans ?_ e2, r2, (f1.trans r3).mono (fun _ h => h) (by omega) (by omega)⟩
      rw [Bool.not_true, bI_f] at rd
      refine x_270_147.trans ?_
      simp (disch := first | omega | (simp (disch := omega) only [nx_setf, nx_seta, nx_newo, nx_newa]; omega)) only [x_270_149, x_270_151, x_270_152, x_270_155, x_270_156, x_270_158, x_270_161, x_270_163, x_270_166n, x_270_166r, x_270_169, x_270_172, x_270_174, x_270_176, x_270_177, x_270_180, x_270_181, x_270_184, x_270_185, x_270_188, x_270_191, kv_s, ki_s, kj_s, kd_s, kq_s, kq_n, kq_o, ka_s, kc_r, kc_t, kc0_r, kc0_t, kch_r, kc0h_r, kw_s, kw0_s, kwh_s, kw0h_s, rg_ref, rg_null, rg_rf, ck_t, sel_some, lkn_hd, Option.isSome_some, Bool.true_and, Bool.and_true, okv_i, okv_l, okv_r, okv_n, okv_rf, okv_b, okv_0, okv_1, okv_f, okv_d, c1_i, c1_r, c1_n, c1_rf, c1_f, nI_add, n_mul, n_sub, n_pred, n_eq, n_le, n_lt, n_neN, n_Nne, N_lt, N_le, n_ltN, n_leN, rdI_n, rdJ_n, rdD_n, wrI_n, wrI_z0, wrI_z1, wrI_zb, wrJ_n, wrD_n, aln_s, okn_n, upd_is, upd_ne, Nat.add_zero, Nat.add_sub_cancel, decide_true, decide_false, cond_true, cond_false, if_true, if_false, ite_not, not_true_eq_false, not_false_eq_true, Nat.reduceEqDiff, Nat.reduceAdd, Nat.reduceMul, Nat.reduceSub, Nat.reduceLeDiff, na, al, nle hi, g1, lc, q47, cin_21, k21, ckT, q21, rd, cp, e1]
end
