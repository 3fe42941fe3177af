/-! the component's trips: which places were read -/
section
variable {A A' B : Hp} {w w' : Lb} {X : Nat → Prop} {y l e ci b n c u d x k p : Nat} {r r' aO : Nat → Nat} {rs : List Nat} {ps : List (Nat × Bool)} {sz v : Int32} {t : Tp} {S f : Nat → Int32}
theorem GlO.kc (h : GlO A w p l ps) : gc A p = some 3 := by
  obtain ⟨gO, h1, h2⟩ := h
  exact h1.kc
theorem GlO.size (h : GlO A w p l ps) : evG TB (d + 1) 42 [.ref p] A = some (.inl (some (.int (nI ps.length))), A) := by
  obtain ⟨gO, h1, h2⟩ := h
  exact h1.size
theorem GlO.get (h : GlO A w p l ps) (hk : k < ps.length) : ∃ q, (∀ d, evG TB (d + 3) 47 [.ref p, .int (nI k)] A = some (.inl (some (.ref q)), A)) ∧ InS A q (nI (ps.getD k (0, false)).1) ∧ w q = 0 := by
  obtain ⟨gO, h1, h2⟩ := h
  exact ⟨gO k, fun d => h1.get hk, h2 k hk⟩
abbrev boA (n : Nat) (f : Nat → Int32) : ArC := (2, (n, .inl f))
/-- among the gantries on to the one of a read -/
theorem m_248i {g : Nat} {j1 j2 j3 : Option Value} {z : Nat} (g1 : gf B y 128 = some (.ref p)) (gl : GlO B w p l t.ps) (iv : gf B z 90 = some (.int (nI g))) (hg : g < 12) (hp : ∀ q, q ∈ t.ps → q.1 < 12) (hl : t.ps.length < 10000) :
    ∀ (pre done : List (Nat × Bool)) (rest : List (Nat × Bool)) (P : Nat), t.ps = done ++ (pre ++ (g, false) :: rest) → P = done.length → (∀ q, q ∈ pre → q.1 ≠ g) →
    exG TB (d + 3) 248 75 [some (.ref y), j1, some (.int (nI P)), j2, j3, some (.ref z)] [] B = exG TB (d + 3) 248 103 [some (.ref y), j1, some (.int (nI (P + pre.length))), j2, j3, some (.ref z)] [] B
  | [], done, rest, P, h, hP, hq => by
    have hk : P < t.ps.length := by rw [h, hP]; simp
    obtain ⟨q, q47, i1, wq⟩ := gl.get hk
    have ev : (t.ps.getD P (0, false)).1 = g := by rw [h, hP]; simp
    rw [ev] at i1
    have q21 := m_21 (d := d + 2) i1
    have k21 := i1.k1.2
    have lc := gl.kc
    refine x_248_75.trans ?_
    simp (disch := first | omega | (simp (disch := omega) only [nx_setf, nx_seta, nx_newo, nx_newa]; omega)) only [x_248_76, x_248_79, x_248_80, x_248_83n, x_248_83r, x_248_86, x_248_89, x_248_91, x_248_94, x_248_97, x_248_100, kv_s, ki_s, kj_s, kd_s, kq_s, kq_n, kq_o, ka_s, kc_r, kc_t, kc0_r, kc0_t, kch_r, kc0h_r, kw_s, kw0_s, kwh_s, kw0h_s, rg_ref, rg_null, rg_rf, ck_t, sel_some, lkn_hd, Option.isSome_some, Bool.true_and, Bool.and_true, okv_i, okv_l, okv_r, okv_n, okv_rf, okv_b, okv_0, okv_1, okv_f, okv_d, c1_i, c1_r, c1_n, c1_rf, c1_f, nI_add, n_mul, n_sub, n_pred, n_eq, n_le, n_lt, n_neN, n_Nne, N_lt, N_le, n_ltN, n_leN, rdI_n, rdJ_n, rdD_n, wrI_n, wrI_z0, wrI_z1, wrI_zb, wrJ_n, wrD_n, aln_s, okn_n, upd_is, upd_ne, Nat.add_zero, Nat.add_sub_cancel, decide_true, decide_false, cond_true, cond_false, if_true, if_false, ite_not, not_true_eq_false, not_false_eq_true, Nat.reduceEqDiff, Nat.reduceAdd, Nat.reduceMul, Nat.reduceSub, Nat.reduceLeDiff, g1, lc, q47, q21, k21, cin_21, ckT, iv, List.length_nil]
  | x :: pre, done, rest, P, h, hP, hq => by
    have hk : P < t.ps.length := by rw [h, hP]; simp
    obtain ⟨q, q47, i1, wq⟩ := gl.get hk
    have ev : t.ps.getD P (0, false) = x := by rw [h, hP]; simp
    rw [ev] at i1
    have q21 := m_21 (d := d + 2) i1
    have k21 := i1.k1.2
    have lc := gl.kc
    have hx12 : x.1 < 12 := hp x (by rw [h]; simp)
    have hne : (x.1 = g) = False := eq_false (hq x List.mem_cons_self)
    have ih := m_248i (j1 := j1) (j2 := j2) (j3 := j3) g1 gl iv hg hp hl pre (done ++ [x]) rest (P + 1) (by rw [h]; simp) (by simp [hP]) (fun q hq2 => hq q (List.mem_cons_of_mem _ hq2))
    have e : P + (x :: pre).length = P + 1 + pre.length := by simp; omega
    rw [e, ← ih]
    refine x_248_75.trans ?_
    simp (disch := first | omega | (simp (disch := omega) only [nx_setf, nx_seta, nx_newo, nx_newa]; omega)) only [x_248_76, x_248_79, x_248_80, x_248_83n, x_248_83r, x_248_86, x_248_89, x_248_91, x_248_94, x_248_97, x_248_100, kv_s, ki_s, kj_s, kd_s, kq_s, kq_n, kq_o, ka_s, kc_r, kc_t, kc0_r, kc0_t, kch_r, kc0h_r, kw_s, kw0_s, kwh_s, kw0h_s, rg_ref, rg_null, rg_rf, ck_t, sel_some, lkn_hd, Option.isSome_some, Bool.true_and, Bool.and_true, okv_i, okv_l, okv_r, okv_n, okv_rf, okv_b, okv_0, okv_1, okv_f, okv_d, c1_i, c1_r, c1_n, c1_rf, c1_f, nI_add, n_mul, n_sub, n_pred, n_eq, n_le, n_lt, n_neN, n_Nne, N_lt, N_le, n_ltN, n_leN, rdI_n, rdJ_n, rdD_n, wrI_n, wrI_z0, wrI_z1, wrI_zb, wrJ_n, wrD_n, aln_s, okn_n, upd_is, upd_ne, Nat.add_zero, Nat.add_sub_cancel, decide_true, decide_false, cond_true, cond_false, if_true, if_false, ite_not, not_true_eq_false, not_false_eq_true, Nat.reduceEqDiff, Nat.reduceAdd, Nat.reduceMul, Nat.reduceSub, Nat.reduceLeDiff, g1, lc, q47, q21, k21, cin_21, ckT, iv, hne]
theorem m_248 (h : TpO A w y l e aO sz t) (hl2 : t.rs.length < 10000) (hl3 : t.ps.length < 10000) (hi : ∀ j, j ∈ t.rs → IV A (aO j) 17 89 8 (rdFn S j)) (hg : ∀ j, j ∈ t.rs → S (280 + 7 * j + 1) = nI (gN S j) ∧ gN S j < 12) (hp : ∀ q, q ∈ t.ps → q.1 < 12) {g0 : List Nat}
    (mk : ∃ r rs ps, t.rs = r :: rs ∧ t.ps = (gN S r, false) :: ps ∧ Mk S (gN S r) rs ps) :
    ∃ A' f, evG TB (d + 4) 248 [.ref y] A = some (.inl (some (.ref (nx A))), A') ∧ ga A' (nx A) = some (boA t.ps.length f) ∧ (∀ i, i < t.ps.length → f i = bI (!(t.ps.getD i (0, false)).2)) ∧ ∀ X, Fr A w A' (upL w (nx A) 7) X 1 t.ps.length := by
  obtain ⟨r, r1, r2⟩ := h.rl
  obtain ⟨g, g1, g2⟩ := h.gl
  have frW : ∀ {B : Hp}, Fr A w B (upL w (nx A) 7) (fun _ => False) 1 t.ps.length → gf B y 127 = some (.ref r) ∧ gf B y 128 = some (.ref g) ∧ RlO B (upL w (nx A) 7) r (l + e) aO t.rs ∧ GlO B (upL w (nx A) 7) g (l + 2 * e) t.ps ∧ ∀ j, j ∈ t.rs → IV B (aO j) 17 89 8 (rdFn S j) := fun fr => ⟨fr.fd (fun z => z) r1, fr.fd (fun z => z) g1, r2.fr fr (fun z => z), g2.fr fr (fun z => z) (fun z => z), fun j hj => (hi j hj).fr fr (fun z => z)⟩
  have main : ∀ (rs' dn : List Nat) (done rest : List (Nat × Bool)) (B : Hp) (f : Nat → Int32) (j P : Nat) (o : Option Value), t.rs = dn ++ rs' → j ∈ t.rs → t.ps = done ++ rest → done.length = P + 1 → Mk S (gN S j) rs' rest → Fr A w B (upL w (nx A) 7) (fun _ => False) 1 t.ps.length → ga B (nx A) = some (boA t.ps.length f) → (∀ i, i < t.ps.length → f i = if i ≤ P then bI (!(t.ps.getD i (0, false)).2) else nI 0) →
      ∃ B' f', exG TB (d + 3) 248 31 [some (.ref y), some (.ref (nx A)), some (.int (nI P)), some (.ref (aO j)), some (.int (nI dn.length)), o] [] B = some (.inl (some (.ref (nx A))), B') ∧ Fr A w B' (upL w (nx A) 7) (fun _ => False) 1 t.ps.length ∧ ga B' (nx A) = some (boA t.ps.length f') ∧ ∀ i, i < t.ps.length → f' i = bI (!(t.ps.getD i (0, false)).2) := by
    intro rs'
    induction rs' with
    | nil =>
      intro dn done rest B f j P o hrs hj hps hd hM fr hB hf
      have hM : rest = [] := hM
      obtain ⟨b1, b2, b3, b4, b5⟩ := frW fr
      have lc := b3.kc
      have q42 := b3.size (d := d + 2)
      have hdl : dn.length = t.rs.length := by rw [hrs]; simp
      refine ⟨B, f, ?_, fr, hB, fun i hi2 => ?_⟩
      · refine x_248_31.trans ?_
        simp (disch := first | omega | (simp (disch := omega) only [nx_setf, nx_seta, nx_newo, nx_newa]; omega)) only [x_248_33, x_248_34, x_248_37, x_248_40, x_248_43, x_248_44, x_248_47, x_248_49, x_248_52n, x_248_52r, x_248_55, x_248_57, x_248_59, x_248_62, x_248_63, x_248_66, x_248_69, x_248_72, x_248_76, x_248_79, x_248_80, x_248_83n, x_248_83r, x_248_86, x_248_89, x_248_91, x_248_94, x_248_97, x_248_100, x_248_103, x_248_104, x_248_105, x_248_106, x_248_107, x_248_109, x_248_110, x_248_113, x_248_116, x_248_117, kv_s, ki_s, kj_s, kd_s, kq_s, kq_n, kq_o, ka_s, kc_r, kc_t, kc0_r, kc0_t, kch_r, kc0h_r, kw_s, kw0_s, kwh_s, kw0h_s, rg_ref, rg_null, rg_rf, ck_t, sel_some, lkn_hd, Option.isSome_some, Bool.true_and, Bool.and_true, okv_i, okv_l, okv_r, okv_n, okv_rf, okv_b, okv_0, okv_1, okv_f, okv_d, c1_i, c1_r, c1_n, c1_rf, c1_f, nI_add, n_mul, n_sub, n_pred, n_eq, n_le, n_lt, n_neN, n_Nne, N_lt, N_le, n_ltN, n_leN, rdI_n, rdJ_n, rdD_n, wrI_n, wrI_z0, wrI_z1, wrI_zb, wrJ_n, wrD_n, aln_s, okn_n, upd_is, upd_ne, Nat.add_zero, Nat.add_sub_cancel, decide_true, decide_false, cond_true, cond_false, if_true, if_false, ite_not, not_true_eq_false, not_false_eq_true, Nat.reduceEqDiff, Nat.reduceAdd, Nat.reduceMul, Nat.reduceSub, Nat.reduceLeDiff, b1, lc, q42, yle (show t.rs.length ≤ dn.length by omega)]
      · have : t.ps.length = P + 1 := by rw [hps, hM]; simp [hd]
        rw [hf i hi2, if_pos (by omega)]
    | cons x rs' ih =>
      intro dn done rest B f j P o hrs hj hps hd hM fr hB hf
      obtain ⟨b1, b2, b3, b4, b5⟩ := frW fr
      have lc := b3.kc
      have q42 := b3.size (d := d + 2)
      have hdl : dn.length < t.rs.length := by rw [hrs]; simp
      have q47 := b3.get (d := d) hdl
      have ex : t.rs.getD dn.length 0 = x := by rw [hrs]; simp
      rw [ex] at q47
      have hx : x ∈ t.rs := by rw [hrs]; simp
      have ivx := b5 x hx
      have ivj := b5 j hj
      have c17 : cin (gcs B (aO x)) [17] = true := by rw [gcs_d ivx.c]; rfl
      have x90 : gf B (aO x) 90 = some (.int (nI (gN S x))) := by rw [← (hg x hx).1]; exact ivx.fs 1 (by decide)
      have j90 : gf B (aO j) 90 = some (.int (nI (gN S j))) := by rw [← (hg j hj).1]; exact ivj.fs 1 (by decide)
      have hgx := (hg x hx).2
      have hgj := (hg j hj).2
      have hrs2 : t.rs = (dn ++ [x]) ++ rs' := by rw [hrs]; simp
      have hln : (dn ++ [x]).length = dn.length + 1 := by simp
      rcases hM with ⟨m1, m2⟩ | ⟨m1, pre, rest', m2, m3, m4⟩
      · obtain ⟨B', f', e1, e2⟩ := ih (dn ++ [x]) done rest B f j P (some (.ref (aO x))) hrs2 hj hps hd m2 fr hB hf
        refine ⟨B', f', Eq.trans ?_ e1, e2⟩
        rw [hln]
        rw [m1] at x90
        refine x_248_31.trans ?_
        simp (disch := first | omega | (simp (disch := omega) only [nx_setf, nx_seta, nx_newo, nx_newa]; omega)) only [x_248_33, x_248_34, x_248_37, x_248_40, x_248_43, x_248_44, x_248_47, x_248_49, x_248_52n, x_248_52r, x_248_55, x_248_57, x_248_59, x_248_62, x_248_63, x_248_66, x_248_69, x_248_72, x_248_76, x_248_79, x_248_80, x_248_83n, x_248_83r, x_248_86, x_248_89, x_248_91, x_248_94, x_248_97, x_248_100, x_248_103, x_248_104, x_248_105, x_248_106, x_248_107, x_248_109, x_248_110, x_248_113, x_248_116, x_248_117, kv_s, ki_s, kj_s, kd_s, kq_s, kq_n, kq_o, ka_s, kc_r, kc_t, kc0_r, kc0_t, kch_r, kc0h_r, kw_s, kw0_s, kwh_s, kw0h_s, rg_ref, rg_null, rg_rf, ck_t, sel_some, lkn_hd, Option.isSome_some, Bool.true_and, Bool.and_true, okv_i, okv_l, okv_r, okv_n, okv_rf, okv_b, okv_0, okv_1, okv_f, okv_d, c1_i, c1_r, c1_n, c1_rf, c1_f, nI_add, n_mul, n_sub, n_pred, n_eq, n_le, n_lt, n_neN, n_Nne, N_lt, N_le, n_ltN, n_leN, rdI_n, rdJ_n, rdD_n, wrI_n, wrI_z0, wrI_z1, wrI_zb, wrJ_n, wrD_n, aln_s, okn_n, upd_is, upd_ne, Nat.add_zero, Nat.add_sub_cancel, decide_true, decide_false, cond_true, cond_false, if_true, if_false, ite_not, not_true_eq_false, not_false_eq_true, Nat.reduceEqDiff, Nat.reduceAdd, Nat.reduceMul, Nat.reduceSub, Nat.reduceLeDiff, b1, lc, q42, nle hdl, q47, c17, ckT, x90, j90]
      · have hne : (gN S x = gN S j) = False := eq_false m1
        have hpl : P + 1 + pre.length < t.ps.length := by rw [hps, m2]; simp [hd]
        have la : nx A < nx B := ga_lt hB
        have fr2 : Fr A w (seta B (nx A) (boA t.ps.length (upd f (P + 1 + pre.length) (nI 1)))) (upL w (nx A) 7) (fun _ => False) 1 t.ps.length := fr.san (Nat.le_refl _)
        have hps2 : t.ps = (done ++ (pre ++ [(gN S x, false)])) ++ rest' := by rw [hps, m2]; simp
        obtain ⟨B', f', e1, e2⟩ := ih (dn ++ [x]) (done ++ (pre ++ [(gN S x, false)])) rest' _ (upd f (P + 1 + pre.length) (nI 1)) x (P + 1 + pre.length) (some (.ref (aO x))) hrs2 hx hps2 (by simp [hd]; omega) m4 fr2 (ga_seta_lt la) (fun i hi2 => by
          by_cases z : i = P + 1 + pre.length
          · rw [upd_is z, if_pos (by omega)]
            have : t.ps.getD i (0, false) = (gN S x, false) := by
              rw [z, hps, m2, List.getD_eq_getElem?_getD, List.getElem?_append_right (by omega), List.getElem?_append_right (by omega)]
              rw [show P + 1 + pre.length - done.length - pre.length = 0 from by omega]
              rfl
            rw [this]
            rfl
          · rw [upd_ne z, hf i hi2]
            by_cases z2 : i ≤ P
            · rw [if_pos z2, if_pos (by omega)]
            · rw [if_neg z2]
              by_cases z3 : i ≤ P + 1 + pre.length
              · rw [if_pos z3]
                have hm : t.ps.getD i (0, false) ∈ pre := by
                  rw [hps, m2, List.getD_eq_getElem?_getD, List.getElem?_append_right (by omega), List.getElem?_append_left (by omega), List.getElem?_eq_getElem (by omega)]
                  exact List.getElem_mem _
                rw [(m3 _ hm).1]
                rfl
              · rw [if_neg z3])
        refine ⟨B', f', Eq.trans ?_ e1, e2⟩
        rw [hln]
        have inn := m_248i (d := d) (t := t) (j1 := some (.ref (nx A))) (j2 := some (.ref (aO j))) (j3 := some (.int (nI dn.length))) b2 b4 x90 hgx hp hl3 pre done rest' (P + 1) (by rw [hps, m2]) hd.symm (fun q hq => (m3 q hq).2)
        have wr : wrI 2 (some (boA t.ps.length f)) (nI (P + 1 + pre.length)) (nI 1) = some (boA t.ps.length (upd f (P + 1 + pre.length) (nI 1))) := wrI_z1 hpl (by omega)
        refine x_248_31.trans ?_
        simp (disch := first | omega | (simp (disch := omega) only [nx_setf, nx_seta, nx_newo, nx_newa]; omega)) only [x_248_33, x_248_34, x_248_37, x_248_40, x_248_43, x_248_44, x_248_47, x_248_49, x_248_52n, x_248_52r, x_248_55, x_248_57, x_248_59, x_248_62, x_248_63, x_248_66, x_248_69, x_248_72, kv_s, ki_s, kj_s, kd_s, kq_s, kq_n, kq_o, ka_s, kc_r, kc_t, kc0_r, kc0_t, kch_r, kc0h_r, kw_s, kw0_s, kwh_s, kw0h_s, rg_ref, rg_null, rg_rf, ck_t, sel_some, lkn_hd, Option.isSome_some, Bool.true_and, Bool.and_true, okv_i, okv_l, okv_r, okv_n, okv_rf, okv_b, okv_0, okv_1, okv_f, okv_d, c1_i, c1_r, c1_n, c1_rf, c1_f, nI_add, n_mul, n_sub, n_pred, n_eq, n_le, n_lt, n_neN, n_Nne, N_lt, N_le, n_ltN, n_leN, rdI_n, rdJ_n, rdD_n, wrI_n, wrI_z0, wrI_z1, wrI_zb, wrJ_n, wrD_n, aln_s, okn_n, upd_is, upd_ne, Nat.add_zero, Nat.add_sub_cancel, decide_true, decide_false, cond_true, cond_false, if_true, if_false, ite_not, not_true_eq_false, not_false_eq_true, Nat.reduceEqDiff, Nat.reduceAdd, Nat.reduceMul, Nat.reduceSub, Nat.reduceLeDiff, b1, lc, q42, nle hdl, q47, c17, ckT, x90, j90, hne]
        refine inn.trans ?_
        simp (disch := first | omega | (simp (disch := omega) only [nx_setf, nx_seta, nx_newo, nx_newa]; omega)) only [x_248_103, x_248_104, x_248_105, x_248_106, x_248_107, x_248_109, x_248_110, x_248_113, x_248_116, x_248_117, kv_s, ki_s, kj_s, kd_s, kq_s, kq_n, kq_o, ka_s, kc_r, kc_t, kc0_r, kc0_t, kch_r, kc0h_r, kw_s, kw0_s, kwh_s, kw0h_s, rg_ref, rg_null, rg_rf, ck_t, sel_some, lkn_hd, Option.isSome_some, Bool.true_and, Bool.and_true, okv_i, okv_l, okv_r, okv_n, okv_rf, okv_b, okv_0, okv_1, okv_f, okv_d, c1_i, c1_r, c1_n, c1_rf, c1_f, nI_add, n_mul, n_sub, n_pred, n_eq, n_le, n_lt, n_neN, n_Nne, N_lt, N_le, n_ltN, n_leN, rdI_n, rdJ_n, rdD_n, wrI_n, wrI_z0, wrI_z1, wrI_zb, wrJ_n, wrD_n, aln_s, okn_n, upd_is, upd_ne, Nat.add_zero, Nat.add_sub_cancel, decide_true, decide_false, cond_true, cond_false, if_true, if_false, ite_not, not_true_eq_false, not_false_eq_true, Nat.reduceEqDiff, Nat.reduceAdd, Nat.reduceMul, Nat.reduceSub, Nat.reduceLeDiff, hB, wr]
  obtain ⟨r0, rs0, ps0, k1, k2, k3⟩ := mk
  have hr0 : r0 ∈ t.rs := by rw [k1]; exact List.mem_cons_self
  have f0 : Fr A w (newa A (zar 2 t.ps.length)) (upL w (nx A) 7) (fun _ => False) 1 t.ps.length := Fr.nwa
  have hn : 0 < t.ps.length := by rw [k2]; simp
  have f1 : Fr A w (seta (newa A (zar 2 t.ps.length)) (nx A) (boA t.ps.length (upd (fun _ => 0) 0 (nI 1)))) (upL w (nx A) 7) (fun _ => False) 1 t.ps.length := f0.san (Nat.le_refl _)
  obtain ⟨B', f', e1, e2, e3, e4⟩ := main rs0 [r0] [(gN S r0, false)] ps0 _ (upd (fun _ => 0) 0 (nI 1)) r0 0 none k1 hr0 k2 rfl k3 f1 (ga_seta_lt (by show nx A < nx A + 1; omega)) (fun i hi2 => by
    by_cases z : i = 0
    · rw [upd_is z, if_pos (by omega), z, k2]
      rfl
    · rw [upd_ne z, if_neg (by omega)]
      rfl)
  refine ⟨B', f', ?_, e3, e4, fun X => ?_⟩
  · obtain ⟨b1, b2, b3, b4, b5⟩ := frW f1
    obtain ⟨c1, c2, c3, c4, c5⟩ := frW f0
    have lg := g2.kc
    have q42 := g2.size (d := d + 2)
    have lc := b3.kc
    have q47 := b3.get (d := d) (k := 0) (by rw [k1]; simp)
    have ex : t.rs.getD 0 0 = r0 := by rw [k1]; rfl
    rw [ex] at q47
    have iv0 := b5 r0 hr0
    have c17 : cin (gcs (seta (newa A (zar 2 t.ps.length)) (nx A) (boA t.ps.length (upd (fun _ => 0) 0 (nI 1)))) (aO r0)) [17] = true := by rw [gcs_d iv0.c]; rfl
    have nc := n_cl (n := t.ps.length) (by omega)
    have wr : wrI 2 (some (zar 2 t.ps.length)) (nI 0) (nI 1) = some (boA t.ps.length (upd (fun _ => 0) 0 (nI 1))) := wrI_z1 hn (by omega)
    have l1 : [r0].length = 1 := rfl
    rw [l1] at e1
    rw [← e1]
    simp (disch := first | omega | (simp (disch := omega) only [nx_setf, nx_seta, nx_newo, nx_newa]; omega)) only [e_248, x_248_0, x_248_1, x_248_4, x_248_7, x_248_9, x_248_10, x_248_11, x_248_12, x_248_13, x_248_14, x_248_15, x_248_16, x_248_17, x_248_20, x_248_21, x_248_24n, x_248_24r, x_248_27, x_248_28, x_248_29, kv_s, ki_s, kj_s, kd_s, kq_s, kq_n, kq_o, ka_s, kc_r, kc_t, kc0_r, kc0_t, kch_r, kc0h_r, kw_s, kw0_s, kwh_s, kw0h_s, rg_ref, rg_null, rg_rf, ck_t, sel_some, lkn_hd, Option.isSome_some, Bool.true_and, Bool.and_true, okv_i, okv_l, okv_r, okv_n, okv_rf, okv_b, okv_0, okv_1, okv_f, okv_d, c1_i, c1_r, c1_n, c1_rf, c1_f, nI_add, n_mul, n_sub, n_pred, n_eq, n_le, n_lt, n_neN, n_Nne, N_lt, N_le, n_ltN, n_leN, rdI_n, rdJ_n, rdD_n, wrI_n, wrI_z0, wrI_z1, wrI_zb, wrJ_n, wrD_n, aln_s, okn_n, upd_is, upd_ne, Nat.add_zero, Nat.add_sub_cancel, decide_true, decide_false, cond_true, cond_false, if_true, if_false, ite_not, not_true_eq_false, not_false_eq_true, Nat.reduceEqDiff, Nat.reduceAdd, Nat.reduceMul, Nat.reduceSub, Nat.reduceLeDiff, gf_setf_ne, gf_setf_p, gf_setf_is, va_rf_s, va_rf_n, gf_seta, ga_setf, gc_setf, gc_seta, ga_seta_ne, ga_seta_eq, gf_new, gc_new, gf_newo_o, gc_newo_o, ga_newo_o, ga_new, gf_newa_o, gc_newa_o, ga_newa_o, nx_setf, nx_seta, nx_newo, nx_newa, su_setf, su_seta, su_newo, su_newa, sg_setf, sg_seta, sg_newo, sg_newa, okq_n, g1, lg, q42, nc, wr, b1, lc, q47, c17, ckT]
  · obtain ⟨a1, a2, a3, a4, a5, a6, a7⟩ := e2
    exact ⟨a1, a2, a3, a4, a5, a6, fun q hq _ => a7 q hq (fun z => z)⟩
end
