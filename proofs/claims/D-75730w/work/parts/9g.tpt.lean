/-! the component's trips: a trip takes a read, or doesn't -/
theorem wyP_take {w : Nat → Int32} {r i : Nat} (h : i < r) : (wyP w r).take (i + 1) = (wyP w r).take i ++ [((w (i + 1)).toNatClampNeg, decide (i + 1 < r))] := by
  have hl : (wyP w r).length = r := by unfold wyP; simp
  rw [List.take_add_one, List.getElem?_eq_getElem (by omega)]
  unfold wyP
  simp
theorem wyP_len {w : Nat → Int32} {r : Nat} : (wyP w r).length = r := by unfold wyP; simp
theorem misN_ap {a b : List (Nat × Bool)} : misN (a ++ b) = misN a + misN b := by
  unfold misN
  exact List.countP_append
theorem misN_wy {w : Nat → Int32} {r g : Nat} (h1 : 1 ≤ r) (hr : w r = nI g) (hg : g < 2147483648) : misN (wyP w r) = r - 1 := by
  rw [wyP_split h1 hr hg, misN_ap]
  have e : misN ((List.range (r - 1)).map fun j => ((w (j + 1)).toNatClampNeg, true)) = r - 1 := by
    unfold misN
    rw [List.countP_eq_length.mpr]
    · simp
    · intro x hx
      obtain ⟨j, _, rfl⟩ := List.mem_map.mp hx
      rfl
  rw [e]
  rfl
section
variable {A A' B : Hp} {w w' : Lb} {X : Nat → Prop} {y l e ci b n c u d x k p q s g0 G D R rr : Nat} {r r' aO : Nat → Nat} {rs : List Nat} {ps : List (Nat × Bool)} {sz v : Int32} {t : Tp} {S f : Nat → Int32}
theorem TpO.sf {g : Nat} (h : TpO A w y l e aO sz t) (hg : g = 130 ∨ g = 131 ∨ g = 132 ∨ g = 129) {v : Value} : gc (setf A y g v) y = some 26 ∧ gf (setf A y g v) y g = some v ∧ (∀ k, k ≠ g → gf (setf A y g v) y k = gf A y k) := ⟨h.c, gf_setf_is (gc_lt h.c), fun k hk => gf_setf_ne hk⟩
/-- a way's gantries come behind a trip's -/
theorem m_242l {a1 g z : Nat} {F : Nat → Int32} {j1 j2 j3 j4 j5 : Option Value} (hl : 0 ≠ l + 2) :
    ∀ (k i : Nat) (B : Hp) (wB : Lb) (ps : List (Nat × Bool)), i + k = rr → rr ≤ 6 → St B wB g0 → gf B y 128 = some (.ref g) → wB y ≠ l + 2 → GlO B wB g (l + 2) (ps ++ (wyP F rr).take i) → ga B a1 = some (0, (7, .inl F)) → wB a1 ≠ l + 2 → ps.length < 1000 → (∀ j, 0 < j → j ≤ rr → ∃ h, h < 12 ∧ F j = nI h) →
    ∃ B' w', exG TB (d + 9) 242 124 [some (.ref y), j1, j2, j3, j4, j5, some (.ref a1), some (.int (nI rr)), some (.int (nI (i + 1)))] [] B = exG TB (d + 9) 242 153 [some (.ref y), j1, j2, j3, j4, j5, some (.ref a1), some (.int (nI rr)), some (.int (nI (rr + 1)))] [] B' ∧ GlO B' w' g (l + 2) (ps ++ wyP F rr) ∧ Fr B wB B' w' (fun z => z = l + 2) (2 * k) (k * (2 * ps.length + 16))
  | 0, i, B, wB, ps, hk, h6, st, g1, wy, gl, na, wa, hp, hF => by
    have e : (wyP F rr).take i = wyP F rr := by rw [show i = (wyP F rr).length from by rw [wyP_len]; omega]; exact List.take_length
    rw [e] at gl
    refine ⟨B, wB, ?_, gl, Fr.rf.mono (fun _ h => h) (by omega) (by omega)⟩
    rw [show i = rr from by omega]
    refine x_242_124.trans ?_
    simp (disch := first | omega | (simp (disch := omega) only [nx_setf, nx_seta, nx_newo, nx_newa]; omega)) only [x_242_126, x_242_128, x_242_131, x_242_132, x_242_135, x_242_137, x_242_139, x_242_140, x_242_143, x_242_146, x_242_147, x_242_150, kv_s, ki_s, kj_s, kd_s, kq_s, kq_n, kq_o, ka_s, kc_r, kc_t, kc0_r, kc0_t, kch_r, kc0h_r, kw_s, kw0_s, kwh_s, kw0h_s, rg_ref, rg_null, rg_rf, ck_t, sel_some, lkn_hd, Option.isSome_some, Bool.true_and, Bool.and_true, okv_i, okv_l, okv_r, okv_n, okv_rf, okv_b, okv_0, okv_1, okv_f, okv_d, c1_i, c1_r, c1_n, c1_rf, c1_f, nI_add, n_mul, n_sub, n_pred, n_eq, n_le, n_lt, n_neN, n_Nne, N_lt, N_le, n_ltN, n_leN, rdI_n, rdJ_n, rdD_n, wrI_n, wrI_z0, wrI_z1, wrI_zb, wrJ_n, wrD_n, aln_s, okn_n, upd_is, upd_ne, Nat.add_zero, Nat.add_sub_cancel, decide_true, decide_false, cond_true, cond_false, if_true, if_false, ite_not, not_true_eq_false, not_false_eq_true, Nat.reduceEqDiff, Nat.reduceAdd, Nat.reduceMul, Nat.reduceSub, Nat.reduceLeDiff, ylt (show rr < rr + 1 by omega)]
  | k + 1, i, B, wB, ps, hk, h6, st, g1, wy, gl, na, wa, hp, hF => by
    obtain ⟨h, hh, eF⟩ := hF (i + 1) (by omega) (by omega)
    obtain ⟨B1, z, e1, i1, wz, f1⟩ := m_25 (d := d + 6) st (g := h) (by omega)
    have gl1 := gl.fr (f1 (fun _ => False)) (fun z => z) (fun z => z)
    have hlen : (ps ++ (wyP F rr).take i).length = ps.length + i := by
      rw [List.length_append, List.length_take, wyP_len]
      omega
    have eC : (F (i + 1)).toNatClampNeg = h := by rw [eF]; exact n_cl (by omega)
    obtain ⟨B2, w2, e2, g2, f2⟩ := GlO.add (d := d + 2) (g := h) (bl := decide (i + 1 < rr)) gl1 (by omega) i1 wz hl
    have st2 := (st.fr (f1 (fun _ => False)) (fun z => z)).fr f2 hl
    have hy : y < nx B := (gf_spec g1).1
    have ha : a1 < nx B := ga_lt na
    have hy1 : y ≠ nx B := Nat.ne_of_lt hy
    have ha1 : a1 ≠ nx B := Nat.ne_of_lt ha
    have wy1 : upL wB (nx B) 0 y ≠ l + 2 := by rw [upL_ne hy1]; exact wy
    have wa1 : upL wB (nx B) 0 a1 ≠ l + 2 := by rw [upL_ne ha1]; exact wa
    have g1a := (f1 (fun _ => False)).fd (fun z => z) g1
    have naa := (f1 (fun _ => False)).ar (fun z => z) na
    have ge : ps ++ (wyP F rr).take (i + 1) = (ps ++ (wyP F rr).take i) ++ [(h, decide (i + 1 < rr))] := by rw [wyP_take (by omega), eC, List.append_assoc]
    rw [← ge] at g2
    obtain ⟨B3, w3, e3, g3, f3⟩ := m_242l (a1 := a1) (z := z) (j1 := j1) (j2 := j2) (j3 := j3) (j4 := j4) (j5 := j5) hl k (i + 1) B2 w2 ps (by omega) h6 st2 (f2.fd wy1 g1a) (by rw [f2.lb wy1 (gf_spec g1a).1]; exact wy1) g2 (f2.ar wa1 naa) (by rw [f2.lb wa1 (ga_lt naa)]; exact wa1) hp hF
    refine ⟨B3, w3, Eq.trans ?_ e3, g3, (((f1 _).trans f2).trans f3).mono (fun _ h => h) (by omega) ?_⟩
    · have rd : rdI 0 (some ((0, (7, .inl F)) : ArC)) (nI (i + 1)) = some (nI h) := by rw [← eF]; exact rdI_n (by omega) (by omega)
      have lc := gl1.kc
      refine x_242_124.trans ?_
      simp (disch := first | omega | (simp (disch := omega) only [nx_setf, nx_seta, nx_newo, nx_newa]; omega)) only [x_242_126, x_242_128, x_242_131, x_242_132, x_242_135, x_242_137, x_242_139, x_242_140, x_242_143, x_242_146, x_242_147, x_242_150, kv_s, ki_s, kj_s, kd_s, kq_s, kq_n, kq_o, ka_s, kc_r, kc_t, kc0_r, kc0_t, kch_r, kc0h_r, kw_s, kw0_s, kwh_s, kw0h_s, rg_ref, rg_null, rg_rf, ck_t, sel_some, lkn_hd, Option.isSome_some, Bool.true_and, Bool.and_true, okv_i, okv_l, okv_r, okv_n, okv_rf, okv_b, okv_0, okv_1, okv_f, okv_d, c1_i, c1_r, c1_n, c1_rf, c1_f, nI_add, n_mul, n_sub, n_pred, n_eq, n_le, n_lt, n_neN, n_Nne, N_lt, N_le, n_ltN, n_leN, rdI_n, rdJ_n, rdD_n, wrI_n, wrI_z0, wrI_z1, wrI_zb, wrJ_n, wrD_n, aln_s, okn_n, upd_is, upd_ne, Nat.add_zero, Nat.add_sub_cancel, decide_true, decide_false, cond_true, cond_false, if_true, if_false, ite_not, not_true_eq_false, not_false_eq_true, Nat.reduceEqDiff, Nat.reduceAdd, Nat.reduceMul, Nat.reduceSub, Nat.reduceLeDiff, nlt (show i + 1 ≤ rr by omega), g1, na, rd, e1, lc, e2]
    · have e : (k + 1) * (2 * ps.length + 16) = k * (2 * ps.length + 16) + (2 * ps.length + 16) := Nat.succ_mul _ _
      rw [hlen, e]
      generalize k * (2 * ps.length + 16) = Z
      omega
theorem rlb_lt (hl : 1000 * b + 1000 < l) {i : Nat} (hi : i < 120) : rlb S b i < l := by
  rcases rlb_c (S := S) (b := b) (i := i) with z | z <;> rw [z] <;> omega
/-- a trip takes a read -/
theorem m_242 (hb : 0 < b) (ok : LyOK S G D R) (st : St A w g0) (nt : WNt A w b q S) (ws : WSt A w b s S) (tp : TpO A w y l 1 aO sz t) (ro : ∀ j, j < R → ObI A w (aO j) (rlb S b j) 17 89 8 (rdFn S j)) (hl : 1000 * b + 1000 < l) (hla : t.la < R) (hx : x < R) (hle : ¬ S (280 + 7 * x + 2) < S (280 + 7 * t.la + 2)) (hrs : t.rs.length < 1000) (hps : t.ps.length < 1000) :
    ∃ A' w', evG TB (d + 14) 242 [.ref y, .ref (aO x), .ref q, .ref s] A = some (.inl (some (.int (bI (tpK S G D t x).isSome))), A') ∧ TpO A' w' y l 1 aO sz ((tpK S G D t x).getD t) ∧ Fr A w A' w' (fun z => z = 7 ∨ z = l ∨ z = l + 1 ∨ z = l + 2) 16 (130 + 12 * t.ps.length + 2 * t.rs.length) := by
  have R120 := ok.R120
  have D40 := ok.net.R40
  have G12 := ok.net.G12
  have cD : cS S 9 = D := by unfold cS; rw [ok.d9]; exact n_cl (by omega)
  obtain ⟨e, ee, le⟩ := elp_n ok hla hx hle
  obtain ⟨gx, lgx, egx⟩ := ok.g x hx
  obtain ⟨gl, lgl, egl⟩ := ok.g t.la hla
  obtain ⟨gap, egap, lgap⟩ := ok.gap
  obtain ⟨sl, esl, lsl⟩ := ok.sl
  have hgx : gN S x = gx := by unfold gN; rw [egx]; exact n_cl (by omega)
  have lx := rlb_lt (S := S) hl (show x < 120 by omega)
  have ll := rlb_lt (S := S) hl (show t.la < 120 by omega)
  have n7x : rlb S b x ≠ 7 := by rcases rlb_c (S := S) (b := b) (i := x) with z | z <;> rw [z] <;> omega
  have n7l : rlb S b t.la ≠ 7 := by rcases rlb_c (S := S) (b := b) (i := t.la) with z | z <;> rw [z] <;> omega
  have ix := ro x hx
  have il := ro t.la hla
  have x90 : gf A (aO x) 90 = some (.int (nI gx)) := by rw [← egx]; exact ix.fs 1 (by decide)
  have x91 : gf A (aO x) 91 = some (.int (S (280 + 7 * x + 2))) := ix.fs 2 (by decide)
  have l90 : gf A (aO t.la) 90 = some (.int (nI gl)) := by rw [← egl]; exact il.fs 1 (by decide)
  have l91 : gf A (aO t.la) 91 = some (.int (S (280 + 7 * t.la + 2))) := il.fs 2 (by decide)
  have f129 := tp.f129
  have eel : S (280 + 7 * x + 2) - S (280 + 7 * t.la + 2) = nI e := ee
  obtain ⟨k1, s1, s1'⟩ := ws.rd (k := 1) (by decide)
  obtain ⟨k0, s0, s0'⟩ := ws.rd (k := 0) (by decide)
  by_cases c1 : gl = gx
  · have e1 : S (280 + 7 * t.la + 1) = S (280 + 7 * x + 1) := by rw [egl, egx, c1]
    have c1' : (gx = gl) = True := eq_true c1.symm
    by_cases c2 : nI e ≤ S 1
    · have hk : tpK S G D t x = some ⟨t.rs ++ [x], t.ps, t.la, t.co, t.to⟩ := by
        unfold tpK
        rw [if_pos e1, if_pos (by rw [ee]; exact c2)]
      rw [hk]
      obtain ⟨r, r1, r2⟩ := tp.rl
      obtain ⟨A', w', e2, e3, e4⟩ := RlO.add (d := d + 6) (x := x) r2 (by omega) (Kd.of ix.c) (by decide)
      have lc := r2.kc
      have c2' : (S 1 < nI e) = False := eq_false (Int32.not_lt.mpr c2)
      have hy := gc_lt tp.c
      have hwy : ¬ w y = l + 1 := by rw [tp.wy]; omega
      refine ⟨A', w', ?_, ?_, e4.mono (fun z h => Or.inr (Or.inr (Or.inl h))) (by omega) (by omega)⟩
      · simp (disch := first | omega | (simp (disch := omega) only [nx_setf, nx_seta, nx_newo, nx_newa]; omega)) only [e_242, x_242_0, x_242_1, x_242_4, x_242_5, x_242_8, x_242_11, x_242_12, x_242_14, x_242_15, x_242_18, x_242_19, x_242_22, x_242_25, x_242_28, x_242_30, x_242_31, x_242_32, x_242_33, x_242_36, x_242_37, x_242_40, x_242_41, x_242_43, x_242_45, x_242_48, x_242_49, x_242_52, x_242_53, x_242_56, x_242_57, x_242_59, x_242_60, x_242_62, x_242_63, x_242_64, x_242_65, x_242_68, x_242_69, kv_s, ki_s, kj_s, kd_s, kq_s, kq_n, kq_o, ka_s, kc_r, kc_t, kc0_r, kc0_t, kch_r, kc0h_r, kw_s, kw0_s, kwh_s, kw0h_s, rg_ref, rg_null, rg_rf, ck_t, sel_some, lkn_hd, Option.isSome_some, Bool.true_and, Bool.and_true, okv_i, okv_l, okv_r, okv_n, okv_rf, okv_b, okv_0, okv_1, okv_f, okv_d, c1_i, c1_r, c1_n, c1_rf, c1_f, nI_add, n_mul, n_sub, n_pred, n_eq, n_le, n_lt, n_neN, n_Nne, N_lt, N_le, n_ltN, n_leN, rdI_n, rdJ_n, rdD_n, wrI_n, wrI_z0, wrI_z1, wrI_zb, wrJ_n, wrD_n, aln_s, okn_n, upd_is, upd_ne, Nat.add_zero, Nat.add_sub_cancel, decide_true, decide_false, cond_true, cond_false, if_true, if_false, ite_not, not_true_eq_false, not_false_eq_true, Nat.reduceEqDiff, Nat.reduceAdd, Nat.reduceMul, Nat.reduceSub, Nat.reduceLeDiff, x91, f129, l91, eel, x90, l90, c1', s1, s1', c2', r1, lc, e2, Option.isSome_some, bI_t]
      · obtain ⟨g, g1, g2⟩ := tp.gl
        exact ⟨e4.cc tp.c, by rw [e4.lb hwy hy]; exact tp.wy, e4.fd hwy tp.f126, ⟨r, e4.fd hwy r1, e3⟩, ⟨g, e4.fd hwy g1, g2.fr e4 (by omega) (by omega)⟩, e4.fd hwy f129, e4.fd hwy tp.f130, e4.fd hwy tp.f131, e4.fd hwy tp.f132⟩
    · have hk : tpK S G D t x = none := by
        unfold tpK
        rw [if_pos e1, if_neg (by rw [ee]; exact c2)]
      rw [hk]
      have c2' : (S 1 < nI e) = True := eq_true (Int32.not_le.mp c2)
      refine ⟨A, w, ?_, tp, Fr.rf.mono (fun _ h => h) (by omega) (by omega)⟩
      simp (disch := first | omega | (simp (disch := omega) only [nx_setf, nx_seta, nx_newo, nx_newa]; omega)) only [e_242, x_242_0, x_242_1, x_242_4, x_242_5, x_242_8, x_242_11, x_242_12, x_242_14, x_242_15, x_242_18, x_242_19, x_242_22, x_242_25, x_242_28, x_242_30, x_242_31, x_242_32, x_242_33, x_242_36, x_242_37, x_242_40, x_242_41, x_242_43, x_242_45, x_242_48, x_242_49, x_242_52, x_242_53, x_242_56, x_242_57, x_242_59, x_242_60, x_242_62, x_242_63, x_242_64, x_242_65, x_242_68, x_242_69, kv_s, ki_s, kj_s, kd_s, kq_s, kq_n, kq_o, ka_s, kc_r, kc_t, kc0_r, kc0_t, kch_r, kc0h_r, kw_s, kw0_s, kwh_s, kw0h_s, rg_ref, rg_null, rg_rf, ck_t, sel_some, lkn_hd, Option.isSome_some, Bool.true_and, Bool.and_true, okv_i, okv_l, okv_r, okv_n, okv_rf, okv_b, okv_0, okv_1, okv_f, okv_d, c1_i, c1_r, c1_n, c1_rf, c1_f, nI_add, n_mul, n_sub, n_pred, n_eq, n_le, n_lt, n_neN, n_Nne, N_lt, N_le, n_ltN, n_leN, rdI_n, rdJ_n, rdD_n, wrI_n, wrI_z0, wrI_z1, wrI_zb, wrJ_n, wrD_n, aln_s, okn_n, upd_is, upd_ne, Nat.add_zero, Nat.add_sub_cancel, decide_true, decide_false, cond_true, cond_false, if_true, if_false, ite_not, not_true_eq_false, not_false_eq_true, Nat.reduceEqDiff, Nat.reduceAdd, Nat.reduceMul, Nat.reduceSub, Nat.reduceLeDiff, x91, f129, l91, eel, x90, l90, c1', s1, s1', c2', Option.isSome_none, bI_f]
  · have e1 : ¬ S (280 + 7 * t.la + 1) = S (280 + 7 * x + 1) := by
      rw [egl, egx]
      exact fun z => c1 ((nI_eq (by omega) (by omega)).mp z)
    have c1' : (gx = gl) = False := eq_false (fun z => c1 z.symm)
    by_cases c2 : S 0 < nI e
    · have hk : tpK S G D t x = none := by
        unfold tpK
        rw [if_neg e1, if_pos (by rw [ee]; exact c2)]
      rw [hk]
      have c2' : (nI e ≤ S 0) = False := eq_false (Int32.not_le.mpr c2)
      refine ⟨A, w, ?_, tp, Fr.rf.mono (fun _ h => h) (by omega) (by omega)⟩
      simp (disch := first | omega | (simp (disch := omega) only [nx_setf, nx_seta, nx_newo, nx_newa]; omega)) only [e_242, x_242_0, x_242_1, x_242_4, x_242_5, x_242_8, x_242_11, x_242_12, x_242_14, x_242_15, x_242_18, x_242_19, x_242_22, x_242_25, x_242_28, x_242_30, x_242_31, x_242_32, x_242_33, x_242_36, x_242_37, x_242_40, x_242_41, x_242_43, x_242_45, x_242_48, x_242_49, x_242_52, x_242_53, x_242_56, x_242_57, x_242_59, x_242_60, x_242_62, x_242_63, x_242_64, x_242_65, x_242_68, x_242_69, kv_s, ki_s, kj_s, kd_s, kq_s, kq_n, kq_o, ka_s, kc_r, kc_t, kc0_r, kc0_t, kch_r, kc0h_r, kw_s, kw0_s, kwh_s, kw0h_s, rg_ref, rg_null, rg_rf, ck_t, sel_some, lkn_hd, Option.isSome_some, Bool.true_and, Bool.and_true, okv_i, okv_l, okv_r, okv_n, okv_rf, okv_b, okv_0, okv_1, okv_f, okv_d, c1_i, c1_r, c1_n, c1_rf, c1_f, nI_add, n_mul, n_sub, n_pred, n_eq, n_le, n_lt, n_neN, n_Nne, N_lt, N_le, n_ltN, n_leN, rdI_n, rdJ_n, rdD_n, wrI_n, wrI_z0, wrI_z1, wrI_zb, wrJ_n, wrD_n, aln_s, okn_n, upd_is, upd_ne, Nat.add_zero, Nat.add_sub_cancel, decide_true, decide_false, cond_true, cond_false, if_true, if_false, ite_not, not_true_eq_false, not_false_eq_true, Nat.reduceEqDiff, Nat.reduceAdd, Nat.reduceMul, Nat.reduceSub, Nat.reduceLeDiff, x91, f129, l91, eel, x90, l90, c1', s0, s0', c2', Option.isSome_none, bI_f]
    · have c2' : (nI e ≤ S 0) = True := eq_true (Int32.not_lt.mp c2)
      have le2 : e ≤ 600 := by
        rw [egap] at c2
        have : ¬ gap < e := fun z => c2 ((nI_ltI (by omega) (by omega)).mpr z)
        omega
      -- the route
      obtain ⟨A1, q231, o1, f1⟩ := m_231 (A := A) (w := w) (d := d + 10) (q := q) (to := gx) (x := nI gl) (el := nI e) ws
      have fF := f1 (fun _ => False)
      have nt1 := nt.fr fF (fun z => z) (fun z => z) (fun z => z) (fun z => z)
      have hN : NetOK S G (cS S 9) := by rw [cD]; exact ok.net
      obtain ⟨A2, F1, F, q228, o2, rt, f2⟩ := m_228r (d := d + 1) hb hN ok.g8 esl lsl le2 o1 nt1 lgl lgx c1
      rw [cD] at rt
      have q230 := m_230 (d := d + 12) o2
      have hbst : tpB S G D t.la x = bst S G D (nI gl) gx (nI e) := by unfold tpB; rw [egl, hgx, ee]
      have bo := best_ok (to := gx) (fr := nI gl) ok.net le2 esl lsl ac0
      have hy := gc_lt tp.c
      have c15 := o1.c
      have c15' := o2.c
      have f12 : Fr A w A2 (srW A w) (fun z => z = 7) 3 25 := ((fF.mono (fun _ h => h.elim) (Nat.le_refl _) (Nat.le_refl _)).trans f2).mono (fun _ h => h) (Nat.le_refl _) (Nat.le_refl _)
      have z90 : ∀ {p v}, gf A p 90 = some v → gf (newo A 15 11 dv15) p 90 = some v := fun h => by rw [gf_newo_o (gf_spec h).1]; exact h
      have z129 : gf (newo A 15 11 dv15) y 129 = some (.ref (aO t.la)) := by rw [gf_newo_o hy]; exact f129
      have x90' := z90 x90
      have l90' := z90 l90
      rcases rt.2 with ⟨t0, t1, t2⟩ | ⟨rr, r6, t0, t1, t4, t5, t6, t7⟩
      · have hk : tpK S G D t x = none := by
          unfold tpK
          rw [if_neg e1, if_neg (by rw [ee]; exact c2), hbst, if_pos t1]
        rw [hk]
        rw [decide_eq_false (not_not_intro t0), bI_f] at q230
        refine ⟨A2, _, ?_, tp.fr f12 (by omega) (by omega) (by omega) (by omega), f12.mono (fun z h => Or.inl h) (by omega) (by omega)⟩
        simp (disch := first | omega | (simp (disch := omega) only [nx_setf, nx_seta, nx_newo, nx_newa]; omega)) only [e_242, x_242_0, x_242_1, x_242_4, x_242_5, x_242_8, x_242_11, x_242_12, x_242_14, x_242_15, x_242_18, x_242_19, x_242_22, x_242_25, x_242_28, x_242_30, x_242_31, x_242_32, x_242_33, x_242_36, x_242_37, x_242_40, x_242_41, x_242_43, x_242_45, x_242_48, x_242_49, x_242_52, x_242_53, x_242_56, x_242_57, x_242_59, x_242_60, x_242_62, x_242_63, x_242_64, x_242_65, x_242_68, x_242_69, x_242_70, x_242_73, x_242_74, x_242_75, x_242_76, x_242_77, x_242_80, x_242_83, x_242_84, x_242_87, x_242_89, x_242_92, x_242_94, x_242_96, x_242_99, x_242_102, x_242_105, x_242_106, kv_s, ki_s, kj_s, kd_s, kq_s, kq_n, kq_o, ka_s, kc_r, kc_t, kc0_r, kc0_t, kch_r, kc0h_r, kw_s, kw0_s, kwh_s, kw0h_s, rg_ref, rg_null, rg_rf, ck_t, sel_some, lkn_hd, Option.isSome_some, Bool.true_and, Bool.and_true, okv_i, okv_l, okv_r, okv_n, okv_rf, okv_b, okv_0, okv_1, okv_f, okv_d, c1_i, c1_r, c1_n, c1_rf, c1_f, nI_add, n_mul, n_sub, n_pred, n_eq, n_le, n_lt, n_neN, n_Nne, N_lt, N_le, n_ltN, n_leN, rdI_n, rdJ_n, rdD_n, wrI_n, wrI_z0, wrI_z1, wrI_zb, wrJ_n, wrD_n, aln_s, okn_n, upd_is, upd_ne, Nat.add_zero, Nat.add_sub_cancel, decide_true, decide_false, cond_true, cond_false, if_true, if_false, ite_not, not_true_eq_false, not_false_eq_true, Nat.reduceEqDiff, Nat.reduceAdd, Nat.reduceMul, Nat.reduceSub, Nat.reduceLeDiff, x91, f129, l91, eel, x90, l90, x90', l90', z129, c1', s0, s0', c2', q231, c15, q228, c15', lk_c, q230, Option.isSome_none, bI_f]
      · rcases bo.2.2 with ⟨_, _, _, y4⟩ | ⟨_, _, _, _, r2, fd, _⟩
        · rw [t1] at y4
          exact absurd y4 (far_ne (by omega))
        have er : rr = r2 := by
          have h := fd.rd
          rw [t1] at h
          have h2 := fd.r6
          exact (nI_eq (by omega) (by omega)).mp h
        subst er
        have r1 := fd.r1
        have nf := fd.nf
        have hF : ∀ j, 0 < j → j ≤ rr → ∃ h, h < 12 ∧ F.2 j = nI h := fun j h0 hj => by
          rw [t7 j hj]
          by_cases z : j = rr
          · rw [z, fd.e]; exact ⟨gx, by omega, rfl⟩
          · obtain ⟨h, h1, _, h2⟩ := fd.g j h0 (by omega)
            exact ⟨h, by omega, h2⟩
        have hFw : wyP F.2 rr = wyP (bst S G D (nI gl) gx (nI e)).2.2.2.2.2 rr := by
          unfold wyP
          refine List.map_congr_left (fun j hj => ?_)
          rw [t7 (j + 1) (by have := List.mem_range.mp hj; omega)]
        have hk : tpK S G D t x = some ⟨t.rs ++ [x], t.ps ++ wyP F.2 rr, x, t.co + F.1 4, t.to + F.1 6⟩ := by
          unfold tpK
          rw [if_neg e1, if_neg (by rw [ee]; exact c2), hbst, if_neg nf, t1, n_cl (by omega), hFw, t4, t6]
        rw [hk]
        rw [decide_eq_true (show ¬ F.1 0 = nN by rw [t0]; exact of_eq_false (n_neN (by omega))), bI_t] at q230
        have mw : misN (wyP F.2 rr) = rr - 1 := misN_wy (g := gx) r1 (by rw [t7 rr (Nat.le_refl _)]; exact fd.e) (by omega)
        -- the heap of the search, the trip in it
        have tp2 := tp.fr f12 (by omega) (by omega) (by omega) (by omega)
        have st2 := st.fr f12 (by omega)
        obtain ⟨g, g1, g2⟩ := tp2.gl
        have g2 : GlO A2 (srW A w) g (l + 2) (t.ps ++ (wyP F.2 rr).take 0) := by rw [List.take_zero, List.append_nil]; exact g2
        have w7 : ¬ 7 = l + 2 := by omega
        have hwa : ¬ (srW A w) (nx A + 2) = l + 2 := by rw [o2.w2]; exact w7
        have hwr : ¬ (srW A w) (nx A) = l + 2 := by rw [o2.wy]; exact w7
        have hwt : ¬ (srW A w) y = l + 2 := by rw [tp2.wy]; omega
        have h02 : ¬ 0 = l + 2 := by omega
        have ht5 : t.ps.length < 1000 := by omega
        obtain ⟨B, wB, eL, gB, fL⟩ := m_242l (d := d + 4) (z := 0) (j1 := some (.ref (aO x))) (j2 := some (.ref q)) (j3 := some (.ref s)) (j4 := some (.int (nI e))) (j5 := some (.ref (nx A))) h02 rr 0 A2 (srW A w) t.ps (Nat.zero_add _) r6 st2 g1 hwt g2 o2.n2 hwa ht5 hF
        have b127 := tp2.rl
        obtain ⟨r, b127, rB⟩ := b127
        have b127 := fL.fd hwt b127
        have b128 := fL.fd hwt g1
        have b130 := fL.fd hwt tp2.f130
        have b131 := fL.fd hwt tp2.f131
        have b132 := fL.fd hwt tp2.f132
        have b126 := fL.fd hwt tp2.f126
        have b129 := fL.fd hwt tp2.f129
        have bc := fL.cc tp2.c
        have rB : RlO B wB r (l + 1) aO t.rs := rB.fr fL (by omega)
        have r87 : gf B (nx A) 87 = some (.int (F.1 6)) := fL.fd hwr (o2.gs 6 (by decide))
        have r85 : gf B (nx A) 85 = some (.int (F.1 4)) := fL.fd hwr (o2.gs 4 (by decide))
        have r80 := o2.f80
        have r81 : gf A2 (nx A) 81 = some (.int (F.1 0)) := o2.gs 0 (by decide)
        rw [t0] at r81
        have wBy : wB y = l := by rw [fL.lb hwt (gc_lt tp2.c)]; exact tp2.wy
        have hyB := gc_lt bc
        have hyr : nx A ≠ y := fun z => by rw [z] at hy; exact absurd hy (Nat.lt_irrefl _)
        have fS : Fr B wB (setf (setf (setf B y 130 (.int (nI (misN t.ps + (rr - 1))))) y 131 (.int (t.to + F.1 6))) y 132 (.int (t.co + F.1 4))) wB (fun z => z = l) 0 0 := ((Fr.stf wBy).trans (Fr.stf wBy)).trans (Fr.stf wBy)
        have h1l : ¬ l + 1 = l := by omega
        have rS := rB.fr fS h1l
        have f1L : Fr A w B wB (fun z => z = 7 ∨ z = l + 2) (3 + 2 * rr) (25 + rr * (2 * t.ps.length + 16)) := (f12.mono (fun z h => Or.inl h) (Nat.le_refl _) (Nat.le_refl _)).trans (fL.mono (fun z h => Or.inr h) (Nat.le_refl _) (Nat.le_refl _))
        have ixB := ix.fr f1L (by omega)
        have ixS := ixB.fr fS (by omega)
        obtain ⟨A5, w5, e5, r5, f5⟩ := RlO.add (d := d + 6) (x := x) rS (by omega) (Kd.of ixS.c) (by decide)
        have lc := rS.kc
        have hw1 : ¬ wB y = l + 1 := by rw [wBy]; omega
        have b129S : gf (setf (setf (setf B y 130 (.int (nI (misN t.ps + (rr - 1))))) y 131 (.int (t.to + F.1 6))) y 132 (.int (t.co + F.1 4))) y 129 = some (.ref (aO t.la)) := by rw [gf_setf_ne (by decide), gf_setf_ne (by decide), gf_setf_ne (by decide)]; exact b129
        have a129 := f5.fd hw1 b129S
        have s130 : gf (setf (setf (setf B y 130 (.int (nI (misN t.ps + (rr - 1))))) y 131 (.int (t.to + F.1 6))) y 132 (.int (t.co + F.1 4))) y 130 = some (.int (nI (misN t.ps + (rr - 1)))) := by rw [gf_setf_ne (by decide), gf_setf_ne (by decide)]; exact gf_setf_is hyB
        have s131 : gf (setf (setf (setf B y 130 (.int (nI (misN t.ps + (rr - 1))))) y 131 (.int (t.to + F.1 6))) y 132 (.int (t.co + F.1 4))) y 131 = some (.int (t.to + F.1 6)) := by rw [gf_setf_ne (by decide)]; exact gf_setf_is (A := setf B y 130 (.int (nI (misN t.ps + (rr - 1))))) hyB
        have s132 : gf (setf (setf (setf B y 130 (.int (nI (misN t.ps + (rr - 1))))) y 131 (.int (t.to + F.1 6))) y 132 (.int (t.co + F.1 4))) y 132 = some (.int (t.co + F.1 4)) := gf_setf_is (A := setf (setf B y 130 (.int (nI (misN t.ps + (rr - 1))))) y 131 (.int (t.to + F.1 6))) hyB
        have s126 : gf (setf (setf (setf B y 130 (.int (nI (misN t.ps + (rr - 1))))) y 131 (.int (t.to + F.1 6))) y 132 (.int (t.co + F.1 4))) y 126 = some (.int sz) := by rw [gf_setf_ne (by decide), gf_setf_ne (by decide), gf_setf_ne (by decide)]; exact b126
        have s127 : gf (setf (setf (setf B y 130 (.int (nI (misN t.ps + (rr - 1))))) y 131 (.int (t.to + F.1 6))) y 132 (.int (t.co + F.1 4))) y 127 = some (.ref r) := by rw [gf_setf_ne (by decide), gf_setf_ne (by decide), gf_setf_ne (by decide)]; exact b127
        have s128 : gf (setf (setf (setf B y 130 (.int (nI (misN t.ps + (rr - 1))))) y 131 (.int (t.to + F.1 6))) y 132 (.int (t.co + F.1 4))) y 128 = some (.ref g) := by rw [gf_setf_ne (by decide), gf_setf_ne (by decide), gf_setf_ne (by decide)]; exact b128
        have gS := gB.fr fS (by omega) (by omega)
        have w5y : w5 y = l := by rw [f5.lb hw1 hyB]; exact wBy
        have hy5 : y < nx A5 := Nat.lt_of_lt_of_le hyB f5.n1
        have f6 : Fr A5 w5 (setf A5 y 129 (.ref (aO x))) w5 (fun z => z = l) 0 0 := Fr.stf w5y
        have g5 := (gS.fr f5 (by omega) (by omega)).fr f6 (by omega) (by omega)
        refine ⟨setf A5 y 129 (.ref (aO x)), w5, ?_, ⟨(f5.cc bc), w5y, ?_, ⟨r, ?_, r5.fr f6 (by omega)⟩, ⟨g, ?_, g5⟩, gf_setf_is hy5, ?_, ?_, ?_⟩, ?_⟩
        · simp (disch := first | omega | (simp (disch := omega) only [nx_setf, nx_seta, nx_newo, nx_newa]; omega)) only [e_242, x_242_0, x_242_1, x_242_4, x_242_5, x_242_8, x_242_11, x_242_12, x_242_14, x_242_15, x_242_18, x_242_19, x_242_22, x_242_25, x_242_28, x_242_30, x_242_31, x_242_32, x_242_33, x_242_36, x_242_37, x_242_40, x_242_41, x_242_43, x_242_45, x_242_48, x_242_49, x_242_52, x_242_53, x_242_56, x_242_57, x_242_59, x_242_60, x_242_62, x_242_63, x_242_64, x_242_65, x_242_68, x_242_69, x_242_70, x_242_73, x_242_74, x_242_75, x_242_76, x_242_77, x_242_80, x_242_83, x_242_84, x_242_87, x_242_89, x_242_92, x_242_94, x_242_96, x_242_99, x_242_102, x_242_105, x_242_106, x_242_107, x_242_109, x_242_112, x_242_114, x_242_116, x_242_119, x_242_121, x_242_122, kv_s, ki_s, kj_s, kd_s, kq_s, kq_n, kq_o, ka_s, kc_r, kc_t, kc0_r, kc0_t, kch_r, kc0h_r, kw_s, kw0_s, kwh_s, kw0h_s, rg_ref, rg_null, rg_rf, ck_t, sel_some, lkn_hd, Option.isSome_some, Bool.true_and, Bool.and_true, okv_i, okv_l, okv_r, okv_n, okv_rf, okv_b, okv_0, okv_1, okv_f, okv_d, c1_i, c1_r, c1_n, c1_rf, c1_f, nI_add, n_mul, n_sub, n_pred, n_eq, n_le, n_lt, n_neN, n_Nne, N_lt, N_le, n_ltN, n_leN, rdI_n, rdJ_n, rdD_n, wrI_n, wrI_z0, wrI_z1, wrI_zb, wrJ_n, wrD_n, aln_s, okn_n, upd_is, upd_ne, Nat.add_zero, Nat.add_sub_cancel, decide_true, decide_false, cond_true, cond_false, if_true, if_false, ite_not, not_true_eq_false, not_false_eq_true, Nat.reduceEqDiff, Nat.reduceAdd, Nat.reduceMul, Nat.reduceSub, Nat.reduceLeDiff, x91, f129, l91, eel, x90, l90, x90', l90', z129, c1', s0, s0', c2', q231, c15, q228, c15', lk_c, q230, r80, r81]
          refine eL.trans ?_
          simp (disch := first | omega | (simp (disch := omega) only [nx_setf, nx_seta, nx_newo, nx_newa]; omega)) only [x_242_153, x_242_154, x_242_155, x_242_158, x_242_160, x_242_161, x_242_162, x_242_163, x_242_166, x_242_167, x_242_168, x_242_171, x_242_173, x_242_176, x_242_177, x_242_180, x_242_181, x_242_182, x_242_185, x_242_187, x_242_190, x_242_191, x_242_194, x_242_195, x_242_198, x_242_199, x_242_202, x_242_203, x_242_204, x_242_205, x_242_208, x_242_209, kv_s, ki_s, kj_s, kd_s, kq_s, kq_n, kq_o, ka_s, kc_r, kc_t, kc0_r, kc0_t, kch_r, kc0h_r, kw_s, kw0_s, kwh_s, kw0h_s, rg_ref, rg_null, rg_rf, ck_t, sel_some, lkn_hd, Option.isSome_some, Bool.true_and, Bool.and_true, okv_i, okv_l, okv_r, okv_n, okv_rf, okv_b, okv_0, okv_1, okv_f, okv_d, c1_i, c1_r, c1_n, c1_rf, c1_f, nI_add, n_mul, n_sub, n_pred, n_eq, n_le, n_lt, n_neN, n_Nne, N_lt, N_le, n_ltN, n_leN, rdI_n, rdJ_n, rdD_n, wrI_n, wrI_z0, wrI_z1, wrI_zb, wrJ_n, wrD_n, aln_s, okn_n, upd_is, upd_ne, Nat.add_zero, Nat.add_sub_cancel, decide_true, decide_false, cond_true, cond_false, if_true, if_false, ite_not, not_true_eq_false, not_false_eq_true, Nat.reduceEqDiff, Nat.reduceAdd, Nat.reduceMul, Nat.reduceSub, Nat.reduceLeDiff, b130, b131, b132, b127, r87, r85, s127, lc, e5, a129, gf_setf_ne, gf_setf_p, Option.isSome_some, bI_t, hyr]
        · rw [gf_setf_ne (by decide)]; exact f5.fd hw1 s126
        · rw [gf_setf_ne (by decide)]; exact f5.fd hw1 s127
        · rw [gf_setf_ne (by decide)]; exact f5.fd hw1 s128
        · rw [gf_setf_ne (by decide)]
          have := f5.fd hw1 s130
          rw [show misN t.ps + (rr - 1) = misN (t.ps ++ wyP F.2 rr) from by rw [misN_ap, mw]] at this
          exact this
        · rw [gf_setf_ne (by decide)]; exact f5.fd hw1 s131
        · rw [gf_setf_ne (by decide)]; exact f5.fd hw1 s132
        · have hm : rr * (2 * t.ps.length + 16) ≤ 6 * (2 * t.ps.length + 16) := Nat.mul_le_mul_right _ r6
          generalize rr * (2 * t.ps.length + 16) = Z at f1L hm
          refine ((((f1L.mono (fun z h => h.elim Or.inl (fun h => Or.inr (Or.inr (Or.inr h)))) (Nat.le_refl _) (Nat.le_refl _)).trans (fS.mono (fun z h => Or.inr (Or.inl h)) (Nat.le_refl _) (Nat.le_refl _))).trans (f5.mono (fun z h => Or.inr (Or.inr (Or.inl h))) (Nat.le_refl _) (Nat.le_refl _))).trans (f6.mono (fun z h => Or.inr (Or.inl h)) (Nat.le_refl _) (Nat.le_refl _))).mono (fun _ h => h) (by omega) (by omega)
end
