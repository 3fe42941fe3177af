/-! the component's World.trips: the reads are put in order -/
section
variable {A A' B : Hp} {w w' : Lb} {X : Nat → Prop} {y e ci b n c u d x k p q s a v bl mk g0 G D R rr m r i L it : Nat} {aO rO : Nat → Nat} {l : List Nat} {t : Tp} {S f : Nat → Int32} {vv nv : Value} {w0 vi : Int32}
theorem ItS.fr (h : ItS A q p m k) (fr : Fr A w A' w' X c u) (hq : ¬ X (w q)) : ItS A' q p m k := by
  obtain ⟨h1, h2, h3, h4, h5⟩ := h
  refine ⟨fr.cc h1, fr.fd hq h2, ?_, fr.fd hq h4, fr.fd hq h5⟩
  obtain ⟨z, hz⟩ := Option.isSome_iff_exists.mp h3
  rw [fr.fd hq hz]
  rfl
theorem TIt.fr (h : TIt A q m n nv) (fr : Fr A w A' w' X c u) (hq : ¬ X (w q)) : TIt A' q m n nv := by
  obtain ⟨h1, h2, h3, h4, h5⟩ := h
  refine ⟨fr.cc h1, fr.fd hq h2, ?_, fr.fd hq h4, fr.fd hq h5⟩
  obtain ⟨z, hz⟩ := Option.isSome_iff_exists.mp h3
  rw [fr.fd hq hz]
  rfl
theorem WL.als (h : WL A w p e n aO) : ∃ a, ALs A p a n n aO ∧ w a = e ∧ p ≠ a := h.2
theorem m_264a (hb : 0 < b) (ok : LyOK S G D R) (hr : WRd A w b r R rO S) (st : St A w g0) (hL : 1000 * b + 1000 < L) (hit : it ≠ r) :
    ∀ (k i : Nat) (B : Hp) (wB : Lb) (o : Option Value) (c u : Nat), i + k = R → Fr A w B wB (fun z => z = 7 ∨ z = L) c u → ItS B it r R i → wB it = 7 → TmO B wB m L rO S (ordL S vi i) .null →
    ∃ o' B' wB', exG TB (d + 14) 264 16 [some (.ref p), some (.int vi), some (.ref m), some (.ref it), o, none, none] [] B = exG TB (d + 14) 264 81 [some (.ref p), some (.int vi), some (.ref m), some (.ref it), o', none, none] [] B' ∧ Fr A w B' wB' (fun z => z = 7 ∨ z = L) (c + 2 * k) (u + 7 * k) ∧ TmO B' wB' m L rO S (ordL S vi R) .null
  | 0, i, B, wB, o, c, u, hk, fr, is, wi, tm => by
    have e : i = R := by omega
    subst e
    have R120 := ok.R120
    have hr' := hr.fr fr (by omega) (by omega) (fun j hj => by omega)
    obtain ⟨a, al, _, _⟩ := hr'.l.als
    have h50 := m_50 (d := d + 13) is al (Nat.le_refl _)
    rw [decide_eq_false (Nat.lt_irrefl _), bI_f] at h50
    have c7 := is.c
    refine ⟨o, B, wB, ?_, fr, tm⟩
    refine x_264_16.trans ?_
    simp (disch := first | omega | (simp (disch := omega) only [nx_setf, nx_seta, nx_newo, nx_newa]; omega)) only [x_264_17, x_264_22, x_264_25, x_264_26, x_264_31n, x_264_31r, x_264_34, x_264_36, x_264_38, x_264_41, x_264_42, x_264_45, x_264_47, x_264_50, x_264_51, x_264_54, x_264_55, x_264_57, x_264_59, x_264_62, x_264_63, x_264_65, x_264_68, x_264_69, x_264_72, x_264_74, x_264_77, x_264_78, kv_s, ki_s, kj_s, kd_s, kq_s, kq_n, kq_o, ka_s, kc_r, kc_t, kc0_r, kc0_t, kch_r, kc0h_r, kw_s, kw0_s, kwh_s, kw0h_s, rg_ref, rg_null, rg_rf, ck_t, sel_some, lkn_hd, Option.isSome_some, Bool.true_and, Bool.and_true, okv_i, okv_l, okv_r, okv_n, okv_rf, okv_b, okv_0, okv_1, okv_f, okv_d, c1_i, c1_r, c1_n, c1_rf, c1_f, nI_add, n_mul, n_sub, n_pred, n_eq, n_le, n_lt, n_neN, n_Nne, N_lt, N_le, n_ltN, n_leN, rdI_n, rdJ_n, rdD_n, wrI_n, wrI_z0, wrI_z1, wrI_zb, wrJ_n, wrD_n, aln_s, okn_n, upd_is, upd_ne, Nat.add_zero, Nat.add_sub_cancel, decide_true, decide_false, cond_true, cond_false, if_true, if_false, ite_not, not_true_eq_false, not_false_eq_true, Nat.reduceEqDiff, Nat.reduceAdd, Nat.reduceMul, Nat.reduceSub, Nat.reduceLeDiff, c7, h50]
  | k + 1, i, B, wB, o, c, u, hk, fr, is, wi, tm => by
    have R120 := ok.R120
    have hi : i < R := by omega
    have hr' := hr.fr fr (by omega) (by omega) (fun j hj => by omega)
    obtain ⟨a, al, wa, _⟩ := hr'.l.als
    have h50 := m_50 (d := d + 13) is al (by omega)
    rw [decide_eq_true hi, bI_t] at h50
    obtain ⟨h51, is1⟩ := m_51 (d := d + 12) is al hi hit
    have c7 := is.c
    have f1 : Fr B wB (itN B it i) wB (fun z => z = 7) 0 0 := (Fr.stf wi).trans (Fr.stf wi)
    have hB1 : setf (setf B it 37 (.int (nI (i + 1)))) it 38 (.int (nI i)) = itN B it i := rfl
    rw [hB1] at h51 is1
    have fr1 : Fr A w (itN B it i) wB (fun z => z = 7 ∨ z = L) c u := fr.trans (f1.mono (fun z h => Or.inl h) (Nat.le_refl _) (Nat.le_refl _))
    have io := (hr'.o i hi).fr f1 (by rcases rlb_c (S := S) (b := b) (i := i) with z | z <;> rw [z] <;> omega)
    have tm1 := tm.fr f1 (by omega) (by omega)
    have c17 : cin (gcs (itN B it i) (rO i)) [17] = true := by rw [gcs_d io.c]; rfl
    have v93 : gf (itN B it i) (rO i) 93 = some (.int (S (280 + 7 * i))) := io.fs 4 (by decide)
    have v95 : gf (itN B it i) (rO i) 95 = some (.int (S (280 + 7 * i + 5))) := io.fs 6 (by decide)
    have ord := ordL_succ S vi i
    by_cases e1 : S (280 + 7 * i) = vi
    · by_cases e2 : S (280 + 7 * i + 5) = nI 1
      · rw [if_pos ⟨e1, e2⟩] at ord
        obtain ⟨T, hT⟩ : ∃ T : Nat → Nat, ∀ j, j < R → T j ≤ 100000 ∧ S (280 + 7 * j + 2) = nI (T j) := ⟨fun j => (S (280 + 7 * j + 2)).toNatClampNeg, fun j hj => by
          obtain ⟨t, h1, h2⟩ := ok.t j hj
          have : (S (280 + 7 * j + 2)).toNatClampNeg = t := by rw [h2]; exact n_cl (by omega)
          dsimp only
          rw [this]
          exact ⟨h1, h2⟩⟩
        have kr := kyN_lt hT R120 hi
        obtain ⟨t1, t2⟩ := hT i hi
        have v91 : gf (itN B it i) (rO i) 91 = some (.int (nI (T i))) := by rw [← t2]; exact io.fs 2 (by decide)
        have v89 : gf (itN B it i) (rO i) 89 = some (.int (nI i)) := io.fs 0 (by decide)
        have st1 := st.fr fr1 (by omega)
        obtain ⟨B2, kO, e3, i3, w3, f2⟩ := m_25 (d := d + 11) st1 (g := kyN S i) (by omega)
        rw [kr.1] at e3
        have fr2 := fr1.trans (f2 (fun z => z = 7 ∨ z = L))
        have tm2 := tm1.fr (f2 (fun _ => False)) (fun z => z) (fun z => z)
        have io2 := io.fr (f2 (fun _ => False)) (fun z => z)
        have om := ordL_ok' S vi i
        obtain ⟨B3, e4, tm3, f3⟩ := tm2.put (d := d + 6) hT R120 (fun x hx => ((om.mem x).mp hx).1) hi i3 w3 (Kd.of io2.c) (by have := om.len; omega)
        rw [← ord] at tm3
        have is2 := is1.fr (f2 (fun _ => False)) (fun z => z)
        have lit : it < nx (itN B it i) := gc_lt is1.c
        have wi2 : upL wB (nx (itN B it i)) 0 it = 7 := by rw [upL_ne (Nat.ne_of_lt lit)]; exact wi
        have is3 := is2.fr f3 (by rw [wi2]; omega)
        have wi3 := f3.lb (by rw [wi2]; omega) (gc_lt is2.c)
        rw [wi2] at wi3
        have fr3 := fr2.trans (f3.mono (Y := fun z => z = 7 ∨ z = L) (fun z h => Or.inr h) (Nat.le_refl _) (Nat.le_refl _))
        obtain ⟨o', B', wB', g1, g2, g3⟩ := m_264a hb ok hr st hL hit k (i + 1) B3 _ (some (.ref (rO i))) _ _ (by omega) fr3 is3 wi3 tm3
        refine ⟨o', B', wB', Eq.trans ?_ g1, g2.mono (fun _ h => h) (by omega) (by omega), g3⟩
        obtain ⟨es, ky, kA, vl, tms, _⟩ := tm2
        have c20 := tms.c
        refine x_264_16.trans ?_
        simp (disch := first | omega | (simp (disch := omega) only [nx_setf, nx_seta, nx_newo, nx_newa]; omega)) only [x_264_17, x_264_22, x_264_25, x_264_26, x_264_31n, x_264_31r, x_264_34, x_264_36, x_264_38, x_264_41, x_264_42, x_264_45, x_264_47, x_264_50, x_264_51, x_264_54, x_264_55, x_264_57, x_264_59, x_264_62, x_264_63, x_264_65, x_264_68, x_264_69, x_264_72, x_264_74, x_264_77, x_264_78, kv_s, ki_s, kj_s, kd_s, kq_s, kq_n, kq_o, ka_s, kc_r, kc_t, kc0_r, kc0_t, kch_r, kc0h_r, kw_s, kw0_s, kwh_s, kw0h_s, rg_ref, rg_null, rg_rf, ck_t, sel_some, lkn_hd, Option.isSome_some, Bool.true_and, Bool.and_true, okv_i, okv_l, okv_r, okv_n, okv_rf, okv_b, okv_0, okv_1, okv_f, okv_d, c1_i, c1_r, c1_n, c1_rf, c1_f, nI_add, n_mul, n_sub, n_pred, n_eq, n_le, n_lt, n_neN, n_Nne, N_lt, N_le, n_ltN, n_leN, rdI_n, rdJ_n, rdD_n, wrI_n, wrI_z0, wrI_z1, wrI_zb, wrJ_n, wrD_n, aln_s, okn_n, upd_is, upd_ne, Nat.add_zero, Nat.add_sub_cancel, decide_true, decide_false, cond_true, cond_false, if_true, if_false, ite_not, not_true_eq_false, not_false_eq_true, Nat.reduceEqDiff, Nat.reduceAdd, Nat.reduceMul, Nat.reduceSub, Nat.reduceLeDiff, c7, h50, h51, c17, ckT, v93, v95, e1, e2, eq_self, v91, v89, e3, c20, e4]
      · rw [if_neg (fun z => e2 z.2)] at ord
        rw [← ord] at tm1
        obtain ⟨o', B', wB', g1, g2, g3⟩ := m_264a hb ok hr st hL hit k (i + 1) (itN B it i) wB (some (.ref (rO i))) c u (by omega) fr1 is1 wi tm1
        refine ⟨o', B', wB', Eq.trans ?_ g1, g2.mono (fun _ h => h) (by omega) (by omega), g3⟩
        have e2' := eq_false e2
        refine x_264_16.trans ?_
        simp (disch := first | omega | (simp (disch := omega) only [nx_setf, nx_seta, nx_newo, nx_newa]; omega)) only [x_264_17, x_264_22, x_264_25, x_264_26, x_264_31n, x_264_31r, x_264_34, x_264_36, x_264_38, x_264_41, x_264_42, x_264_45, x_264_47, x_264_50, x_264_51, x_264_54, x_264_55, x_264_57, x_264_59, x_264_62, x_264_63, x_264_65, x_264_68, x_264_69, x_264_72, x_264_74, x_264_77, x_264_78, kv_s, ki_s, kj_s, kd_s, kq_s, kq_n, kq_o, ka_s, kc_r, kc_t, kc0_r, kc0_t, kch_r, kc0h_r, kw_s, kw0_s, kwh_s, kw0h_s, rg_ref, rg_null, rg_rf, ck_t, sel_some, lkn_hd, Option.isSome_some, Bool.true_and, Bool.and_true, okv_i, okv_l, okv_r, okv_n, okv_rf, okv_b, okv_0, okv_1, okv_f, okv_d, c1_i, c1_r, c1_n, c1_rf, c1_f, nI_add, n_mul, n_sub, n_pred, n_eq, n_le, n_lt, n_neN, n_Nne, N_lt, N_le, n_ltN, n_leN, rdI_n, rdJ_n, rdD_n, wrI_n, wrI_z0, wrI_z1, wrI_zb, wrJ_n, wrD_n, aln_s, okn_n, upd_is, upd_ne, Nat.add_zero, Nat.add_sub_cancel, decide_true, decide_false, cond_true, cond_false, if_true, if_false, ite_not, not_true_eq_false, not_false_eq_true, Nat.reduceEqDiff, Nat.reduceAdd, Nat.reduceMul, Nat.reduceSub, Nat.reduceLeDiff, c7, h50, h51, c17, ckT, v93, v95, e1, e2', eq_self]
    · rw [if_neg (fun z => e1 z.1)] at ord
      rw [← ord] at tm1
      obtain ⟨o', B', wB', g1, g2, g3⟩ := m_264a hb ok hr st hL hit k (i + 1) (itN B it i) wB (some (.ref (rO i))) c u (by omega) fr1 is1 wi tm1
      refine ⟨o', B', wB', Eq.trans ?_ g1, g2.mono (fun _ h => h) (by omega) (by omega), g3⟩
      have e1' := eq_false e1
      refine x_264_16.trans ?_
      simp (disch := first | omega | (simp (disch := omega) only [nx_setf, nx_seta, nx_newo, nx_newa]; omega)) only [x_264_17, x_264_22, x_264_25, x_264_26, x_264_31n, x_264_31r, x_264_34, x_264_36, x_264_38, x_264_41, x_264_42, x_264_45, x_264_47, x_264_50, x_264_51, x_264_54, x_264_55, x_264_57, x_264_59, x_264_62, x_264_63, x_264_65, x_264_68, x_264_69, x_264_72, x_264_74, x_264_77, x_264_78, kv_s, ki_s, kj_s, kd_s, kq_s, kq_n, kq_o, ka_s, kc_r, kc_t, kc0_r, kc0_t, kch_r, kc0h_r, kw_s, kw0_s, kwh_s, kw0h_s, rg_ref, rg_null, rg_rf, ck_t, sel_some, lkn_hd, Option.isSome_some, Bool.true_and, Bool.and_true, okv_i, okv_l, okv_r, okv_n, okv_rf, okv_b, okv_0, okv_1, okv_f, okv_d, c1_i, c1_r, c1_n, c1_rf, c1_f, nI_add, n_mul, n_sub, n_pred, n_eq, n_le, n_lt, n_neN, n_Nne, N_lt, N_le, n_ltN, n_leN, rdI_n, rdJ_n, rdD_n, wrI_n, wrI_z0, wrI_z1, wrI_zb, wrJ_n, wrD_n, aln_s, okn_n, upd_is, upd_ne, Nat.add_zero, Nat.add_sub_cancel, decide_true, decide_false, cond_true, cond_false, if_true, if_false, ite_not, not_true_eq_false, not_false_eq_true, Nat.reduceEqDiff, Nat.reduceAdd, Nat.reduceMul, Nat.reduceSub, Nat.reduceLeDiff, c7, h50, h51, c17, ckT, v93, e1']
end
