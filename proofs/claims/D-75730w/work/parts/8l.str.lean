/-! String: hash, equality, the words -/
def hsh (l : List Nat) : Int32 := l.foldl (fun h x => nI 31 * h + nI x) (nI 0)
/-- a string, laid in this run or standing -/
abbrev StE (A : Hp) (q : Nat) (l : List Nat) : Prop := (Kd A q 5) ∧ (∃ a f, gfs A q 25 = some (.ref a) ∧ gas A a = some (byA f l.length) ∧ a < nx A ∧ ∀ i x, l[i]? = some x → f i = nI x) ∧ (gfs A q 26 = some (.int (nI 0))) ∧ (l.length ≤ 1000) ∧ (∀ y, y ∈ l → y < 128)
theorem StE.k {A : Hp} {q : Nat} {l : List Nat} (hse1f : StE A q l) : Kd A q 5 := hse1f.1
theorem StE.e {A : Hp} {q : Nat} {l : List Nat} (hse1f : StE A q l) : ∃ a f, gfs A q 25 = some (.ref a) ∧ gas A a = some (byA f l.length) ∧ a < nx A ∧ ∀ i x, l[i]? = some x → f i = nI x := hse1f.2.1
theorem StE.co {A : Hp} {q : Nat} {l : List Nat} (hse1f : StE A q l) : gfs A q 26 = some (.int (nI 0)) := hse1f.2.2.1
theorem StE.cp {A : Hp} {q : Nat} {l : List Nat} (hse1f : StE A q l) : l.length ≤ 1000 := hse1f.2.2.2.1
theorem StE.x {A : Hp} {q : Nat} {l : List Nat} (hse1f : StE A q l) : ∀ y, y ∈ l → y < 128 := hse1f.2.2.2.2
section
variable {A A' : Hp} {w w' : Lb} {X : Nat → Prop} {sb lb cap d x c s a n q q' g0 : Nat} {l l' : List Nat} {f g : Nat → Int32}
theorem StrS.e' (h : StrS A w q lb l) : StE A q l := by
  obtain ⟨c1, ws, ⟨a, f, e1, e2, e3, e4⟩, co, h, z, cp, x⟩ := h
  exact ⟨Kd.of c1, ⟨a, f, gfs_d e1, gas_d e3, ga_lt e3, e4⟩, gfs_d co, cp, x⟩
theorem St.str (h : St A w g0) {k : Nat} (h2 : 2 ≤ k) (h6 : k ≤ 6) : StE A (sAd (sg A) k) (txB k) ∧ w (sAd (sg A) k) = 0 := by
  obtain ⟨b1, b2, b3, a, e, b4, b5, b6, b7⟩ := h.sg0.tx k h2 h6
  have hx := h.nx0
  refine ⟨⟨⟨Nat.lt_of_lt_of_le b1 hx, by rw [h.gC b1]; exact b2⟩, ⟨a, e, by rw [h.gF b1]; exact b5, by rw [h.gA b4]; exact b6, Nat.lt_of_lt_of_le b4 hx, b7⟩, by rw [h.gF b1]; exact b3, ?_, ?_⟩, h.lb _ b1⟩
  · unfold txB
    repeat' split
    all_goals decide
  · unfold txB
    repeat' split
    all_goals decide
theorem m_17_lp {a b : Nat} (h1 : gas A a = some (byA f n)) (h2 : gas A b = some (byA g n)) (hn : n ≤ 1000) : ∀ (k i : Nat), i + k = n → ∃ r : Bool, exG TB d 17 9 [some (.ref a), some (.ref b), some (.int (nI i))] [] A = some (.inl (some (.int (bI r))), A) ∧ (r = true ↔ ∀ j, i ≤ j → j < n → f j = g j)
  | 0, i, hk => by
    have : i = n := by omega
    subst this
    refine ⟨true, x_17_9.trans ?_, ⟨fun _ j h1 h2 => by omega, fun _ => rfl⟩⟩
    rw [bI_t]
    simp (disch := first | omega | (simp (disch := omega) only [nx_setf, nx_seta, nx_newo, nx_newa]; omega)) only [x_17_10, x_17_11, x_17_12, x_17_15, x_17_16, x_17_17, x_17_18, x_17_19, x_17_20, x_17_21, x_17_24, x_17_25, x_17_26, x_17_29, x_17_32, x_17_33, x_17_34, x_17_35, kv_s, ki_s, kj_s, kd_s, kq_s, kq_n, kq_o, ka_s, kc_r, kc_t, kc0_r, kc0_t, kch_r, kc0h_r, kw_s, kw0_s, kwh_s, kw0h_s, rg_ref, rg_null, rg_rf, ck_t, sel_some, lkn_hd, Option.isSome_some, Bool.true_and, Bool.and_true, okv_i, okv_l, okv_r, okv_n, okv_rf, okv_b, okv_0, okv_1, okv_f, okv_d, c1_i, c1_r, c1_n, c1_rf, c1_f, nI_add, n_mul, n_sub, n_pred, n_eq, n_le, n_lt, n_neN, n_Nne, N_lt, N_le, n_ltN, n_leN, rdI_n, rdJ_n, rdD_n, wrI_n, wrI_z0, wrI_z1, wrI_zb, wrJ_n, wrD_n, aln_s, okn_n, upd_is, upd_ne, Nat.add_zero, Nat.add_sub_cancel, decide_true, decide_false, cond_true, cond_false, if_true, if_false, ite_not, not_true_eq_false, not_false_eq_true, Nat.reduceEqDiff, Nat.reduceAdd, Nat.reduceMul, Nat.reduceSub, Nat.reduceLeDiff, h1, yle (Nat.le_refl i)]
  | k + 1, i, hk => by
    have hi : i < n := by omega
    have r1 := rdI_n (t := 1) (f := f) hi (by omega)
    have r2 := rdI_n (t := 1) (f := g) hi (by omega)
    rcases pc (f i = g i) with e | e
    · obtain ⟨r, q1, q2⟩ := m_17_lp h1 h2 hn k (i + 1) (by omega)
      refine ⟨r, x_17_9.trans ?_, q2.trans ⟨fun z j j1 j2 => ?_, fun z j j1 j2 => z j (by omega) j2⟩⟩
      · rw [← q1]
        simp (disch := first | omega | (simp (disch := omega) only [nx_setf, nx_seta, nx_newo, nx_newa]; omega)) only [x_17_10, x_17_11, x_17_12, x_17_15, x_17_16, x_17_17, x_17_18, x_17_19, x_17_20, x_17_21, x_17_24, x_17_25, x_17_26, x_17_29, x_17_32, x_17_33, x_17_34, x_17_35, kv_s, ki_s, kj_s, kd_s, kq_s, kq_n, kq_o, ka_s, kc_r, kc_t, kc0_r, kc0_t, kch_r, kc0h_r, kw_s, kw0_s, kwh_s, kw0h_s, rg_ref, rg_null, rg_rf, ck_t, sel_some, lkn_hd, Option.isSome_some, Bool.true_and, Bool.and_true, okv_i, okv_l, okv_r, okv_n, okv_rf, okv_b, okv_0, okv_1, okv_f, okv_d, c1_i, c1_r, c1_n, c1_rf, c1_f, nI_add, n_mul, n_sub, n_pred, n_eq, n_le, n_lt, n_neN, n_Nne, N_lt, N_le, n_ltN, n_leN, rdI_n, rdJ_n, rdD_n, wrI_n, wrI_z0, wrI_z1, wrI_zb, wrJ_n, wrD_n, aln_s, okn_n, upd_is, upd_ne, Nat.add_zero, Nat.add_sub_cancel, decide_true, decide_false, cond_true, cond_false, if_true, if_false, ite_not, not_true_eq_false, not_false_eq_true, Nat.reduceEqDiff, Nat.reduceAdd, Nat.reduceMul, Nat.reduceSub, Nat.reduceLeDiff, h1, h2, nle hi, r1, r2, e]
      · by_cases hj : j = i
        · rw [hj]; exact of_eq_true e
        · exact z j (by omega) j2
    · refine ⟨false, x_17_9.trans ?_, ⟨fun z => by (cases z), fun z => absurd (z i (Nat.le_refl _) hi) (of_eq_false e)⟩⟩
      rw [bI_f]
      simp (disch := first | omega | (simp (disch := omega) only [nx_setf, nx_seta, nx_newo, nx_newa]; omega)) only [x_17_10, x_17_11, x_17_12, x_17_15, x_17_16, x_17_17, x_17_18, x_17_19, x_17_20, x_17_21, x_17_24, x_17_25, x_17_26, x_17_29, x_17_32, x_17_33, x_17_34, x_17_35, kv_s, ki_s, kj_s, kd_s, kq_s, kq_n, kq_o, ka_s, kc_r, kc_t, kc0_r, kc0_t, kch_r, kc0h_r, kw_s, kw0_s, kwh_s, kw0h_s, rg_ref, rg_null, rg_rf, ck_t, sel_some, lkn_hd, Option.isSome_some, Bool.true_and, Bool.and_true, okv_i, okv_l, okv_r, okv_n, okv_rf, okv_b, okv_0, okv_1, okv_f, okv_d, c1_i, c1_r, c1_n, c1_rf, c1_f, nI_add, n_mul, n_sub, n_pred, n_eq, n_le, n_lt, n_neN, n_Nne, N_lt, N_le, n_ltN, n_leN, rdI_n, rdJ_n, rdD_n, wrI_n, wrI_z0, wrI_z1, wrI_zb, wrJ_n, wrD_n, aln_s, okn_n, upd_is, upd_ne, Nat.add_zero, Nat.add_sub_cancel, decide_true, decide_false, cond_true, cond_false, if_true, if_false, ite_not, not_true_eq_false, not_false_eq_true, Nat.reduceEqDiff, Nat.reduceAdd, Nat.reduceMul, Nat.reduceSub, Nat.reduceLeDiff, h1, h2, nle hi, r1, r2, e]
theorem m_17 {a b n' : Nat} (h1 : gas A a = some (byA f n)) (h2 : gas A b = some (byA g n')) (hn : n ≤ 1000) (hn' : n' ≤ 1000) : ∃ r : Bool, evG TB (d + 1) 17 [.ref a, .ref b] A = some (.inl (some (.int (bI r))), A) ∧ (r = true ↔ n = n' ∧ ∀ j, j < n → f j = g j) := by
  rcases pc (n = n') with e | e
  · have e' := of_eq_true e
    subst e'
    obtain ⟨r, q1, q2⟩ := m_17_lp (d := d) h1 h2 hn n 0 (by omega)
    refine ⟨r, ?_, q2.trans ⟨fun z => ⟨rfl, fun j hj => z j (Nat.zero_le _) hj⟩, fun z j _ hj => z.2 j hj⟩⟩
    simp (disch := first | omega | (simp (disch := omega) only [nx_setf, nx_seta, nx_newo, nx_newa]; omega)) only [e_17, x_17_0, x_17_1, x_17_2, x_17_3, x_17_4, x_17_7, x_17_8, kv_s, ki_s, kj_s, kd_s, kq_s, kq_n, kq_o, ka_s, kc_r, kc_t, kc0_r, kc0_t, kch_r, kc0h_r, kw_s, kw0_s, kwh_s, kw0h_s, rg_ref, rg_null, rg_rf, ck_t, sel_some, lkn_hd, Option.isSome_some, Bool.true_and, Bool.and_true, okv_i, okv_l, okv_r, okv_n, okv_rf, okv_b, okv_0, okv_1, okv_f, okv_d, c1_i, c1_r, c1_n, c1_rf, c1_f, nI_add, n_mul, n_sub, n_pred, n_eq, n_le, n_lt, n_neN, n_Nne, N_lt, N_le, n_ltN, n_leN, rdI_n, rdJ_n, rdD_n, wrI_n, wrI_z0, wrI_z1, wrI_zb, wrJ_n, wrD_n, aln_s, okn_n, upd_is, upd_ne, Nat.add_zero, Nat.add_sub_cancel, decide_true, decide_false, cond_true, cond_false, if_true, if_false, ite_not, not_true_eq_false, not_false_eq_true, Nat.reduceEqDiff, Nat.reduceAdd, Nat.reduceMul, Nat.reduceSub, Nat.reduceLeDiff, h1, h2, q1]
  · refine ⟨false, ?_, ⟨fun z => by (cases z), fun z => absurd z.1 (of_eq_false e)⟩⟩
    rw [bI_f]
    simp (disch := first | omega | (simp (disch := omega) only [nx_setf, nx_seta, nx_newo, nx_newa]; omega)) only [e_17, x_17_0, x_17_1, x_17_2, x_17_3, x_17_4, x_17_7, x_17_8, x_17_9, x_17_10, x_17_11, x_17_12, x_17_15, x_17_16, x_17_17, x_17_18, x_17_19, x_17_20, x_17_21, x_17_24, x_17_25, x_17_26, x_17_29, x_17_32, x_17_33, x_17_34, x_17_35, kv_s, ki_s, kj_s, kd_s, kq_s, kq_n, kq_o, ka_s, kc_r, kc_t, kc0_r, kc0_t, kch_r, kc0h_r, kw_s, kw0_s, kwh_s, kw0h_s, rg_ref, rg_null, rg_rf, ck_t, sel_some, lkn_hd, Option.isSome_some, Bool.true_and, Bool.and_true, okv_i, okv_l, okv_r, okv_n, okv_rf, okv_b, okv_0, okv_1, okv_f, okv_d, c1_i, c1_r, c1_n, c1_rf, c1_f, nI_add, n_mul, n_sub, n_pred, n_eq, n_le, n_lt, n_neN, n_Nne, N_lt, N_le, n_ltN, n_leN, rdI_n, rdJ_n, rdD_n, wrI_n, wrI_z0, wrI_z1, wrI_zb, wrJ_n, wrD_n, aln_s, okn_n, upd_is, upd_ne, Nat.add_zero, Nat.add_sub_cancel, decide_true, decide_false, cond_true, cond_false, if_true, if_false, ite_not, not_true_eq_false, not_false_eq_true, Nat.reduceEqDiff, Nat.reduceAdd, Nat.reduceMul, Nat.reduceSub, Nat.reduceLeDiff, h1, h2, e]
theorem lst_eq (hf : ∀ i x, l[i]? = some x → f i = nI x) (hg : ∀ i x, l'[i]? = some x → g i = nI x) (hx : ∀ y, y ∈ l → y < 128) (hx' : ∀ y, y ∈ l' → y < 128) : l = l' ↔ (l.length = l'.length ∧ ∀ j, j < l.length → f j = g j) := by
  constructor
  · intro e
    subst e
    refine ⟨rfl, fun j hj => ?_⟩
    rw [hf j _ (List.getElem?_eq_getElem hj), hg j _ (List.getElem?_eq_getElem hj)]
  · rintro ⟨e1, e2⟩
    refine List.ext_getElem e1 (fun i h1 h2 => ?_)
    have q1 := hf i _ (List.getElem?_eq_getElem h1)
    have q2 := hg i _ (List.getElem?_eq_getElem h2)
    have q3 := hx _ (List.getElem_mem h1)
    have q4 := hx' _ (List.getElem_mem h2)
    have := e2 i h1
    rw [q1, q2] at this
    exact (nI_eq (by omega) (by omega)).mp this
theorem m_121 (h : StE A q l) (h' : StE A q' l') : evG TB (d + 2) 121 [.ref q, .ref q'] A = some (.inl (some (.int (bI (decide (l = l'))))), A) := by
  obtain ⟨k1, ⟨a, f, e1, e2, e3, e4⟩, co, cp, hx⟩ := h
  obtain ⟨k1', ⟨a', f', e1', e2', e3', e4'⟩, co', cp', hx'⟩ := h'
  rcases pc (q = q') with e | e
  · have e' := of_eq_true e
    subst e'
    rw [e1] at e1'; cases e1'
    rw [e2] at e2'
    have hl : l = l' := by
      have z := Option.some.inj e2'
      injection z with _ z
      injection z with z1 z2
      injection z2 with z3
      exact (lst_eq e4 e4' hx hx').mpr ⟨z1, fun j _ => by rw [z3]⟩
    rw [decide_eq_true hl, bI_t]
    simp (disch := first | omega | (simp (disch := omega) only [nx_setf, nx_seta, nx_newo, nx_newa]; omega)) only [e_121, x_121_0, x_121_1, x_121_2, x_121_2rn, x_121_2nr, x_121_2nn, x_121_5, x_121_6, x_121_7, x_121_8n, x_121_8y, x_121_11, x_121_14, x_121_15n, x_121_15r, x_121_18, x_121_19, x_121_22, x_121_25, x_121_26, x_121_29, x_121_30, x_121_33, x_121_36, x_121_37, x_121_40, x_121_41, x_121_44, x_121_47, x_121_50, x_121_51, x_121_54, x_121_55, kv_s, ki_s, kj_s, kd_s, kq_s, kq_n, kq_o, ka_s, kc_r, kc_t, kc0_r, kc0_t, kch_r, kc0h_r, kw_s, kw0_s, kwh_s, kw0h_s, rg_ref, rg_null, rg_rf, ck_t, sel_some, lkn_hd, Option.isSome_some, Bool.true_and, Bool.and_true, okv_i, okv_l, okv_r, okv_n, okv_rf, okv_b, okv_0, okv_1, okv_f, okv_d, c1_i, c1_r, c1_n, c1_rf, c1_f, nI_add, n_mul, n_sub, n_pred, n_eq, n_le, n_lt, n_neN, n_Nne, N_lt, N_le, n_ltN, n_leN, rdI_n, rdJ_n, rdD_n, wrI_n, wrI_z0, wrI_z1, wrI_zb, wrJ_n, wrD_n, aln_s, okn_n, upd_is, upd_ne, Nat.add_zero, Nat.add_sub_cancel, decide_true, decide_false, cond_true, cond_false, if_true, if_false, ite_not, not_true_eq_false, not_false_eq_true, Nat.reduceEqDiff, Nat.reduceAdd, Nat.reduceMul, Nat.reduceSub, Nat.reduceLeDiff, e]
  · obtain ⟨r, q1, q2⟩ := m_17 (d := d) e2 e2' cp cp'
    have hr : r = decide (l = l') := by
      cases r with
      | true => exact (decide_eq_true ((lst_eq e4 e4' hx hx').mpr (q2.mp rfl))).symm
      | false => exact (decide_eq_false (fun z => by have := q2.mpr ((lst_eq e4 e4' hx hx').mp z); cases this)).symm
    rw [hr] at q1
    have c5 : cin (gcs A q') [5] = true := by rw [k1'.2]; rfl
    have c5' : cin (some 5) [5] = true := rfl
    have kk := k1'.2
    cases hd : decide (l = l') with
    | true =>
      rw [hd, bI_t] at q1
      rw [bI_t]
      simp (disch := first | omega | exact c5) only [e_121, x_121_0, x_121_1, x_121_2, x_121_2rn, x_121_2nr, x_121_2nn, x_121_5, x_121_6, x_121_7, x_121_8n, x_121_8y, x_121_11, x_121_14, x_121_15n, x_121_15r, x_121_18, x_121_19, x_121_22, x_121_25, x_121_26, x_121_29, x_121_30, x_121_33, x_121_36, x_121_37, x_121_40, x_121_41, x_121_44, x_121_47, x_121_50, x_121_51, x_121_54, x_121_55, kv_s, ki_s, kj_s, kd_s, kq_s, kq_n, kq_o, ka_s, kc_r, kc_t, kc0_r, kc0_t, kch_r, kc0h_r, kw_s, kw0_s, kwh_s, kw0h_s, rg_ref, rg_null, rg_rf, ck_t, sel_some, lkn_hd, Option.isSome_some, Bool.true_and, Bool.and_true, okv_i, okv_l, okv_r, okv_n, okv_rf, okv_b, okv_0, okv_1, okv_f, okv_d, c1_i, c1_r, c1_n, c1_rf, c1_f, nI_add, n_mul, n_sub, n_pred, n_eq, n_le, n_lt, n_neN, n_Nne, N_lt, N_le, n_ltN, n_leN, rdI_n, rdJ_n, rdD_n, wrI_n, wrI_z0, wrI_z1, wrI_zb, wrJ_n, wrD_n, aln_s, okn_n, upd_is, upd_ne, Nat.add_zero, Nat.add_sub_cancel, decide_true, decide_false, cond_true, cond_false, if_true, if_false, ite_not, not_true_eq_false, not_false_eq_true, Nat.reduceEqDiff, Nat.reduceAdd, Nat.reduceMul, Nat.reduceSub, Nat.reduceLeDiff, e, kk, co, co', e1, e1', q1, c5', ckT, eq_self]
    | false =>
      rw [hd, bI_f] at q1
      rw [bI_f]
      simp (disch := first | omega | exact c5) only [e_121, x_121_0, x_121_1, x_121_2, x_121_2rn, x_121_2nr, x_121_2nn, x_121_5, x_121_6, x_121_7, x_121_8n, x_121_8y, x_121_11, x_121_14, x_121_15n, x_121_15r, x_121_18, x_121_19, x_121_22, x_121_25, x_121_26, x_121_29, x_121_30, x_121_33, x_121_36, x_121_37, x_121_40, x_121_41, x_121_44, x_121_47, x_121_50, x_121_51, x_121_54, x_121_55, kv_s, ki_s, kj_s, kd_s, kq_s, kq_n, kq_o, ka_s, kc_r, kc_t, kc0_r, kc0_t, kch_r, kc0h_r, kw_s, kw0_s, kwh_s, kw0h_s, rg_ref, rg_null, rg_rf, ck_t, sel_some, lkn_hd, Option.isSome_some, Bool.true_and, Bool.and_true, okv_i, okv_l, okv_r, okv_n, okv_rf, okv_b, okv_0, okv_1, okv_f, okv_d, c1_i, c1_r, c1_n, c1_rf, c1_f, nI_add, n_mul, n_sub, n_pred, n_eq, n_le, n_lt, n_neN, n_Nne, N_lt, N_le, n_ltN, n_leN, rdI_n, rdJ_n, rdD_n, wrI_n, wrI_z0, wrI_z1, wrI_zb, wrJ_n, wrD_n, aln_s, okn_n, upd_is, upd_ne, Nat.add_zero, Nat.add_sub_cancel, decide_true, decide_false, cond_true, cond_false, if_true, if_false, ite_not, not_true_eq_false, not_false_eq_true, Nat.reduceEqDiff, Nat.reduceAdd, Nat.reduceMul, Nat.reduceSub, Nat.reduceLeDiff, e, kk, co, co', e1, e1', q1, c5', ckT, eq_self]
theorem m_4_lp {a : Nat} (h1 : ga A a = some (byA f l.length)) (hf : ∀ i x, l[i]? = some x → f i = nI x) (hx : ∀ y, y ∈ l → y < 128) (hn : l.length ≤ 1000) : ∀ (k i : Nat) (v : Int32), i + k = l.length → exG TB d 4 8 [some (.int v), some (.ref a), some (.int (nI 0)), some (.int (nI l.length)), some (.int (nI l.length)), some (.int (nI i))] [] A = some (.inl (some (.int ((l.drop i).foldl (fun h x => nI 31 * h + nI x) v))), A)
  | 0, i, v, hk => by
    have hi : i = l.length := by omega
    subst hi
    refine x_4_8.trans ?_
    rw [List.drop_length]
    simp (disch := first | omega | (simp (disch := omega) only [nx_setf, nx_seta, nx_newo, nx_newa]; omega)) only [x_4_10, x_4_12, x_4_15, x_4_17, x_4_18, x_4_19, x_4_20, x_4_22, x_4_23, x_4_26, x_4_27, x_4_28, x_4_29, x_4_32, x_4_35, x_4_36, kv_s, ki_s, kj_s, kd_s, kq_s, kq_n, kq_o, ka_s, kc_r, kc_t, kc0_r, kc0_t, kch_r, kc0h_r, kw_s, kw0_s, kwh_s, kw0h_s, rg_ref, rg_null, rg_rf, ck_t, sel_some, lkn_hd, Option.isSome_some, Bool.true_and, Bool.and_true, okv_i, okv_l, okv_r, okv_n, okv_rf, okv_b, okv_0, okv_1, okv_f, okv_d, c1_i, c1_r, c1_n, c1_rf, c1_f, nI_add, n_mul, n_sub, n_pred, n_eq, n_le, n_lt, n_neN, n_Nne, N_lt, N_le, n_ltN, n_leN, rdI_n, rdJ_n, rdD_n, wrI_n, wrI_z0, wrI_z1, wrI_zb, wrJ_n, wrD_n, aln_s, okn_n, upd_is, upd_ne, Nat.add_zero, Nat.add_sub_cancel, decide_true, decide_false, cond_true, cond_false, if_true, if_false, ite_not, not_true_eq_false, not_false_eq_true, Nat.reduceEqDiff, Nat.reduceAdd, Nat.reduceMul, Nat.reduceSub, Nat.reduceLeDiff, yle (Nat.le_refl l.length), List.foldl_nil]
  | k + 1, i, v, hk => by
    have hi : i < l.length := by omega
    have r1 := rdI_n (t := 1) (f := f) hi (by omega)
    have g1 := gas_d h1
    rw [hf i _ (List.getElem?_eq_getElem hi)] at r1
    have a255 := and_255 (hx _ (List.getElem_mem hi))
    have ih := m_4_lp h1 hf hx hn k (i + 1) (nI 31 * v + nI l[i]) (by omega)
    refine x_4_8.trans ?_
    rw [List.drop_eq_getElem_cons hi, List.foldl_cons, ← ih]
    simp (disch := first | omega | (simp (disch := omega) only [nx_setf, nx_seta, nx_newo, nx_newa]; omega)) only [x_4_10, x_4_12, x_4_15, x_4_17, x_4_18, x_4_19, x_4_20, x_4_22, x_4_23, x_4_26, x_4_27, x_4_28, x_4_29, x_4_32, kv_s, ki_s, kj_s, kd_s, kq_s, kq_n, kq_o, ka_s, kc_r, kc_t, kc0_r, kc0_t, kch_r, kc0h_r, kw_s, kw0_s, kwh_s, kw0h_s, rg_ref, rg_null, rg_rf, ck_t, sel_some, lkn_hd, Option.isSome_some, Bool.true_and, Bool.and_true, okv_i, okv_l, okv_r, okv_n, okv_rf, okv_b, okv_0, okv_1, okv_f, okv_d, c1_i, c1_r, c1_n, c1_rf, c1_f, nI_add, n_mul, n_sub, n_pred, n_eq, n_le, n_lt, n_neN, n_Nne, N_lt, N_le, n_ltN, n_leN, rdI_n, rdJ_n, rdD_n, wrI_n, wrI_z0, wrI_z1, wrI_zb, wrJ_n, wrD_n, aln_s, okn_n, upd_is, upd_ne, Nat.add_zero, Nat.add_sub_cancel, decide_true, decide_false, cond_true, cond_false, if_true, if_false, ite_not, not_true_eq_false, not_false_eq_true, Nat.reduceEqDiff, Nat.reduceAdd, Nat.reduceMul, Nat.reduceSub, Nat.reduceLeDiff, nle hi, g1, r1, a255]
theorem hsh_1 {x : Nat} : hsh [x] = nI x := by
  show nI 31 * nI 0 + nI x = nI x
  have : nI 31 * nI 0 = 0 := by decide
  rw [this, Int32.zero_add]
theorem m_16 {a : Nat} (h1 : ga A a = some (byA f l.length)) (hf : ∀ i x, l[i]? = some x → f i = nI x) (hx : ∀ y, y ∈ l → y < 128) (hn : l.length ≤ 1000) : evG TB (d + 3) 16 [.ref a] A = some (.inl (some (.int (hsh l))), A) := by
  have g1 := gas_d h1
  rcases Nat.lt_trichotomy l.length 1 with e | e | e
  · have e0 : l = [] := List.length_eq_zero_iff.mp (by omega)
    subst e0
    have sw : lsw [(0, 28), (1, 32)] 42 (nI ([] : List Nat).length) = 28 := by decide
    simp (disch := first | omega | (simp (disch := omega) only [nx_setf, nx_seta, nx_newo, nx_newa]; omega)) only [e_16, x_16_0, x_16_1, x_16_2, x_16_28, x_16_29, x_16_32, x_16_33, x_16_34, x_16_35, x_16_38, x_16_39, x_16_42, x_16_43, x_16_44, x_16_45, x_16_46, x_16_47, x_16_48, x_16_51, kv_s, ki_s, kj_s, kd_s, kq_s, kq_n, kq_o, ka_s, kc_r, kc_t, kc0_r, kc0_t, kch_r, kc0h_r, kw_s, kw0_s, kwh_s, kw0h_s, rg_ref, rg_null, rg_rf, ck_t, sel_some, lkn_hd, Option.isSome_some, Bool.true_and, Bool.and_true, okv_i, okv_l, okv_r, okv_n, okv_rf, okv_b, okv_0, okv_1, okv_f, okv_d, c1_i, c1_r, c1_n, c1_rf, c1_f, nI_add, n_mul, n_sub, n_pred, n_eq, n_le, n_lt, n_neN, n_Nne, N_lt, N_le, n_ltN, n_leN, rdI_n, rdJ_n, rdD_n, wrI_n, wrI_z0, wrI_z1, wrI_zb, wrJ_n, wrD_n, aln_s, okn_n, upd_is, upd_ne, Nat.add_zero, Nat.add_sub_cancel, decide_true, decide_false, cond_true, cond_false, if_true, if_false, ite_not, not_true_eq_false, not_false_eq_true, Nat.reduceEqDiff, Nat.reduceAdd, Nat.reduceMul, Nat.reduceSub, Nat.reduceLeDiff, g1, sw]
    rfl
  · obtain ⟨x, hl⟩ := List.length_eq_one_iff.mp e
    subst hl
    have sw : lsw [(0, 28), (1, 32)] 42 (nI [x].length) = 32 := by
      show lsw _ _ (nI 1) = 32
      decide
    have r1 := rdI_n (t := 1) (f := f) (k := 0) (n := [x].length) (Nat.succ_pos _) (by show 1 ≤ 2147483648; decide)
    rw [hf 0 x rfl] at r1
    have a255 := and_255 (hx x (by simp))
    simp (disch := first | omega | (simp (disch := omega) only [nx_setf, nx_seta, nx_newo, nx_newa]; omega)) only [e_16, x_16_0, x_16_1, x_16_2, x_16_28, x_16_29, x_16_32, x_16_33, x_16_34, x_16_35, x_16_38, x_16_39, x_16_42, x_16_43, x_16_44, x_16_45, x_16_46, x_16_47, x_16_48, x_16_51, kv_s, ki_s, kj_s, kd_s, kq_s, kq_n, kq_o, ka_s, kc_r, kc_t, kc0_r, kc0_t, kch_r, kc0h_r, kw_s, kw0_s, kwh_s, kw0h_s, rg_ref, rg_null, rg_rf, ck_t, sel_some, lkn_hd, Option.isSome_some, Bool.true_and, Bool.and_true, okv_i, okv_l, okv_r, okv_n, okv_rf, okv_b, okv_0, okv_1, okv_f, okv_d, c1_i, c1_r, c1_n, c1_rf, c1_f, nI_add, n_mul, n_sub, n_pred, n_eq, n_le, n_lt, n_neN, n_Nne, N_lt, N_le, n_ltN, n_leN, rdI_n, rdJ_n, rdD_n, wrI_n, wrI_z0, wrI_z1, wrI_zb, wrJ_n, wrD_n, aln_s, okn_n, upd_is, upd_ne, Nat.add_zero, Nat.add_sub_cancel, decide_true, decide_false, cond_true, cond_false, if_true, if_false, ite_not, not_true_eq_false, not_false_eq_true, Nat.reduceEqDiff, Nat.reduceAdd, Nat.reduceMul, Nat.reduceSub, Nat.reduceLeDiff, g1, sw, r1, a255, hsh_1]
  · have sw : lsw [(0, 28), (1, 32)] 42 (nI l.length) = 42 := by
      show (if nI l.length = 0 then 28 else if nI l.length = 1 then 32 else 42) = 42
      have e0 : (0 : Int32) = nI 0 := rfl
      have e1 : (1 : Int32) = nI 1 := rfl
      rw [e0, e1, if_neg (fun z => by have := (nI_eq (by omega) (by omega)).mp z; omega), if_neg (fun z => by have := (nI_eq (by omega) (by omega)).mp z; omega)]
    have q := m_4_lp (d := d) h1 hf hx hn l.length 0 (nI 0) (by omega)
    have at1 : atag (some (byA f l.length)) 1 = true := rfl
    have sw2 : swt 4 [44, 57, 129, 129, 90, 103, 116] 129 (nI 4) = 44 := by decide
    have z0 : 0 + l.length = l.length := Nat.zero_add _
    rw [List.drop_zero] at q
    simp (disch := first | omega | (simp (disch := omega) only [nx_setf, nx_seta, nx_newo, nx_newa]; omega)) only [e_16, x_16_0, x_16_1, x_16_2, x_16_28, x_16_29, x_16_32, x_16_33, x_16_34, x_16_35, x_16_38, x_16_39, x_16_42, x_16_43, x_16_44, x_16_45, x_16_46, x_16_47, x_16_48, x_16_51, e_3, x_3_0, x_3_2, x_3_44, x_3_45, x_3_46, x_3_49, x_3_50, x_3_51, x_3_54, x_3_57, x_3_61, x_3_64, x_3_65, x_3_66, x_3_69, x_3_70, x_3_74, x_3_77, x_3_78, x_3_82, x_3_83, x_3_87, x_3_90, x_3_91, x_3_92, x_3_95, x_3_96, x_3_97, x_3_100, x_3_103, x_3_104, x_3_108, x_3_109, x_3_113, x_3_116, x_3_117, x_3_118, x_3_121, x_3_122, x_3_126, x_3_132, x_3_133, x_3_136, x_3_137, x_3_145, x_3_150, x_3_157, e_4, x_4_0, x_4_1, x_4_2, x_4_3, x_4_5, x_4_6, kv_s, ki_s, kj_s, kd_s, kq_s, kq_n, kq_o, ka_s, kc_r, kc_t, kc0_r, kc0_t, kch_r, kc0h_r, kw_s, kw0_s, kwh_s, kw0h_s, rg_ref, rg_null, rg_rf, ck_t, sel_some, lkn_hd, Option.isSome_some, Bool.true_and, Bool.and_true, okv_i, okv_l, okv_r, okv_n, okv_rf, okv_b, okv_0, okv_1, okv_f, okv_d, c1_i, c1_r, c1_n, c1_rf, c1_f, nI_add, n_mul, n_sub, n_pred, n_eq, n_le, n_lt, n_neN, n_Nne, N_lt, N_le, n_ltN, n_leN, rdI_n, rdJ_n, rdD_n, wrI_n, wrI_z0, wrI_z1, wrI_zb, wrJ_n, wrD_n, aln_s, okn_n, upd_is, upd_ne, Nat.add_zero, Nat.add_sub_cancel, decide_true, decide_false, cond_true, cond_false, if_true, if_false, ite_not, not_true_eq_false, not_false_eq_true, Nat.reduceEqDiff, Nat.reduceAdd, Nat.reduceMul, Nat.reduceSub, Nat.reduceLeDiff, g1, h1, sw, sw2, at1, ckT, z0, q]
    rfl
/-- the hash of a new string -/
theorem m_119 (h : StrS A w q lb l) : ∃ A', evG TB (d + 5) 119 [.ref q] A = some (.inl (some (.int (hsh l))), A') ∧ StE A' q l ∧ Fr A w A' w (fun l => l = lb) 0 0 := by
  have h0 := h
  obtain ⟨c1, ws, ⟨a, f, e1, e2, e3, e4⟩, co, hh, z, cp, hx⟩ := h
  have q16 := m_16 (d := d + 1) e3 e4 hx cp
  have q120 : evG TB (d + 4) 120 [.ref q] A = some (.inl (some (.int (nI 1))), A) := by
    have := gfs_d co
    simp (disch := first | omega | (simp (disch := omega) only [nx_setf, nx_seta, nx_newo, nx_newa]; omega)) only [e_120, x_120_0, x_120_3, x_120_6, x_120_7, x_120_10, x_120_13, x_120_14, x_120_17, x_120_18, kv_s, ki_s, kj_s, kd_s, kq_s, kq_n, kq_o, ka_s, kc_r, kc_t, kc0_r, kc0_t, kch_r, kc0h_r, kw_s, kw0_s, kwh_s, kw0h_s, rg_ref, rg_null, rg_rf, ck_t, sel_some, lkn_hd, Option.isSome_some, Bool.true_and, Bool.and_true, okv_i, okv_l, okv_r, okv_n, okv_rf, okv_b, okv_0, okv_1, okv_f, okv_d, c1_i, c1_r, c1_n, c1_rf, c1_f, nI_add, n_mul, n_sub, n_pred, n_eq, n_le, n_lt, n_neN, n_Nne, N_lt, N_le, n_ltN, n_leN, rdI_n, rdJ_n, rdD_n, wrI_n, wrI_z0, wrI_z1, wrI_zb, wrJ_n, wrD_n, aln_s, okn_n, upd_is, upd_ne, Nat.add_zero, Nat.add_sub_cancel, decide_true, decide_false, cond_true, cond_false, if_true, if_false, ite_not, not_true_eq_false, not_false_eq_true, Nat.reduceEqDiff, Nat.reduceAdd, Nat.reduceMul, Nat.reduceSub, Nat.reduceLeDiff, this]
  have k5 := gcs_d c1
  have hq := gc_lt c1
  have e1' := gfs_d e1
  have st : ∀ g v, g ≠ 25 → g ≠ 26 → StE (setf A q g v) q l := fun g v n1 n2 => ⟨Kd.of c1, ⟨a, f, gfs_d (by rw [gf_setf_ne n1.symm]; exact e1), gas_d e3, ga_lt e3, e4⟩, gfs_d (by rw [gf_setf_ne n2.symm]; exact co), cp, hx⟩
  rcases pc (hsh l = nI 0) with e | e
  · refine ⟨setf A q 28 (.int (nI 1)), ?_, st _ _ (by decide) (by decide), Fr.stf ws⟩
    rw [of_eq_true e] at q16 ⊢
    have o5 : okv 5 (.int (nI 1)) = true := by decide
    simp (disch := first | omega | (simp (disch := omega) only [nx_setf, nx_seta, nx_newo, nx_newa]; omega)) only [e_119, x_119_0, x_119_1, x_119_4, x_119_5, x_119_6, x_119_9, x_119_10, x_119_13, x_119_16, x_119_17, x_119_20, x_119_23, x_119_24, x_119_27, x_119_30, x_119_33, x_119_34, x_119_40, x_119_41, x_119_42, x_119_45, x_119_46, x_119_47, x_119_50, x_119_53, x_119_54, x_119_55, x_119_58, x_119_59, kv_s, ki_s, kj_s, kd_s, kq_s, kq_n, kq_o, ka_s, kc_r, kc_t, kc0_r, kc0_t, kch_r, kc0h_r, kw_s, kw0_s, kwh_s, kw0h_s, rg_ref, rg_null, rg_rf, ck_t, sel_some, lkn_hd, Option.isSome_some, Bool.true_and, Bool.and_true, okv_i, okv_l, okv_r, okv_n, okv_rf, okv_b, okv_0, okv_1, okv_f, okv_d, c1_i, c1_r, c1_n, c1_rf, c1_f, nI_add, n_mul, n_sub, n_pred, n_eq, n_le, n_lt, n_neN, n_Nne, N_lt, N_le, n_ltN, n_leN, rdI_n, rdJ_n, rdD_n, wrI_n, wrI_z0, wrI_z1, wrI_zb, wrJ_n, wrD_n, aln_s, okn_n, upd_is, upd_ne, Nat.add_zero, Nat.add_sub_cancel, decide_true, decide_false, cond_true, cond_false, if_true, if_false, ite_not, not_true_eq_false, not_false_eq_true, Nat.reduceEqDiff, Nat.reduceAdd, Nat.reduceMul, Nat.reduceSub, Nat.reduceLeDiff, hh, z, k5, e1', q120, q16, o5, ckT]
  · refine ⟨setf A q 27 (.int (hsh l)), ?_, st _ _ (by decide) (by decide), Fr.stf ws⟩
    simp (disch := first | omega | (simp (disch := omega) only [nx_setf, nx_seta, nx_newo, nx_newa]; omega)) only [e_119, x_119_0, x_119_1, x_119_4, x_119_5, x_119_6, x_119_9, x_119_10, x_119_13, x_119_16, x_119_17, x_119_20, x_119_23, x_119_24, x_119_27, x_119_30, x_119_33, x_119_34, x_119_40, x_119_41, x_119_42, x_119_45, x_119_46, x_119_47, x_119_50, x_119_53, x_119_54, x_119_55, x_119_58, x_119_59, kv_s, ki_s, kj_s, kd_s, kq_s, kq_n, kq_o, ka_s, kc_r, kc_t, kc0_r, kc0_t, kch_r, kc0h_r, kw_s, kw0_s, kwh_s, kw0h_s, rg_ref, rg_null, rg_rf, ck_t, sel_some, lkn_hd, Option.isSome_some, Bool.true_and, Bool.and_true, okv_i, okv_l, okv_r, okv_n, okv_rf, okv_b, okv_0, okv_1, okv_f, okv_d, c1_i, c1_r, c1_n, c1_rf, c1_f, nI_add, n_mul, n_sub, n_pred, n_eq, n_le, n_lt, n_neN, n_Nne, N_lt, N_le, n_ltN, n_leN, rdI_n, rdJ_n, rdD_n, wrI_n, wrI_z0, wrI_z1, wrI_zb, wrJ_n, wrD_n, aln_s, okn_n, upd_is, upd_ne, Nat.add_zero, Nat.add_sub_cancel, decide_true, decide_false, cond_true, cond_false, if_true, if_false, ite_not, not_true_eq_false, not_false_eq_true, Nat.reduceEqDiff, Nat.reduceAdd, Nat.reduceMul, Nat.reduceSub, Nat.reduceLeDiff, hh, z, k5, e1', q120, q16, e]
def wdI (l : List Nat) : Int32 := if l = txB 2 then nI 0 else if l = txB 3 then nI 1 else if l = txB 4 then nI 2 else if l = txB 5 then nI 3 else if l = txB 6 then nI 4 else nN
theorem hsh_c : hsh (txB 2) = -1253191065 ∧ hsh (txB 4) = -1177318867 ∧ hsh (txB 6) = 113762 ∧ hsh (txB 3) = 3505952 ∧ hsh (txB 5) = 342069036 := by decide
/-- the word that letters spell -/
theorem m_166 (st : St A w g0) (h : SbS A w sb lb cap l) (l0 : lb ≠ 0) : ∃ A' w', evG TB (d + 7) 166 [.ref sb] A = some (.inl (some (.int (wdI l))), A') ∧ Fr A w A' w' (fun l => l = lb) 2 (4 + l.length) := by
  obtain ⟨A1, w1, r, e1, e2, e3⟩ := m_112 (d := d) h
  obtain ⟨A2, f1, f2, f3⟩ := m_119 (d := d + 1) e2
  have l0' : ¬ (0 = lb) := fun e => l0 e.symm
  have st2 := (st.fr e3 l0').fr f3 l0'
  refine ⟨A2, w1, ?_, (e3.trans f3).mono (fun _ h => h) (Nat.le_refl _) (Nat.le_refl _)⟩
  have k5 := gcs_d e2.c
  have kk := f2.k.2
  have q2 := m_121 (d := d + 4) f2 (st2.str (k := 2) (by decide) (by decide)).1
  have q3 := m_121 (d := d + 4) f2 (st2.str (k := 3) (by decide) (by decide)).1
  have q4 := m_121 (d := d + 4) f2 (st2.str (k := 4) (by decide) (by decide)).1
  have q5 := m_121 (d := d + 4) f2 (st2.str (k := 5) (by decide) (by decide)).1
  have q6 := m_121 (d := d + 4) f2 (st2.str (k := 6) (by decide) (by decide)).1
  obtain ⟨h2, h4, h6, h3, h5⟩ := hsh_c
  have hw : ∃ pc, lsw [((-1253191065), 64), ((-1177318867), 94), (113762, 124), (3505952, 79), (342069036, 109)] 136 (hsh l) = pc ∧ ((pc = 64 ∧ hsh l = hsh (txB 2)) ∨ (pc = 94 ∧ hsh l = hsh (txB 4)) ∨ (pc = 124 ∧ hsh l = hsh (txB 6)) ∨ (pc = 79 ∧ hsh l = hsh (txB 3)) ∨ (pc = 109 ∧ hsh l = hsh (txB 5)) ∨ (pc = 136 ∧ l ≠ txB 2 ∧ l ≠ txB 3 ∧ l ≠ txB 4 ∧ l ≠ txB 5 ∧ l ≠ txB 6)) := by
    by_cases c2 : hsh l = -1253191065
    · exact ⟨64, by (show (if hsh l = -1253191065 then 64 else if hsh l = -1177318867 then 94 else if hsh l = 113762 then 124 else if hsh l = 3505952 then 79 else if hsh l = 342069036 then 109 else 136) = 64; rw [if_pos c2]), Or.inl ⟨rfl, c2.trans h2.symm⟩⟩
    by_cases c4 : hsh l = -1177318867
    · exact ⟨94, by (show (if hsh l = -1253191065 then 64 else if hsh l = -1177318867 then 94 else if hsh l = 113762 then 124 else if hsh l = 3505952 then 79 else if hsh l = 342069036 then 109 else 136) = 94; rw [if_neg c2, if_pos c4]), Or.inr (Or.inl ⟨rfl, c4.trans h4.symm⟩)⟩
    by_cases c6 : hsh l = 113762
    · exact ⟨124, by (show (if hsh l = -1253191065 then 64 else if hsh l = -1177318867 then 94 else if hsh l = 113762 then 124 else if hsh l = 3505952 then 79 else if hsh l = 342069036 then 109 else 136) = 124; rw [if_neg c2, if_neg c4, if_pos c6]), Or.inr (Or.inr (Or.inl ⟨rfl, c6.trans h6.symm⟩))⟩
    by_cases c3 : hsh l = 3505952
    · exact ⟨79, by (show (if hsh l = -1253191065 then 64 else if hsh l = -1177318867 then 94 else if hsh l = 113762 then 124 else if hsh l = 3505952 then 79 else if hsh l = 342069036 then 109 else 136) = 79; rw [if_neg c2, if_neg c4, if_neg c6, if_pos c3]), Or.inr (Or.inr (Or.inr (Or.inl ⟨rfl, c3.trans h3.symm⟩)))⟩
    by_cases c5 : hsh l = 342069036
    · exact ⟨109, by (show (if hsh l = -1253191065 then 64 else if hsh l = -1177318867 then 94 else if hsh l = 113762 then 124 else if hsh l = 3505952 then 79 else if hsh l = 342069036 then 109 else 136) = 109; rw [if_neg c2, if_neg c4, if_neg c6, if_neg c3, if_pos c5]), Or.inr (Or.inr (Or.inr (Or.inr (Or.inl ⟨rfl, c5.trans h5.symm⟩))))⟩
    exact ⟨136, by (show (if hsh l = -1253191065 then 64 else if hsh l = -1177318867 then 94 else if hsh l = 113762 then 124 else if hsh l = 3505952 then 79 else if hsh l = 342069036 then 109 else 136) = 136; rw [if_neg c2, if_neg c4, if_neg c6, if_neg c3, if_neg c5]), Or.inr (Or.inr (Or.inr (Or.inr (Or.inr (⟨rfl, fun e => c2 (by rw [e]; exact h2), fun e => c3 (by rw [e]; exact h3), fun e => c4 (by rw [e]; exact h4), fun e => c5 (by rw [e]; exact h5), fun e => c6 (by rw [e]; exact h6)⟩)))))⟩
  obtain ⟨pc, hpc, hw⟩ := hw
  have s0 : swt 0 [172, 176, 180, 184, 188] 192 (nI 0) = 172 := by decide
  have s1 : swt 0 [172, 176, 180, 184, 188] 192 (nI 1) = 176 := by decide
  have s2 : swt 0 [172, 176, 180, 184, 188] 192 (nI 2) = 180 := by decide
  have s3 : swt 0 [172, 176, 180, 184, 188] 192 (nI 3) = 184 := by decide
  have s4 : swt 0 [172, 176, 180, 184, 188] 192 (nI 4) = 188 := by decide
  have sn : swt 0 [172, 176, 180, 184, 188] 192 nN = 192 := by decide
  rcases hw with ⟨hp, hh⟩ | ⟨hp, hh⟩ | ⟨hp, hh⟩ | ⟨hp, hh⟩ | ⟨hp, hh⟩ | ⟨hp, n2, n3, n4, n5, n6⟩
  · subst hp
    have n3 : l ≠ txB 3 := fun e => (by decide : hsh (txB 3) ≠ hsh (txB 2)) (by rw [← e]; exact hh)
    have n4 : l ≠ txB 4 := fun e => (by decide : hsh (txB 4) ≠ hsh (txB 2)) (by rw [← e]; exact hh)
    have n5 : l ≠ txB 5 := fun e => (by decide : hsh (txB 5) ≠ hsh (txB 2)) (by rw [← e]; exact hh)
    have n6 : l ≠ txB 6 := fun e => (by decide : hsh (txB 6) ≠ hsh (txB 2)) (by rw [← e]; exact hh)
    by_cases e : l = txB 2
    · have hv : wdI l = nI 0 := by unfold wdI; rw [if_pos e]
      rw [decide_eq_true e, bI_t] at q2
      rw [hv]
      simp (disch := first | omega | (simp (disch := omega) only [nx_setf, nx_seta, nx_newo, nx_newa]; omega)) only [e_166, x_166_0, x_166_1, x_166_6, x_166_7, x_166_8, x_166_9, x_166_10, x_166_13, x_166_64, x_166_65, x_166_68, x_166_71, x_166_74, x_166_75, x_166_76, x_166_79, x_166_80, x_166_83, x_166_86, x_166_89, x_166_90, x_166_91, x_166_94, x_166_95, x_166_98, x_166_101, x_166_104, x_166_105, x_166_106, x_166_109, x_166_110, x_166_113, x_166_116, x_166_119, x_166_120, x_166_121, x_166_124, x_166_125, x_166_128, x_166_131, x_166_134, x_166_135, x_166_136, x_166_137, x_166_172, x_166_173, x_166_176, x_166_177, x_166_180, x_166_181, x_166_184, x_166_185, x_166_188, x_166_189, x_166_192, x_166_193, kv_s, ki_s, kj_s, kd_s, kq_s, kq_n, kq_o, ka_s, kc_r, kc_t, kc0_r, kc0_t, kch_r, kc0h_r, kw_s, kw0_s, kwh_s, kw0h_s, rg_ref, rg_null, rg_rf, ck_t, sel_some, lkn_hd, Option.isSome_some, Bool.true_and, Bool.and_true, okv_i, okv_l, okv_r, okv_n, okv_rf, okv_b, okv_0, okv_1, okv_f, okv_d, c1_i, c1_r, c1_n, c1_rf, c1_f, nI_add, n_mul, n_sub, n_pred, n_eq, n_le, n_lt, n_neN, n_Nne, N_lt, N_le, n_ltN, n_leN, rdI_n, rdJ_n, rdD_n, wrI_n, wrI_z0, wrI_z1, wrI_zb, wrJ_n, wrD_n, aln_s, okn_n, upd_is, upd_ne, Nat.add_zero, Nat.add_sub_cancel, decide_true, decide_false, cond_true, cond_false, if_true, if_false, ite_not, not_true_eq_false, not_false_eq_true, Nat.reduceEqDiff, Nat.reduceAdd, Nat.reduceMul, Nat.reduceSub, Nat.reduceLeDiff, h.c, e1, k5, f1, hpc, kk, q2, s0]
    · have hv : wdI l = nN := by unfold wdI; rw [if_neg e, if_neg n3, if_neg n4, if_neg n5, if_neg n6]
      rw [decide_eq_false e, bI_f] at q2
      rw [hv]
      simp (disch := first | omega | (simp (disch := omega) only [nx_setf, nx_seta, nx_newo, nx_newa]; omega)) only [e_166, x_166_0, x_166_1, x_166_6, x_166_7, x_166_8, x_166_9, x_166_10, x_166_13, x_166_64, x_166_65, x_166_68, x_166_71, x_166_74, x_166_75, x_166_76, x_166_79, x_166_80, x_166_83, x_166_86, x_166_89, x_166_90, x_166_91, x_166_94, x_166_95, x_166_98, x_166_101, x_166_104, x_166_105, x_166_106, x_166_109, x_166_110, x_166_113, x_166_116, x_166_119, x_166_120, x_166_121, x_166_124, x_166_125, x_166_128, x_166_131, x_166_134, x_166_135, x_166_136, x_166_137, x_166_172, x_166_173, x_166_176, x_166_177, x_166_180, x_166_181, x_166_184, x_166_185, x_166_188, x_166_189, x_166_192, x_166_193, kv_s, ki_s, kj_s, kd_s, kq_s, kq_n, kq_o, ka_s, kc_r, kc_t, kc0_r, kc0_t, kch_r, kc0h_r, kw_s, kw0_s, kwh_s, kw0h_s, rg_ref, rg_null, rg_rf, ck_t, sel_some, lkn_hd, Option.isSome_some, Bool.true_and, Bool.and_true, okv_i, okv_l, okv_r, okv_n, okv_rf, okv_b, okv_0, okv_1, okv_f, okv_d, c1_i, c1_r, c1_n, c1_rf, c1_f, nI_add, n_mul, n_sub, n_pred, n_eq, n_le, n_lt, n_neN, n_Nne, N_lt, N_le, n_ltN, n_leN, rdI_n, rdJ_n, rdD_n, wrI_n, wrI_z0, wrI_z1, wrI_zb, wrJ_n, wrD_n, aln_s, okn_n, upd_is, upd_ne, Nat.add_zero, Nat.add_sub_cancel, decide_true, decide_false, cond_true, cond_false, if_true, if_false, ite_not, not_true_eq_false, not_false_eq_true, Nat.reduceEqDiff, Nat.reduceAdd, Nat.reduceMul, Nat.reduceSub, Nat.reduceLeDiff, h.c, e1, k5, f1, hpc, kk, q2, sn]
  · subst hp
    have n2 : l ≠ txB 2 := fun e => (by decide : hsh (txB 2) ≠ hsh (txB 4)) (by rw [← e]; exact hh)
    have n3 : l ≠ txB 3 := fun e => (by decide : hsh (txB 3) ≠ hsh (txB 4)) (by rw [← e]; exact hh)
    have n5 : l ≠ txB 5 := fun e => (by decide : hsh (txB 5) ≠ hsh (txB 4)) (by rw [← e]; exact hh)
    have n6 : l ≠ txB 6 := fun e => (by decide : hsh (txB 6) ≠ hsh (txB 4)) (by rw [← e]; exact hh)
    by_cases e : l = txB 4
    · have hv : wdI l = nI 2 := by unfold wdI; rw [if_neg n2, if_neg n3, if_pos e]
      rw [decide_eq_true e, bI_t] at q4
      rw [hv]
      simp (disch := first | omega | (simp (disch := omega) only [nx_setf, nx_seta, nx_newo, nx_newa]; omega)) only [e_166, x_166_0, x_166_1, x_166_6, x_166_7, x_166_8, x_166_9, x_166_10, x_166_13, x_166_64, x_166_65, x_166_68, x_166_71, x_166_74, x_166_75, x_166_76, x_166_79, x_166_80, x_166_83, x_166_86, x_166_89, x_166_90, x_166_91, x_166_94, x_166_95, x_166_98, x_166_101, x_166_104, x_166_105, x_166_106, x_166_109, x_166_110, x_166_113, x_166_116, x_166_119, x_166_120, x_166_121, x_166_124, x_166_125, x_166_128, x_166_131, x_166_134, x_166_135, x_166_136, x_166_137, x_166_172, x_166_173, x_166_176, x_166_177, x_166_180, x_166_181, x_166_184, x_166_185, x_166_188, x_166_189, x_166_192, x_166_193, kv_s, ki_s, kj_s, kd_s, kq_s, kq_n, kq_o, ka_s, kc_r, kc_t, kc0_r, kc0_t, kch_r, kc0h_r, kw_s, kw0_s, kwh_s, kw0h_s, rg_ref, rg_null, rg_rf, ck_t, sel_some, lkn_hd, Option.isSome_some, Bool.true_and, Bool.and_true, okv_i, okv_l, okv_r, okv_n, okv_rf, okv_b, okv_0, okv_1, okv_f, okv_d, c1_i, c1_r, c1_n, c1_rf, c1_f, nI_add, n_mul, n_sub, n_pred, n_eq, n_le, n_lt, n_neN, n_Nne, N_lt, N_le, n_ltN, n_leN, rdI_n, rdJ_n, rdD_n, wrI_n, wrI_z0, wrI_z1, wrI_zb, wrJ_n, wrD_n, aln_s, okn_n, upd_is, upd_ne, Nat.add_zero, Nat.add_sub_cancel, decide_true, decide_false, cond_true, cond_false, if_true, if_false, ite_not, not_true_eq_false, not_false_eq_true, Nat.reduceEqDiff, Nat.reduceAdd, Nat.reduceMul, Nat.reduceSub, Nat.reduceLeDiff, h.c, e1, k5, f1, hpc, kk, q4, s2]
    · have hv : wdI l = nN := by unfold wdI; rw [if_neg n2, if_neg n3, if_neg e, if_neg n5, if_neg n6]
      rw [decide_eq_false e, bI_f] at q4
      rw [hv]
      simp (disch := first | omega | (simp (disch := omega) only [nx_setf, nx_seta, nx_newo, nx_newa]; omega)) only [e_166, x_166_0, x_166_1, x_166_6, x_166_7, x_166_8, x_166_9, x_166_10, x_166_13, x_166_64, x_166_65, x_166_68, x_166_71, x_166_74, x_166_75, x_166_76, x_166_79, x_166_80, x_166_83, x_166_86, x_166_89, x_166_90, x_166_91, x_166_94, x_166_95, x_166_98, x_166_101, x_166_104, x_166_105, x_166_106, x_166_109, x_166_110, x_166_113, x_166_116, x_166_119, x_166_120, x_166_121, x_166_124, x_166_125, x_166_128, x_166_131, x_166_134, x_166_135, x_166_136, x_166_137, x_166_172, x_166_173, x_166_176, x_166_177, x_166_180, x_166_181, x_166_184, x_166_185, x_166_188, x_166_189, x_166_192, x_166_193, kv_s, ki_s, kj_s, kd_s, kq_s, kq_n, kq_o, ka_s, kc_r, kc_t, kc0_r, kc0_t, kch_r, kc0h_r, kw_s, kw0_s, kwh_s, kw0h_s, rg_ref, rg_null, rg_rf, ck_t, sel_some, lkn_hd, Option.isSome_some, Bool.true_and, Bool.and_true, okv_i, okv_l, okv_r, okv_n, okv_rf, okv_b, okv_0, okv_1, okv_f, okv_d, c1_i, c1_r, c1_n, c1_rf, c1_f, nI_add, n_mul, n_sub, n_pred, n_eq, n_le, n_lt, n_neN, n_Nne, N_lt, N_le, n_ltN, n_leN, rdI_n, rdJ_n, rdD_n, wrI_n, wrI_z0, wrI_z1, wrI_zb, wrJ_n, wrD_n, aln_s, okn_n, upd_is, upd_ne, Nat.add_zero, Nat.add_sub_cancel, decide_true, decide_false, cond_true, cond_false, if_true, if_false, ite_not, not_true_eq_false, not_false_eq_true, Nat.reduceEqDiff, Nat.reduceAdd, Nat.reduceMul, Nat.reduceSub, Nat.reduceLeDiff, h.c, e1, k5, f1, hpc, kk, q4, sn]
  · subst hp
    have n2 : l ≠ txB 2 := fun e => (by decide : hsh (txB 2) ≠ hsh (txB 6)) (by rw [← e]; exact hh)
    have n3 : l ≠ txB 3 := fun e => (by decide : hsh (txB 3) ≠ hsh (txB 6)) (by rw [← e]; exact hh)
    have n4 : l ≠ txB 4 := fun e => (by decide : hsh (txB 4) ≠ hsh (txB 6)) (by rw [← e]; exact hh)
    have n5 : l ≠ txB 5 := fun e => (by decide : hsh (txB 5) ≠ hsh (txB 6)) (by rw [← e]; exact hh)
    by_cases e : l = txB 6
    · have hv : wdI l = nI 4 := by unfold wdI; rw [if_neg n2, if_neg n3, if_neg n4, if_neg n5, if_pos e]
      rw [decide_eq_true e, bI_t] at q6
      rw [hv]
      simp (disch := first | omega | (simp (disch := omega) only [nx_setf, nx_seta, nx_newo, nx_newa]; omega)) only [e_166, x_166_0, x_166_1, x_166_6, x_166_7, x_166_8, x_166_9, x_166_10, x_166_13, x_166_64, x_166_65, x_166_68, x_166_71, x_166_74, x_166_75, x_166_76, x_166_79, x_166_80, x_166_83, x_166_86, x_166_89, x_166_90, x_166_91, x_166_94, x_166_95, x_166_98, x_166_101, x_166_104, x_166_105, x_166_106, x_166_109, x_166_110, x_166_113, x_166_116, x_166_119, x_166_120, x_166_121, x_166_124, x_166_125, x_166_128, x_166_131, x_166_134, x_166_135, x_166_136, x_166_137, x_166_172, x_166_173, x_166_176, x_166_177, x_166_180, x_166_181, x_166_184, x_166_185, x_166_188, x_166_189, x_166_192, x_166_193, kv_s, ki_s, kj_s, kd_s, kq_s, kq_n, kq_o, ka_s, kc_r, kc_t, kc0_r, kc0_t, kch_r, kc0h_r, kw_s, kw0_s, kwh_s, kw0h_s, rg_ref, rg_null, rg_rf, ck_t, sel_some, lkn_hd, Option.isSome_some, Bool.true_and, Bool.and_true, okv_i, okv_l, okv_r, okv_n, okv_rf, okv_b, okv_0, okv_1, okv_f, okv_d, c1_i, c1_r, c1_n, c1_rf, c1_f, nI_add, n_mul, n_sub, n_pred, n_eq, n_le, n_lt, n_neN, n_Nne, N_lt, N_le, n_ltN, n_leN, rdI_n, rdJ_n, rdD_n, wrI_n, wrI_z0, wrI_z1, wrI_zb, wrJ_n, wrD_n, aln_s, okn_n, upd_is, upd_ne, Nat.add_zero, Nat.add_sub_cancel, decide_true, decide_false, cond_true, cond_false, if_true, if_false, ite_not, not_true_eq_false, not_false_eq_true, Nat.reduceEqDiff, Nat.reduceAdd, Nat.reduceMul, Nat.reduceSub, Nat.reduceLeDiff, h.c, e1, k5, f1, hpc, kk, q6, s4]
    · have hv : wdI l = nN := by unfold wdI; rw [if_neg n2, if_neg n3, if_neg n4, if_neg n5, if_neg e]
      rw [decide_eq_false e, bI_f] at q6
      rw [hv]
      simp (disch := first | omega | (simp (disch := omega) only [nx_setf, nx_seta, nx_newo, nx_newa]; omega)) only [e_166, x_166_0, x_166_1, x_166_6, x_166_7, x_166_8, x_166_9, x_166_10, x_166_13, x_166_64, x_166_65, x_166_68, x_166_71, x_166_74, x_166_75, x_166_76, x_166_79, x_166_80, x_166_83, x_166_86, x_166_89, x_166_90, x_166_91, x_166_94, x_166_95, x_166_98, x_166_101, x_166_104, x_166_105, x_166_106, x_166_109, x_166_110, x_166_113, x_166_116, x_166_119, x_166_120, x_166_121, x_166_124, x_166_125, x_166_128, x_166_131, x_166_134, x_166_135, x_166_136, x_166_137, x_166_172, x_166_173, x_166_176, x_166_177, x_166_180, x_166_181, x_166_184, x_166_185, x_166_188, x_166_189, x_166_192, x_166_193, kv_s, ki_s, kj_s, kd_s, kq_s, kq_n, kq_o, ka_s, kc_r, kc_t, kc0_r, kc0_t, kch_r, kc0h_r, kw_s, kw0_s, kwh_s, kw0h_s, rg_ref, rg_null, rg_rf, ck_t, sel_some, lkn_hd, Option.isSome_some, Bool.true_and, Bool.and_true, okv_i, okv_l, okv_r, okv_n, okv_rf, okv_b, okv_0, okv_1, okv_f, okv_d, c1_i, c1_r, c1_n, c1_rf, c1_f, nI_add, n_mul, n_sub, n_pred, n_eq, n_le, n_lt, n_neN, n_Nne, N_lt, N_le, n_ltN, n_leN, rdI_n, rdJ_n, rdD_n, wrI_n, wrI_z0, wrI_z1, wrI_zb, wrJ_n, wrD_n, aln_s, okn_n, upd_is, upd_ne, Nat.add_zero, Nat.add_sub_cancel, decide_true, decide_false, cond_true, cond_false, if_true, if_false, ite_not, not_true_eq_false, not_false_eq_true, Nat.reduceEqDiff, Nat.reduceAdd, Nat.reduceMul, Nat.reduceSub, Nat.reduceLeDiff, h.c, e1, k5, f1, hpc, kk, q6, sn]
  · subst hp
    have n2 : l ≠ txB 2 := fun e => (by decide : hsh (txB 2) ≠ hsh (txB 3)) (by rw [← e]; exact hh)
    have n4 : l ≠ txB 4 := fun e => (by decide : hsh (txB 4) ≠ hsh (txB 3)) (by rw [← e]; exact hh)
    have n5 : l ≠ txB 5 := fun e => (by decide : hsh (txB 5) ≠ hsh (txB 3)) (by rw [← e]; exact hh)
    have n6 : l ≠ txB 6 := fun e => (by decide : hsh (txB 6) ≠ hsh (txB 3)) (by rw [← e]; exact hh)
    by_cases e : l = txB 3
    · have hv : wdI l = nI 1 := by unfold wdI; rw [if_neg n2, if_pos e]
      rw [decide_eq_true e, bI_t] at q3
      rw [hv]
      simp (disch := first | omega | (simp (disch := omega) only [nx_setf, nx_seta, nx_newo, nx_newa]; omega)) only [e_166, x_166_0, x_166_1, x_166_6, x_166_7, x_166_8, x_166_9, x_166_10, x_166_13, x_166_64, x_166_65, x_166_68, x_166_71, x_166_74, x_166_75, x_166_76, x_166_79, x_166_80, x_166_83, x_166_86, x_166_89, x_166_90, x_166_91, x_166_94, x_166_95, x_166_98, x_166_101, x_166_104, x_166_105, x_166_106, x_166_109, x_166_110, x_166_113, x_166_116, x_166_119, x_166_120, x_166_121, x_166_124, x_166_125, x_166_128, x_166_131, x_166_134, x_166_135, x_166_136, x_166_137, x_166_172, x_166_173, x_166_176, x_166_177, x_166_180, x_166_181, x_166_184, x_166_185, x_166_188, x_166_189, x_166_192, x_166_193, kv_s, ki_s, kj_s, kd_s, kq_s, kq_n, kq_o, ka_s, kc_r, kc_t, kc0_r, kc0_t, kch_r, kc0h_r, kw_s, kw0_s, kwh_s, kw0h_s, rg_ref, rg_null, rg_rf, ck_t, sel_some, lkn_hd, Option.isSome_some, Bool.true_and, Bool.and_true, okv_i, okv_l, okv_r, okv_n, okv_rf, okv_b, okv_0, okv_1, okv_f, okv_d, c1_i, c1_r, c1_n, c1_rf, c1_f, nI_add, n_mul, n_sub, n_pred, n_eq, n_le, n_lt, n_neN, n_Nne, N_lt, N_le, n_ltN, n_leN, rdI_n, rdJ_n, rdD_n, wrI_n, wrI_z0, wrI_z1, wrI_zb, wrJ_n, wrD_n, aln_s, okn_n, upd_is, upd_ne, Nat.add_zero, Nat.add_sub_cancel, decide_true, decide_false, cond_true, cond_false, if_true, if_false, ite_not, not_true_eq_false, not_false_eq_true, Nat.reduceEqDiff, Nat.reduceAdd, Nat.reduceMul, Nat.reduceSub, Nat.reduceLeDiff, h.c, e1, k5, f1, hpc, kk, q3, s1]
    · have hv : wdI l = nN := by unfold wdI; rw [if_neg n2, if_neg e, if_neg n4, if_neg n5, if_neg n6]
      rw [decide_eq_false e, bI_f] at q3
      rw [hv]
      simp (disch := first | omega | (simp (disch := omega) only [nx_setf, nx_seta, nx_newo, nx_newa]; omega)) only [e_166, x_166_0, x_166_1, x_166_6, x_166_7, x_166_8, x_166_9, x_166_10, x_166_13, x_166_64, x_166_65, x_166_68, x_166_71, x_166_74, x_166_75, x_166_76, x_166_79, x_166_80, x_166_83, x_166_86, x_166_89, x_166_90, x_166_91, x_166_94, x_166_95, x_166_98, x_166_101, x_166_104, x_166_105, x_166_106, x_166_109, x_166_110, x_166_113, x_166_116, x_166_119, x_166_120, x_166_121, x_166_124, x_166_125, x_166_128, x_166_131, x_166_134, x_166_135, x_166_136, x_166_137, x_166_172, x_166_173, x_166_176, x_166_177, x_166_180, x_166_181, x_166_184, x_166_185, x_166_188, x_166_189, x_166_192, x_166_193, kv_s, ki_s, kj_s, kd_s, kq_s, kq_n, kq_o, ka_s, kc_r, kc_t, kc0_r, kc0_t, kch_r, kc0h_r, kw_s, kw0_s, kwh_s, kw0h_s, rg_ref, rg_null, rg_rf, ck_t, sel_some, lkn_hd, Option.isSome_some, Bool.true_and, Bool.and_true, okv_i, okv_l, okv_r, okv_n, okv_rf, okv_b, okv_0, okv_1, okv_f, okv_d, c1_i, c1_r, c1_n, c1_rf, c1_f, nI_add, n_mul, n_sub, n_pred, n_eq, n_le, n_lt, n_neN, n_Nne, N_lt, N_le, n_ltN, n_leN, rdI_n, rdJ_n, rdD_n, wrI_n, wrI_z0, wrI_z1, wrI_zb, wrJ_n, wrD_n, aln_s, okn_n, upd_is, upd_ne, Nat.add_zero, Nat.add_sub_cancel, decide_true, decide_false, cond_true, cond_false, if_true, if_false, ite_not, not_true_eq_false, not_false_eq_true, Nat.reduceEqDiff, Nat.reduceAdd, Nat.reduceMul, Nat.reduceSub, Nat.reduceLeDiff, h.c, e1, k5, f1, hpc, kk, q3, sn]
  · subst hp
    have n2 : l ≠ txB 2 := fun e => (by decide : hsh (txB 2) ≠ hsh (txB 5)) (by rw [← e]; exact hh)
    have n3 : l ≠ txB 3 := fun e => (by decide : hsh (txB 3) ≠ hsh (txB 5)) (by rw [← e]; exact hh)
    have n4 : l ≠ txB 4 := fun e => (by decide : hsh (txB 4) ≠ hsh (txB 5)) (by rw [← e]; exact hh)
    have n6 : l ≠ txB 6 := fun e => (by decide : hsh (txB 6) ≠ hsh (txB 5)) (by rw [← e]; exact hh)
    by_cases e : l = txB 5
    · have hv : wdI l = nI 3 := by unfold wdI; rw [if_neg n2, if_neg n3, if_neg n4, if_pos e]
      rw [decide_eq_true e, bI_t] at q5
      rw [hv]
      simp (disch := first | omega | (simp (disch := omega) only [nx_setf, nx_seta, nx_newo, nx_newa]; omega)) only [e_166, x_166_0, x_166_1, x_166_6, x_166_7, x_166_8, x_166_9, x_166_10, x_166_13, x_166_64, x_166_65, x_166_68, x_166_71, x_166_74, x_166_75, x_166_76, x_166_79, x_166_80, x_166_83, x_166_86, x_166_89, x_166_90, x_166_91, x_166_94, x_166_95, x_166_98, x_166_101, x_166_104, x_166_105, x_166_106, x_166_109, x_166_110, x_166_113, x_166_116, x_166_119, x_166_120, x_166_121, x_166_124, x_166_125, x_166_128, x_166_131, x_166_134, x_166_135, x_166_136, x_166_137, x_166_172, x_166_173, x_166_176, x_166_177, x_166_180, x_166_181, x_166_184, x_166_185, x_166_188, x_166_189, x_166_192, x_166_193, kv_s, ki_s, kj_s, kd_s, kq_s, kq_n, kq_o, ka_s, kc_r, kc_t, kc0_r, kc0_t, kch_r, kc0h_r, kw_s, kw0_s, kwh_s, kw0h_s, rg_ref, rg_null, rg_rf, ck_t, sel_some, lkn_hd, Option.isSome_some, Bool.true_and, Bool.and_true, okv_i, okv_l, okv_r, okv_n, okv_rf, okv_b, okv_0, okv_1, okv_f, okv_d, c1_i, c1_r, c1_n, c1_rf, c1_f, nI_add, n_mul, n_sub, n_pred, n_eq, n_le, n_lt, n_neN, n_Nne, N_lt, N_le, n_ltN, n_leN, rdI_n, rdJ_n, rdD_n, wrI_n, wrI_z0, wrI_z1, wrI_zb, wrJ_n, wrD_n, aln_s, okn_n, upd_is, upd_ne, Nat.add_zero, Nat.add_sub_cancel, decide_true, decide_false, cond_true, cond_false, if_true, if_false, ite_not, not_true_eq_false, not_false_eq_true, Nat.reduceEqDiff, Nat.reduceAdd, Nat.reduceMul, Nat.reduceSub, Nat.reduceLeDiff, h.c, e1, k5, f1, hpc, kk, q5, s3]
    · have hv : wdI l = nN := by unfold wdI; rw [if_neg n2, if_neg n3, if_neg n4, if_neg e, if_neg n6]
      rw [decide_eq_false e, bI_f] at q5
      rw [hv]
      simp (disch := first | omega | (simp (disch := omega) only [nx_setf, nx_seta, nx_newo, nx_newa]; omega)) only [e_166, x_166_0, x_166_1, x_166_6, x_166_7, x_166_8, x_166_9, x_166_10, x_166_13, x_166_64, x_166_65, x_166_68, x_166_71, x_166_74, x_166_75, x_166_76, x_166_79, x_166_80, x_166_83, x_166_86, x_166_89, x_166_90, x_166_91, x_166_94, x_166_95, x_166_98, x_166_101, x_166_104, x_166_105, x_166_106, x_166_109, x_166_110, x_166_113, x_166_116, x_166_119, x_166_120, x_166_121, x_166_124, x_166_125, x_166_128, x_166_131, x_166_134, x_166_135, x_166_136, x_166_137, x_166_172, x_166_173, x_166_176, x_166_177, x_166_180, x_166_181, x_166_184, x_166_185, x_166_188, x_166_189, x_166_192, x_166_193, kv_s, ki_s, kj_s, kd_s, kq_s, kq_n, kq_o, ka_s, kc_r, kc_t, kc0_r, kc0_t, kch_r, kc0h_r, kw_s, kw0_s, kwh_s, kw0h_s, rg_ref, rg_null, rg_rf, ck_t, sel_some, lkn_hd, Option.isSome_some, Bool.true_and, Bool.and_true, okv_i, okv_l, okv_r, okv_n, okv_rf, okv_b, okv_0, okv_1, okv_f, okv_d, c1_i, c1_r, c1_n, c1_rf, c1_f, nI_add, n_mul, n_sub, n_pred, n_eq, n_le, n_lt, n_neN, n_Nne, N_lt, N_le, n_ltN, n_leN, rdI_n, rdJ_n, rdD_n, wrI_n, wrI_z0, wrI_z1, wrI_zb, wrJ_n, wrD_n, aln_s, okn_n, upd_is, upd_ne, Nat.add_zero, Nat.add_sub_cancel, decide_true, decide_false, cond_true, cond_false, if_true, if_false, ite_not, not_true_eq_false, not_false_eq_true, Nat.reduceEqDiff, Nat.reduceAdd, Nat.reduceMul, Nat.reduceSub, Nat.reduceLeDiff, h.c, e1, k5, f1, hpc, kk, q5, sn]
  · subst hp
    have hv : wdI l = nN := by unfold wdI; rw [if_neg n2, if_neg n3, if_neg n4, if_neg n5, if_neg n6]
    rw [hv]
    simp (disch := first | omega | (simp (disch := omega) only [nx_setf, nx_seta, nx_newo, nx_newa]; omega)) only [e_166, x_166_0, x_166_1, x_166_6, x_166_7, x_166_8, x_166_9, x_166_10, x_166_13, x_166_64, x_166_65, x_166_68, x_166_71, x_166_74, x_166_75, x_166_76, x_166_79, x_166_80, x_166_83, x_166_86, x_166_89, x_166_90, x_166_91, x_166_94, x_166_95, x_166_98, x_166_101, x_166_104, x_166_105, x_166_106, x_166_109, x_166_110, x_166_113, x_166_116, x_166_119, x_166_120, x_166_121, x_166_124, x_166_125, x_166_128, x_166_131, x_166_134, x_166_135, x_166_136, x_166_137, x_166_172, x_166_173, x_166_176, x_166_177, x_166_180, x_166_181, x_166_184, x_166_185, x_166_188, x_166_189, x_166_192, x_166_193, kv_s, ki_s, kj_s, kd_s, kq_s, kq_n, kq_o, ka_s, kc_r, kc_t, kc0_r, kc0_t, kch_r, kc0h_r, kw_s, kw0_s, kwh_s, kw0h_s, rg_ref, rg_null, rg_rf, ck_t, sel_some, lkn_hd, Option.isSome_some, Bool.true_and, Bool.and_true, okv_i, okv_l, okv_r, okv_n, okv_rf, okv_b, okv_0, okv_1, okv_f, okv_d, c1_i, c1_r, c1_n, c1_rf, c1_f, nI_add, n_mul, n_sub, n_pred, n_eq, n_le, n_lt, n_neN, n_Nne, N_lt, N_le, n_ltN, n_leN, rdI_n, rdJ_n, rdD_n, wrI_n, wrI_z0, wrI_z1, wrI_zb, wrJ_n, wrD_n, aln_s, okn_n, upd_is, upd_ne, Nat.add_zero, Nat.add_sub_cancel, decide_true, decide_false, cond_true, cond_false, if_true, if_false, ite_not, not_true_eq_false, not_false_eq_true, Nat.reduceEqDiff, Nat.reduceAdd, Nat.reduceMul, Nat.reduceSub, Nat.reduceLeDiff, h.c, e1, k5, f1, hpc, sn]
end
