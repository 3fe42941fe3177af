/-! the model's words -/
section
variable {A : Hp} {w : Lb} {q d i n g0 m0 : Nat} {l : List Nat}
theorem m_115 (h : StE A q l) : evG TB (d + 2) 115 [.ref q] A = some (.inl (some (.int (nI l.length))), A) := by
  obtain ⟨k1, ⟨a, f, e1, e2, e3, e4⟩, co, cp, hx⟩ := h
  have kk := k1.2
  have q116 : evG TB (d + 1) 116 [.ref q] A = some (.inl (some (.int (nI 0))), A) := by
    simp (disch := first | omega | (simp (disch := omega) only [nx_setf, nx_seta, nx_newo, nx_newa]; omega)) only [e_116, x_116_0, x_116_3, x_116_6, x_116_7, x_116_10, x_116_13, x_116_14, kv_s, ki_s, kj_s, kd_s, kq_s, kq_n, kq_o, ka_s, kc_r, kc_t, kc0_r, kc0_t, kch_r, kc0h_r, kw_s, kw0_s, kwh_s, kw0h_s, rg_ref, rg_null, rg_rf, ck_t, sel_some, lkn_hd, Option.isSome_some, Bool.true_and, Bool.and_true, okv_i, okv_l, okv_r, okv_n, okv_rf, okv_b, okv_0, okv_1, okv_f, okv_d, c1_i, c1_r, c1_n, c1_rf, c1_f, nI_add, n_mul, n_sub, n_pred, n_eq, n_le, n_lt, n_neN, n_Nne, N_lt, N_le, n_ltN, n_leN, rdI_n, rdJ_n, rdD_n, wrI_n, wrI_z0, wrI_z1, wrI_zb, wrJ_n, wrD_n, aln_s, okn_n, upd_is, upd_ne, Nat.add_zero, Nat.add_sub_cancel, decide_true, decide_false, cond_true, cond_false, if_true, if_false, ite_not, not_true_eq_false, not_false_eq_true, Nat.reduceEqDiff, Nat.reduceAdd, Nat.reduceMul, Nat.reduceSub, Nat.reduceLeDiff, co, okv60, ckT]
  simp (disch := first | omega | (simp (disch := omega) only [nx_setf, nx_seta, nx_newo, nx_newa]; omega)) only [e_115, x_115_0, x_115_1, x_115_4, x_115_5, x_115_6, x_115_9, x_115_10, kv_s, ki_s, kj_s, kd_s, kq_s, kq_n, kq_o, ka_s, kc_r, kc_t, kc0_r, kc0_t, kch_r, kc0h_r, kw_s, kw0_s, kwh_s, kw0h_s, rg_ref, rg_null, rg_rf, ck_t, sel_some, lkn_hd, Option.isSome_some, Bool.true_and, Bool.and_true, okv_i, okv_l, okv_r, okv_n, okv_rf, okv_b, okv_0, okv_1, okv_f, okv_d, c1_i, c1_r, c1_n, c1_rf, c1_f, nI_add, n_mul, n_sub, n_pred, n_eq, n_le, n_lt, n_neN, n_Nne, N_lt, N_le, n_ltN, n_leN, rdI_n, rdJ_n, rdD_n, wrI_n, wrI_z0, wrI_z1, wrI_zb, wrJ_n, wrD_n, aln_s, okn_n, upd_is, upd_ne, Nat.add_zero, Nat.add_sub_cancel, decide_true, decide_false, cond_true, cond_false, if_true, if_false, ite_not, not_true_eq_false, not_false_eq_true, Nat.reduceEqDiff, Nat.reduceAdd, Nat.reduceMul, Nat.reduceSub, Nat.reduceLeDiff, e1, e2, kk, q116, shr0]
theorem chr_n {x : Nat} (h : x < 128) : ((nI x).toUInt32 % 65536).toInt32 = nI x := by
  have : ∀ x, x < 128 → ((nI x).toUInt32 % 65536).toInt32 = nI x := by decide
  exact this x h
theorem m_123 (h : StE A q l) (hi : i < l.length) : evG TB (d + 4) 123 [.ref q, .int (nI i)] A = some (.inl (some (.int (nI l[i]))), A) := by
  obtain ⟨k1, ⟨a, f, e1, e2, e3, e4⟩, co, cp, hx⟩ := h
  have kk := k1.2
  have hx' := hx _ (List.getElem_mem hi)
  have q120 : evG TB (d + 3) 120 [.ref q] A = some (.inl (some (.int (nI 1))), A) := by
    simp (disch := first | omega | (simp (disch := omega) only [nx_setf, nx_seta, nx_newo, nx_newa]; omega)) only [e_120, x_120_0, x_120_3, x_120_6, x_120_7, x_120_10, x_120_13, x_120_14, x_120_17, x_120_18, kv_s, ki_s, kj_s, kd_s, kq_s, kq_n, kq_o, ka_s, kc_r, kc_t, kc0_r, kc0_t, kch_r, kc0h_r, kw_s, kw0_s, kwh_s, kw0h_s, rg_ref, rg_null, rg_rf, ck_t, sel_some, lkn_hd, Option.isSome_some, Bool.true_and, Bool.and_true, okv_i, okv_l, okv_r, okv_n, okv_rf, okv_b, okv_0, okv_1, okv_f, okv_d, c1_i, c1_r, c1_n, c1_rf, c1_f, nI_add, n_mul, n_sub, n_pred, n_eq, n_le, n_lt, n_neN, n_Nne, N_lt, N_le, n_ltN, n_leN, rdI_n, rdJ_n, rdD_n, wrI_n, wrI_z0, wrI_z1, wrI_zb, wrJ_n, wrD_n, aln_s, okn_n, upd_is, upd_ne, Nat.add_zero, Nat.add_sub_cancel, decide_true, decide_false, cond_true, cond_false, if_true, if_false, ite_not, not_true_eq_false, not_false_eq_true, Nat.reduceEqDiff, Nat.reduceAdd, Nat.reduceMul, Nat.reduceSub, Nat.reduceLeDiff, co]
  have r1 := rdI_n (t := 1) (f := f) hi (by omega)
  rw [e4 i _ (List.getElem?_eq_getElem hi)] at r1
  have q15 := m_15 (A := A) (d := d) (v := va_rf (sRf (sg A) 2)) hi (by omega) (by cases sRf (sg A) 2 <;> rfl)
  have c1 : c1 (.int (nI i)) = true := rfl
  have o7 : okv 7 (.int (nI l[i])) = true := by
    have : ∀ x, x < 128 → okv 7 (.int (nI x)) = true := by decide
    exact this _ hx'
  simp (disch := first | omega | (simp (disch := omega) only [nx_setf, nx_seta, nx_newo, nx_newa]; omega)) only [e_123, x_123_0, x_123_1, x_123_4, x_123_7, x_123_8, x_123_11, x_123_12, x_123_15, x_123_16, x_123_17, x_123_20, x_123_24, e_19, x_19_0, x_19_1, x_19_2, x_19_3, x_19_6, x_19_7, x_19_8, x_19_9, x_19_12, x_19_13, x_19_14, e_122, x_122_0, x_122_1, x_122_2, x_122_5, x_122_8, x_122_9, kv_s, ki_s, kj_s, kd_s, kq_s, kq_n, kq_o, ka_s, kc_r, kc_t, kc0_r, kc0_t, kch_r, kc0h_r, kw_s, kw0_s, kwh_s, kw0h_s, rg_ref, rg_null, rg_rf, ck_t, sel_some, lkn_hd, Option.isSome_some, Bool.true_and, Bool.and_true, okv_i, okv_l, okv_r, okv_n, okv_rf, okv_b, okv_0, okv_1, okv_f, okv_d, c1_i, c1_r, c1_n, c1_rf, c1_f, nI_add, n_mul, n_sub, n_pred, n_eq, n_le, n_lt, n_neN, n_Nne, N_lt, N_le, n_ltN, n_leN, rdI_n, rdJ_n, rdD_n, wrI_n, wrI_z0, wrI_z1, wrI_zb, wrJ_n, wrD_n, aln_s, okn_n, upd_is, upd_ne, Nat.add_zero, Nat.add_sub_cancel, decide_true, decide_false, cond_true, cond_false, if_true, if_false, ite_not, not_true_eq_false, not_false_eq_true, Nat.reduceEqDiff, Nat.reduceAdd, Nat.reduceMul, Nat.reduceSub, Nat.reduceLeDiff, e1, e2, kk, q120, q15, c1, r1, and_255 hx', chr_n hx', o7, ckT]
/-- packing, in plain numbers -/
def pkW (l : List Nat) (v : Nat) : Nat := l.foldl (fun v x => 27 * v + (x - 96)) v
theorem lN_stp {v x : Nat} (hx : 96 ≤ x) : 27 * lN v + lN x - 96 = lN (27 * v + (x - 96)) := by
  have e : lN x = lN (x - 96) + 96 := by
    unfold lN
    have : (96 : Int64) = Int64.ofNat 96 := rfl
    rw [this, ← Int64.ofNat_add]
    congr 1
    omega
  have e2 : (27 : Int64) = Int64.ofNat 27 := rfl
  rw [e, ← Int64.add_assoc, Int64.add_sub_cancel]
  unfold lN
  rw [e2, ← Int64.ofNat_mul, ← Int64.ofNat_add]
theorem mWd_pk : ∀ (l : List Nat) (k v : Nat), (∀ x, x ∈ l → 96 ≤ x) → k + l.length ≤ 11 → mWd l k (lN v) = lN (pkW l v)
  | [], k, v, _, _ => rfl
  | x :: t, k, v, hx, hk => by
    have hk' : k + (t.length + 1) ≤ 11 := hk
    rw [mWd_c, if_pos (by omega), lN_stp (hx x (by simp))]
    exact mWd_pk t (k + 1) _ (fun y hy => hx y (by simp [hy])) (by omega)
theorem pkW_lt : ∀ (l : List Nat) (v : Nat), (∀ x, x ∈ l → x ≤ 122) → pkW l v < (v + 1) * 27 ^ l.length
  | [], v, _ => by
    show v < (v + 1) * 27 ^ 0
    rw [Nat.pow_zero, Nat.mul_one]; exact Nat.lt_succ_self v
  | x :: t, v, hx => by
    have h1 := pkW_lt t (27 * v + (x - 96)) (fun y hy => hx y (by simp [hy]))
    have h2 := hx x (by simp)
    refine Nat.lt_of_lt_of_le h1 ?_
    rw [List.length_cons, Nat.pow_succ, Nat.mul_comm (27 ^ t.length) 27, ← Nat.mul_assoc]
    exact Nat.mul_le_mul_right _ (by omega)
theorem pkW_inj : ∀ (l l' : List Nat) (v v' : Nat), l.length = l'.length → (∀ x, x ∈ l → 97 ≤ x ∧ x ≤ 122) → (∀ x, x ∈ l' → 97 ≤ x ∧ x ≤ 122) → pkW l v = pkW l' v' → v = v' ∧ l = l'
  | [], [], v, v', _, _, _, e => ⟨e, rfl⟩
  | [], _ :: _, _, _, h, _, _, _ => by cases h
  | _ :: _, [], _, _, h, _, _, _ => by cases h
  | x :: t, y :: t', v, v', h, h1, h2, e => by
    obtain ⟨e1, e2⟩ := pkW_inj t t' _ _ (Nat.succ.inj h) (fun z hz => h1 z (by simp [hz])) (fun z hz => h2 z (by simp [hz])) e
    have e1 : 27 * v + (x - 96) = 27 * v' + (y - 96) := e1
    have a1 := h1 x (by simp)
    have a2 := h2 y (by simp)
    have e3 : v = v' := by omega
    have e4 : x = y := by omega
    exact ⟨e3, by rw [e4, e2]⟩
theorem lN_inj {a b : Nat} (ha : a < 9000000000000000000) (hb : b < 9000000000000000000) (h : lN a = lN b) : a = b := by
  have h2 : (lN a).toInt = (lN b).toInt := by rw [h]
  unfold lN at h2
  rw [Int64.toInt_ofNat_of_lt (by omega), Int64.toInt_ofNat_of_lt (by omega)] at h2
  omega
theorem wd_eq {l l' : List Nat} (h1 : ∀ x, x ∈ l → 97 ≤ x ∧ x ≤ 122) (h2 : ∀ x, x ∈ l' → 97 ≤ x ∧ x ≤ 122) (hl : l'.length ≤ 11) : (l.length = l'.length ∧ mWd l 0 0 = mWd l' 0 0) ↔ l = l' := by
  constructor
  · rintro ⟨e1, e2⟩
    have z : (0 : Int64) = lN 0 := rfl
    rw [z, mWd_pk l 0 0 (fun x hx => by have := h1 x hx; omega) (by omega), mWd_pk l' 0 0 (fun x hx => by have := h2 x hx; omega) (by omega)] at e2
    have b1 := pkW_lt l 0 (fun x hx => (h1 x hx).2)
    have b2 := pkW_lt l' 0 (fun x hx => (h2 x hx).2)
    have p1 : 27 ^ l'.length ≤ 27 ^ 11 := Nat.pow_le_pow_right (by decide) hl
    have p2 : 27 ^ 11 = 5559060566555523 := by decide
    rw [e1] at b1
    exact (pkW_inj l l' 0 0 e1 h1 h2 (lN_inj (by omega) (by omega) e2)).2
  · intro e
    subst e
    exact ⟨rfl, rfl⟩
theorem tx_ok {k : Nat} : (∀ x, x ∈ txB k → 97 ≤ x ∧ x ≤ 122) ∧ (txB k).length ≤ 7 ∧ txB k ≠ [] := by
  unfold txB
  repeat' split
  all_goals decide
theorem run_in {T : Nat → Nat} {p : Nat → Bool} : ∀ (f i : Nat) (x : Nat), x ∈ runP p T n f i → p x = true
  | 0, _, x, h => by cases h
  | f + 1, i, x, h => by
    unfold runP at h
    split at h
    · rename_i hc
      rcases List.mem_cons.mp h with h1 | h1
      · rw [h1]; exact hc.2
      · exact run_in f (i + 1) x h1
    · cases h
theorem tkL_in {T : Nat → Nat} {x : Nat} (h : x ∈ tkL T n i) : 97 ≤ x ∧ x ≤ 122 := by
  have := run_in _ _ x h
  unfold leP at this
  obtain ⟨z1, z2⟩ := Bool.and_eq_true_iff.mp this
  exact ⟨of_decide_eq_true z1, of_decide_eq_true z2⟩
theorem tkL_k {T : Nat → Nat} (h : tkL T n i ≠ []) : tkK T n i = 2 := by
  unfold tkL runA at h
  unfold tkK
  have hb : ¬ n ≤ tkB T n i := fun z => h (by rw [show n - tkB T n i = 0 from by omega]; rfl)
  rw [if_neg hb]
  cases hp : leP (T (tkB T n i)) with
  | true => exact if_pos rfl
  | false => exact absurd (run_e hp) h
theorem tkL_n {T : Nat → Nat} (hn : n ≤ 700) : (tkL T n i).length ≤ 700 := by
  have := run_len (T := T) (n := n) leP (n - tkB T n i) (tkB T n i)
  unfold tkL runA
  omega
/-- the token that the model has before it -/
abbrev TkI (M : Ms) (T : Nat → Nat) (n i : Nat) : Prop := (mF M 158 = nI (tkE T n i)) ∧ (mF M 159 = nI (tkB T n i)) ∧ (mF M 160 = nI (tkK T n i)) ∧ (mF M 161 = nI (tkL T n i).length) ∧ (mF M 162 = nI (mNv (tkD T n i))) ∧ (mW M = mWd (tkL T n i) 0 0)
theorem TkI.en {M : Ms} {T : Nat → Nat} {n i : Nat} (hse1f : TkI M T n i) : mF M 158 = nI (tkE T n i) := hse1f.1
theorem TkI.bg {M : Ms} {T : Nat → Nat} {n i : Nat} (hse1f : TkI M T n i) : mF M 159 = nI (tkB T n i) := hse1f.2.1
theorem TkI.kd {M : Ms} {T : Nat → Nat} {n i : Nat} (hse1f : TkI M T n i) : mF M 160 = nI (tkK T n i) := hse1f.2.2.1
theorem TkI.ls {M : Ms} {T : Nat → Nat} {n i : Nat} (hse1f : TkI M T n i) : mF M 161 = nI (tkL T n i).length := hse1f.2.2.2.1
theorem TkI.nu {M : Ms} {T : Nat → Nat} {n i : Nat} (hse1f : TkI M T n i) : mF M 162 = nI (mNv (tkD T n i)) := hse1f.2.2.2.2.1
theorem TkI.wd {M : Ms} {T : Nat → Nat} {n i : Nat} (hse1f : TkI M T n i) : mW M = mWd (tkL T n i) 0 0 := hse1f.2.2.2.2.2
theorem tkM_I {M : Ms} {T : Nat → Nat} : TkI (tkM M T n i) T n i := ⟨rfl, rfl, rfl, rfl, rfl, rfl⟩
theorem tkM_T {M : Ms} {T : Nat → Nat} (h : TxM M T n) : TxM (tkM M T n i) T n := h.tk
theorem lgc {a b : Int64} : (lg_cmp a b = nI 0) = (a = b) := by
  unfold lg_cmp
  by_cases h1 : a > b
  · rw [if_pos h1]
    have : ¬ a = b := fun e => by rw [e] at h1; exact Int64.lt_irrefl h1
    rw [eq_false this]
    exact eq_false (by decide)
  · rw [if_neg h1]
    by_cases h2 : a = b
    · rw [if_pos h2, eq_true h2]
      exact eq_true rfl
    · rw [if_neg h2, eq_false h2]
      exact eq_false (by decide)
theorem m_302_lp {M : Ms} (hs : StE (hM A m0 M) q l) (hl : ∀ x, x ∈ l → 97 ≤ x ∧ x ≤ 122) (hl7 : l.length ≤ 7) : ∀ (f j : Nat) (v : Int64), j + f = l.length → exG TB (d + 4) 302 26 [some (.ref m0), some (.ref q), some (.long v), none, some (.int (nI j))] [] (hM A m0 M) = exG TB (d + 4) 302 59 [some (.ref m0), some (.ref q), some (.long (mWd (l.drop j) j v)), none, some (.int (nI l.length))] [] (hM A m0 M)
  | 0, j, v, hj => by
    have : j = l.length := by omega
    subst this
    have q115 := m_115 (d := d + 2) hs
    have kk := hs.k.2
    rw [List.drop_length]
    refine x_302_26.trans ?_
    simp (disch := first | omega | (simp (disch := omega) only [nx_setf, nx_seta, nx_newo, nx_newa]; omega)) only [x_302_28, x_302_29, x_302_32, x_302_35, x_302_38, x_302_39, x_302_40, x_302_41, x_302_43, x_302_46, x_302_47, x_302_48, x_302_51, x_302_52, x_302_53, x_302_56, kv_s, ki_s, kj_s, kd_s, kq_s, kq_n, kq_o, ka_s, kc_r, kc_t, kc0_r, kc0_t, kch_r, kc0h_r, kw_s, kw0_s, kwh_s, kw0h_s, rg_ref, rg_null, rg_rf, ck_t, sel_some, lkn_hd, Option.isSome_some, Bool.true_and, Bool.and_true, okv_i, okv_l, okv_r, okv_n, okv_rf, okv_b, okv_0, okv_1, okv_f, okv_d, c1_i, c1_r, c1_n, c1_rf, c1_f, nI_add, n_mul, n_sub, n_pred, n_eq, n_le, n_lt, n_neN, n_Nne, N_lt, N_le, n_ltN, n_leN, rdI_n, rdJ_n, rdD_n, wrI_n, wrI_z0, wrI_z1, wrI_zb, wrJ_n, wrD_n, aln_s, okn_n, upd_is, upd_ne, Nat.add_zero, Nat.add_sub_cancel, decide_true, decide_false, cond_true, cond_false, if_true, if_false, ite_not, not_true_eq_false, not_false_eq_true, Nat.reduceEqDiff, Nat.reduceAdd, Nat.reduceMul, Nat.reduceSub, Nat.reduceLeDiff, kk, q115, yle (Nat.le_refl l.length), mWd]
  | f + 1, j, v, hj => by
    have hj' : j < l.length := by omega
    have q115 := m_115 (d := d + 2) hs
    have q123 := m_123 (d := d) hs hj'
    have kk := hs.k.2
    have el := nI_l (n := l[j]) (by have := hl _ (List.getElem_mem hj'); omega)
    have ih := m_302_lp hs hl hl7 f (j + 1) (27 * v + lN l[j] - 96) (by omega)
    rw [List.drop_eq_getElem_cons hj', mWd_c, if_pos (by omega), ← ih]
    refine x_302_26.trans ?_
    simp (disch := first | omega | (simp (disch := omega) only [nx_setf, nx_seta, nx_newo, nx_newa]; omega)) only [x_302_28, x_302_29, x_302_32, x_302_35, x_302_38, x_302_39, x_302_40, x_302_41, x_302_43, x_302_46, x_302_47, x_302_48, x_302_51, x_302_52, x_302_53, x_302_56, kv_s, ki_s, kj_s, kd_s, kq_s, kq_n, kq_o, ka_s, kc_r, kc_t, kc0_r, kc0_t, kch_r, kc0h_r, kw_s, kw0_s, kwh_s, kw0h_s, rg_ref, rg_null, rg_rf, ck_t, sel_some, lkn_hd, Option.isSome_some, Bool.true_and, Bool.and_true, okv_i, okv_l, okv_r, okv_n, okv_rf, okv_b, okv_0, okv_1, okv_f, okv_d, c1_i, c1_r, c1_n, c1_rf, c1_f, nI_add, n_mul, n_sub, n_pred, n_eq, n_le, n_lt, n_neN, n_Nne, N_lt, N_le, n_ltN, n_leN, rdI_n, rdJ_n, rdD_n, wrI_n, wrI_z0, wrI_z1, wrI_zb, wrJ_n, wrD_n, aln_s, okn_n, upd_is, upd_ne, Nat.add_zero, Nat.add_sub_cancel, decide_true, decide_false, cond_true, cond_false, if_true, if_false, ite_not, not_true_eq_false, not_false_eq_true, Nat.reduceEqDiff, Nat.reduceAdd, Nat.reduceMul, Nat.reduceSub, Nat.reduceLeDiff, kk, q115, q123, nle hj', el]
theorem m_302 {M : Ms} {T : Nat → Nat} {k : Nat} (h : mO A m0) (hs : StE (hM A m0 M) q (txB k)) (t : TxM M T n) (tk : TkI M T n i) : evG TB (d + 5) 302 [.ref m0, .ref q] (hM A m0 M) = some (.inl (some (.int (bI (decide (tkL T n i = txB k))))), hM A m0 M) := by
  obtain ⟨t1, t2, t3⟩ := tx_ok (k := k)
  have q115 := m_115 (d := d + 2) hs
  have kk := hs.k.2
  have lp := m_302_lp (d := d) hs t1 t2 (txB k).length 0 0 (by omega)
  rw [List.drop_zero] at lp
  have e := wd_eq (l := tkL T n i) (l' := txB k) (fun x hx => tkL_in hx) t1 (by omega)
  have n2 := t.n2
  have ln := tkL_n (T := T) (i := i) n2
  have l160 := tk.kd
  have l161 := tk.ls
  have l165 := tk.wd
  have k4 : tkK T n i ≤ 4 := by unfold tkK; (repeat' split) <;> decide
  rcases pc (tkK T n i = 2) with h1 | h1
  · rcases pc ((tkL T n i).length = (txB k).length) with h2 | h2
    · rcases pc (mWd (tkL T n i) 0 0 = mWd (txB k) 0 0) with h3 | h3
      · rw [decide_eq_true (e.mp ⟨of_eq_true h2, of_eq_true h3⟩), bI_t]
        simp (disch := first | omega | (simp (disch := omega) only [nx_setf, nx_seta, nx_newo, nx_newa]; omega)) only [e_302, x_302_0, x_302_1, x_302_4, x_302_5, x_302_8, x_302_9, x_302_12, x_302_13, x_302_16, x_302_19, x_302_20, x_302_21, x_302_22, x_302_23, x_302_24, x_302_59, x_302_60, x_302_63, x_302_64, x_302_65, x_302_68, x_302_69, x_302_72, x_302_73, hm_c h, hm_148 h, hg_0 h, ha_0, hm_149 h, hg_1 h, ha_1, hm_150 h, hg_2 h, ha_2, hm_151 h, hg_3 h, ha_3, hm_152 h, hg_4 h, ha_4, hm_153 h, hg_5 h, ha_5, hm_154 h, hg_6 h, ha_6, hm_155 h, hs_155, hm_156 h, hg_7 h, ha_7, hm_157 h, hs_157, hm_158 h, hs_158, hm_159 h, hs_159, hm_160 h, hs_160, hm_161 h, hs_161, hm_162 h, hs_162, hm_163 h, hs_163, hm_164 h, hs_164, hm_165 h, hs_165, hm_166 h, hg_8 h, ha_8, hm_167 h, hg_9 h, ha_9, hm_168 h, hg_10 h, ha_10, hm_169 h, hg_11 h, ha_11, hm_170 h, hg_12 h, ha_12, hm_171 h, hg_13 h, ha_13, hm_172 h, hs_172, hm_173 h, hs_173, hm_174 h, hs_174, hm_175 h, hs_175, hm_176 h, hs_176, hm_177 h, hg_14 h, ha_14, hm_178 h, hg_15 h, ha_15, hm_179 h, hg_16 h, ha_16, hm_180 h, hg_17 h, ha_17, hm_181 h, hg_18 h, ha_18, hm_182 h, hg_19 h, ha_19, hm_183 h, hg_20 h, ha_20, hm_184 h, hs_184, hm_185 h, hs_185, hm_186 h, hs_186, mA_uA, mA_uF, mA_uW, mF_uA, mF_uF, mF_uW, mW_uA, mW_uF, mW_uW, uA_uA, uA_uF, uF_uF, bI0, kv_s, ki_s, kj_s, kd_s, kq_s, kq_n, kq_o, ka_s, kc_r, kc_t, kc0_r, kc0_t, kch_r, kc0h_r, kw_s, kw0_s, kwh_s, kw0h_s, rg_ref, rg_null, rg_rf, ck_t, sel_some, lkn_hd, Option.isSome_some, Bool.true_and, Bool.and_true, okv_i, okv_l, okv_r, okv_n, okv_rf, okv_b, okv_0, okv_1, okv_f, okv_d, c1_i, c1_r, c1_n, c1_rf, c1_f, nI_add, n_mul, n_sub, n_pred, n_eq, n_le, n_lt, n_neN, n_Nne, N_lt, N_le, n_ltN, n_leN, rdI_n, rdJ_n, rdD_n, wrI_n, wrI_z0, wrI_z1, wrI_zb, wrJ_n, wrD_n, aln_s, okn_n, upd_is, upd_ne, Nat.add_zero, Nat.add_sub_cancel, decide_true, decide_false, cond_true, cond_false, if_true, if_false, ite_not, not_true_eq_false, not_false_eq_true, Nat.reduceEqDiff, Nat.reduceAdd, Nat.reduceMul, Nat.reduceSub, Nat.reduceLeDiff, kk, q115, lp, l160, l161, l165, h1, h2, h3, lgc]
      · rw [decide_eq_false (fun z => of_eq_false h3 (e.mpr z).2), bI_f]
        simp (disch := first | omega | (simp (disch := omega) only [nx_setf, nx_seta, nx_newo, nx_newa]; omega)) only [e_302, x_302_0, x_302_1, x_302_4, x_302_5, x_302_8, x_302_9, x_302_12, x_302_13, x_302_16, x_302_19, x_302_20, x_302_21, x_302_22, x_302_23, x_302_24, x_302_59, x_302_60, x_302_63, x_302_64, x_302_65, x_302_68, x_302_69, x_302_72, x_302_73, hm_c h, hm_148 h, hg_0 h, ha_0, hm_149 h, hg_1 h, ha_1, hm_150 h, hg_2 h, ha_2, hm_151 h, hg_3 h, ha_3, hm_152 h, hg_4 h, ha_4, hm_153 h, hg_5 h, ha_5, hm_154 h, hg_6 h, ha_6, hm_155 h, hs_155, hm_156 h, hg_7 h, ha_7, hm_157 h, hs_157, hm_158 h, hs_158, hm_159 h, hs_159, hm_160 h, hs_160, hm_161 h, hs_161, hm_162 h, hs_162, hm_163 h, hs_163, hm_164 h, hs_164, hm_165 h, hs_165, hm_166 h, hg_8 h, ha_8, hm_167 h, hg_9 h, ha_9, hm_168 h, hg_10 h, ha_10, hm_169 h, hg_11 h, ha_11, hm_170 h, hg_12 h, ha_12, hm_171 h, hg_13 h, ha_13, hm_172 h, hs_172, hm_173 h, hs_173, hm_174 h, hs_174, hm_175 h, hs_175, hm_176 h, hs_176, hm_177 h, hg_14 h, ha_14, hm_178 h, hg_15 h, ha_15, hm_179 h, hg_16 h, ha_16, hm_180 h, hg_17 h, ha_17, hm_181 h, hg_18 h, ha_18, hm_182 h, hg_19 h, ha_19, hm_183 h, hg_20 h, ha_20, hm_184 h, hs_184, hm_185 h, hs_185, hm_186 h, hs_186, mA_uA, mA_uF, mA_uW, mF_uA, mF_uF, mF_uW, mW_uA, mW_uF, mW_uW, uA_uA, uA_uF, uF_uF, bI0, kv_s, ki_s, kj_s, kd_s, kq_s, kq_n, kq_o, ka_s, kc_r, kc_t, kc0_r, kc0_t, kch_r, kc0h_r, kw_s, kw0_s, kwh_s, kw0h_s, rg_ref, rg_null, rg_rf, ck_t, sel_some, lkn_hd, Option.isSome_some, Bool.true_and, Bool.and_true, okv_i, okv_l, okv_r, okv_n, okv_rf, okv_b, okv_0, okv_1, okv_f, okv_d, c1_i, c1_r, c1_n, c1_rf, c1_f, nI_add, n_mul, n_sub, n_pred, n_eq, n_le, n_lt, n_neN, n_Nne, N_lt, N_le, n_ltN, n_leN, rdI_n, rdJ_n, rdD_n, wrI_n, wrI_z0, wrI_z1, wrI_zb, wrJ_n, wrD_n, aln_s, okn_n, upd_is, upd_ne, Nat.add_zero, Nat.add_sub_cancel, decide_true, decide_false, cond_true, cond_false, if_true, if_false, ite_not, not_true_eq_false, not_false_eq_true, Nat.reduceEqDiff, Nat.reduceAdd, Nat.reduceMul, Nat.reduceSub, Nat.reduceLeDiff, kk, q115, lp, l160, l161, l165, h1, h2, h3, lgc]
    · rw [decide_eq_false (fun z => of_eq_false h2 (by rw [z])), bI_f]
      simp (disch := first | omega | (simp (disch := omega) only [nx_setf, nx_seta, nx_newo, nx_newa]; omega)) only [e_302, x_302_0, x_302_1, x_302_4, x_302_5, x_302_8, x_302_9, x_302_12, x_302_13, x_302_16, x_302_19, x_302_20, x_302_21, x_302_22, x_302_23, x_302_24, hm_c h, hm_148 h, hg_0 h, ha_0, hm_149 h, hg_1 h, ha_1, hm_150 h, hg_2 h, ha_2, hm_151 h, hg_3 h, ha_3, hm_152 h, hg_4 h, ha_4, hm_153 h, hg_5 h, ha_5, hm_154 h, hg_6 h, ha_6, hm_155 h, hs_155, hm_156 h, hg_7 h, ha_7, hm_157 h, hs_157, hm_158 h, hs_158, hm_159 h, hs_159, hm_160 h, hs_160, hm_161 h, hs_161, hm_162 h, hs_162, hm_163 h, hs_163, hm_164 h, hs_164, hm_165 h, hs_165, hm_166 h, hg_8 h, ha_8, hm_167 h, hg_9 h, ha_9, hm_168 h, hg_10 h, ha_10, hm_169 h, hg_11 h, ha_11, hm_170 h, hg_12 h, ha_12, hm_171 h, hg_13 h, ha_13, hm_172 h, hs_172, hm_173 h, hs_173, hm_174 h, hs_174, hm_175 h, hs_175, hm_176 h, hs_176, hm_177 h, hg_14 h, ha_14, hm_178 h, hg_15 h, ha_15, hm_179 h, hg_16 h, ha_16, hm_180 h, hg_17 h, ha_17, hm_181 h, hg_18 h, ha_18, hm_182 h, hg_19 h, ha_19, hm_183 h, hg_20 h, ha_20, hm_184 h, hs_184, hm_185 h, hs_185, hm_186 h, hs_186, mA_uA, mA_uF, mA_uW, mF_uA, mF_uF, mF_uW, mW_uA, mW_uF, mW_uW, uA_uA, uA_uF, uF_uF, bI0, kv_s, ki_s, kj_s, kd_s, kq_s, kq_n, kq_o, ka_s, kc_r, kc_t, kc0_r, kc0_t, kch_r, kc0h_r, kw_s, kw0_s, kwh_s, kw0h_s, rg_ref, rg_null, rg_rf, ck_t, sel_some, lkn_hd, Option.isSome_some, Bool.true_and, Bool.and_true, okv_i, okv_l, okv_r, okv_n, okv_rf, okv_b, okv_0, okv_1, okv_f, okv_d, c1_i, c1_r, c1_n, c1_rf, c1_f, nI_add, n_mul, n_sub, n_pred, n_eq, n_le, n_lt, n_neN, n_Nne, N_lt, N_le, n_ltN, n_leN, rdI_n, rdJ_n, rdD_n, wrI_n, wrI_z0, wrI_z1, wrI_zb, wrJ_n, wrD_n, aln_s, okn_n, upd_is, upd_ne, Nat.add_zero, Nat.add_sub_cancel, decide_true, decide_false, cond_true, cond_false, if_true, if_false, ite_not, not_true_eq_false, not_false_eq_true, Nat.reduceEqDiff, Nat.reduceAdd, Nat.reduceMul, Nat.reduceSub, Nat.reduceLeDiff, kk, q115, l160, l161, h1, h2]
  · rw [decide_eq_false (fun z => of_eq_false h1 (tkL_k (by rw [z]; exact t3))), bI_f]
    simp (disch := first | omega | (simp (disch := omega) only [nx_setf, nx_seta, nx_newo, nx_newa]; omega)) only [e_302, x_302_0, x_302_1, x_302_4, x_302_5, x_302_8, x_302_9, x_302_12, x_302_13, x_302_16, x_302_19, x_302_20, x_302_21, x_302_22, x_302_23, x_302_24, hm_c h, hm_148 h, hg_0 h, ha_0, hm_149 h, hg_1 h, ha_1, hm_150 h, hg_2 h, ha_2, hm_151 h, hg_3 h, ha_3, hm_152 h, hg_4 h, ha_4, hm_153 h, hg_5 h, ha_5, hm_154 h, hg_6 h, ha_6, hm_155 h, hs_155, hm_156 h, hg_7 h, ha_7, hm_157 h, hs_157, hm_158 h, hs_158, hm_159 h, hs_159, hm_160 h, hs_160, hm_161 h, hs_161, hm_162 h, hs_162, hm_163 h, hs_163, hm_164 h, hs_164, hm_165 h, hs_165, hm_166 h, hg_8 h, ha_8, hm_167 h, hg_9 h, ha_9, hm_168 h, hg_10 h, ha_10, hm_169 h, hg_11 h, ha_11, hm_170 h, hg_12 h, ha_12, hm_171 h, hg_13 h, ha_13, hm_172 h, hs_172, hm_173 h, hs_173, hm_174 h, hs_174, hm_175 h, hs_175, hm_176 h, hs_176, hm_177 h, hg_14 h, ha_14, hm_178 h, hg_15 h, ha_15, hm_179 h, hg_16 h, ha_16, hm_180 h, hg_17 h, ha_17, hm_181 h, hg_18 h, ha_18, hm_182 h, hg_19 h, ha_19, hm_183 h, hg_20 h, ha_20, hm_184 h, hs_184, hm_185 h, hs_185, hm_186 h, hs_186, mA_uA, mA_uF, mA_uW, mF_uA, mF_uF, mF_uW, mW_uA, mW_uF, mW_uW, uA_uA, uA_uF, uF_uF, bI0, kv_s, ki_s, kj_s, kd_s, kq_s, kq_n, kq_o, ka_s, kc_r, kc_t, kc0_r, kc0_t, kch_r, kc0h_r, kw_s, kw0_s, kwh_s, kw0h_s, rg_ref, rg_null, rg_rf, ck_t, sel_some, lkn_hd, Option.isSome_some, Bool.true_and, Bool.and_true, okv_i, okv_l, okv_r, okv_n, okv_rf, okv_b, okv_0, okv_1, okv_f, okv_d, c1_i, c1_r, c1_n, c1_rf, c1_f, nI_add, n_mul, n_sub, n_pred, n_eq, n_le, n_lt, n_neN, n_Nne, N_lt, N_le, n_ltN, n_leN, rdI_n, rdJ_n, rdD_n, wrI_n, wrI_z0, wrI_z1, wrI_zb, wrJ_n, wrD_n, aln_s, okn_n, upd_is, upd_ne, Nat.add_zero, Nat.add_sub_cancel, decide_true, decide_false, cond_true, cond_false, if_true, if_false, ite_not, not_true_eq_false, not_false_eq_true, Nat.reduceEqDiff, Nat.reduceAdd, Nat.reduceMul, Nat.reduceSub, Nat.reduceLeDiff, l160, h1]
end
