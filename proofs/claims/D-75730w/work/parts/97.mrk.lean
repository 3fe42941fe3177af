/-! the component: a vehicle copied; marks -/
/-- a count as a number -/
def cN (p : Nat → Bool) : Nat → Nat
  | 0 => 0
  | n + 1 => cN p n + (if p n = true then 1 else 0)
theorem cN_s {p : Nat → Bool} {n : Nat} : cN p (n + 1) = cN p n + (if p n = true then 1 else 0) := rfl
theorem cnt_N {p : Nat → Bool} : ∀ (n : Nat), cnt p n = nI (cN p n)
  | 0 => rfl
  | n + 1 => by
    have e : cnt p (n + 1) = cnt p n + bI (p n) := by unfold cnt; rw [lpF_end, Nat.zero_add]
    rw [e, cnt_N n, cN_s]
    cases p n
    · rw [bI_f, nI_add, if_neg (by decide)]
    · rw [bI_t, nI_add, if_pos rfl]
theorem cN_le {p : Nat → Bool} : ∀ (n : Nat), cN p n ≤ n
  | 0 => Nat.le_refl _
  | n + 1 => by
    have := cN_le (p := p) n
    unfold cN
    split <;> omega
theorem cN_congr {p q : Nat → Bool} : ∀ (n : Nat), (∀ i, i < n → p i = q i) → cN p n = cN q n
  | 0, _ => rfl
  | n + 1, h => by
    unfold cN
    rw [cN_congr n (fun i hi => h i (by omega)), h n (by omega)]
theorem cN_add {p q : Nat → Bool} : ∀ (n : Nat), (∀ i, i < n → ¬ (p i = true ∧ q i = true)) → cN (fun i => p i || q i) n = cN p n + cN q n
  | 0, _ => rfl
  | n + 1, h => by
    unfold cN
    rw [cN_add n (fun i hi => h i (by omega))]
    have := h n (by omega)
    cases hp : p n <;> cases hq : q n <;> simp_all <;> omega
/-- how often a mark is among the places -/
def mkN (S : Nat → Int32) (P h : Nat) : Nat := cN (fun i => decide (S (2200 + i) = nI (h / 2 + 16 * (h % 2)))) P
def mkF (S : Nat → Int32) (P : Nat) : Nat → Option Int32 := fun h => if mkN S P h = 0 then none else some (nI (mkN S P h))
theorem plc_t {S : Nat → Int32} {P g : Nat} : plc S (nI g) true P = nI (mkN S P (2 * g + 1)) := by
  unfold plc mkN
  rw [cnt_N]
  refine congrArg nI (cN_congr P (fun i hi => ?_))
  rw [Bool.not_true, Bool.and_false, Bool.or_false, nI_add, show (2 * g + 1) / 2 + 16 * ((2 * g + 1) % 2) = g + 16 from by omega]
theorem plc_f {S : Nat → Int32} {P g : Nat} (hg : g < 1000) : plc S (nI g) false P = nI (mkN S P (2 * g + 1) + mkN S P (2 * g)) := by
  unfold plc mkN
  rw [cnt_N]
  refine congrArg nI ?_
  rw [← cN_add P (fun i hi z => ?_)]
  · refine cN_congr P (fun i hi => ?_)
    rw [Bool.not_false, Bool.and_true, nI_add, show (2 * g + 1) / 2 + 16 * ((2 * g + 1) % 2) = g + 16 from by omega, show (2 * g) / 2 + 16 * ((2 * g) % 2) = g from by omega]
  · rw [show (2 * g + 1) / 2 + 16 * ((2 * g + 1) % 2) = g + 16 from by omega, show (2 * g) / 2 + 16 * ((2 * g) % 2) = g from by omega] at z
    have z1 := of_decide_eq_true z.1
    have z2 := of_decide_eq_true z.2
    rw [z1] at z2
    have := (nI_eq (by omega) (by omega)).mp z2
    omega
def WMk (A : Hp) (w : Lb) (b mk : Nat) (S : Nat → Int32) (P : Nat) : Prop := HMz A w mk ((1000 * b + 9)) (mkF S P)
/-- a mark laid -/
def mrH (A : Hp) (x y : Int32) : Hp := setf (setf (newo A 8 2 dv8) (nx A) 41 (.int x)) (nx A) 42 (.int y)
theorem c1_ok0 {r : Value} (h : okv 0 r = true) : c1 r = true := by
  cases r <;> first | rfl | cases h
theorem cin_21 : cin (some 21) [21] = true := rfl
theorem dv8_41 : dv8 41 = some (.int (nI 0)) := rfl
theorem dv8_42 : dv8 42 = some (.int (nI 0)) := rfl
section
variable {A A' : Hp} {w w' : Lb} {X : Nat → Prop} {b p q s a v r bl mk y l i d c u n V P g g0 h : Nat} {S S' : Nat → Int32} {f : Nat → Int32} {fh fh' : Nat → Option Int32} {x z t k1 w0 : Int32}
/-- a vehicle copied -/
theorem m_425 (h : ObI A w y l 13 69 6 f) (l' : Nat) : ∃ A', evG TB (d + 3) 425 [.ref y] A = some (.inl (some (.ref (nx A))), A') ∧ ObI A' (upL w (nx A) l') (nx A) l' 13 69 6 f ∧ ∀ X, Fr A w A' (upL w (nx A) l') X 1 6 := by
  have hy := gc_lt h.c
  have h0 : gf A y 69 = some (.int (f 0)) := h.fs 0 (by decide)
  have h1 : gf A y 70 = some (.int (f 1)) := h.fs 1 (by decide)
  have no : ObI (vhH A (f 0) (f 1)) (upL w (nx A) l') (nx A) l' 13 69 6 _ := vhH_o
  have fr := fun X => vhH_fr (A := A) (w := w) (l := l') (X := X) (x := f 0) (z := f 1)
  have yo : ∀ g v, gf A y g = some v → gf (vhH A (f 0) (f 1)) y g = some v := fun g v hv => (fr (fun _ => False)).fd (fun z => z) hv
  refine ⟨setf (setf (setf (setf (vhH A (f 0) (f 1)) (nx A) 71 (.int (f 2))) (nx A) 72 (.int (f 3))) (nx A) 73 (.int (f 4))) (nx A) 74 (.int (f 5)), ?_, ((((no.set 2 (f 2)).set 3 (f 3)).set 4 (f 4)).set 5 (f 5)).to (fun k hk => by grind), fun X => ((((fr X).stn (Nat.le_refl _)).stn (Nat.le_refl _)).stn (Nat.le_refl _)).stn (Nat.le_refl _)⟩
  have q424 := m_424 (A := A) (d := d) (x := f 0) (z := f 1)
  have y2 : gf (vhH A (f 0) (f 1)) y 71 = some (.int (f 2)) := yo _ _ (h.fs 2 (by decide))
  have y3 : gf (vhH A (f 0) (f 1)) y 72 = some (.int (f 3)) := yo _ _ (h.fs 3 (by decide))
  have y4 : gf (vhH A (f 0) (f 1)) y 73 = some (.int (f 4)) := yo _ _ (h.fs 4 (by decide))
  have y5 : gf (vhH A (f 0) (f 1)) y 74 = some (.int (f 5)) := yo _ _ (h.fs 5 (by decide))
  have n2 : gf (vhH A (f 0) (f 1)) (nx A) 71 = some (.int (nI 0)) := no.fs 2 (by decide)
  have n3 : gf (vhH A (f 0) (f 1)) (nx A) 72 = some (.int (nI 0)) := no.fs 3 (by decide)
  have n4 : gf (vhH A (f 0) (f 1)) (nx A) 73 = some (.int nN) := no.fs 4 (by decide)
  have n5 : gf (vhH A (f 0) (f 1)) (nx A) 74 = some (.int (nI 0)) := no.fs 5 (by decide)
  have yn : y ≠ nx A := Nat.ne_of_lt hy
  simp (disch := first | omega | (simp (disch := omega) only [nx_setf, nx_seta, nx_newo, nx_newa]; omega)) only [e_425, x_425_0, x_425_3, x_425_4, x_425_5, x_425_8, x_425_9, x_425_12, x_425_15, x_425_16, x_425_17, x_425_18, x_425_21, x_425_24, x_425_25, x_425_26, x_425_29, x_425_32, x_425_33, x_425_34, x_425_37, x_425_40, x_425_41, x_425_42, x_425_45, x_425_48, x_425_49, kv_s, ki_s, kj_s, kd_s, kq_s, kq_n, kq_o, ka_s, kc_r, kc_t, kc0_r, kc0_t, kch_r, kc0h_r, kw_s, kw0_s, kwh_s, kw0h_s, rg_ref, rg_null, rg_rf, ck_t, sel_some, lkn_hd, Option.isSome_some, Bool.true_and, Bool.and_true, okv_i, okv_l, okv_r, okv_n, okv_rf, okv_b, okv_0, okv_1, okv_f, okv_d, c1_i, c1_r, c1_n, c1_rf, c1_f, nI_add, n_mul, n_sub, n_pred, n_eq, n_le, n_lt, n_neN, n_Nne, N_lt, N_le, n_ltN, n_leN, rdI_n, rdJ_n, rdD_n, wrI_n, wrI_z0, wrI_z1, wrI_zb, wrJ_n, wrD_n, aln_s, okn_n, upd_is, upd_ne, Nat.add_zero, Nat.add_sub_cancel, decide_true, decide_false, cond_true, cond_false, if_true, if_false, ite_not, not_true_eq_false, not_false_eq_true, Nat.reduceEqDiff, Nat.reduceAdd, Nat.reduceMul, Nat.reduceSub, Nat.reduceLeDiff, gf_setf_ne, gf_setf_p, gf_setf_is, va_rf_s, va_rf_n, gf_seta, ga_setf, gc_setf, gc_seta, ga_seta_ne, ga_seta_eq, gf_new, gc_new, gf_newo_o, gc_newo_o, ga_newo_o, ga_new, gf_newa_o, gc_newa_o, ga_newa_o, nx_setf, nx_seta, nx_newo, nx_newa, su_setf, su_seta, su_newo, su_newa, sg_setf, sg_seta, sg_newo, sg_newa, okq_n, h0, h1, q424, y2, y3, y4, y5, n2, n3, n4, n5, Option.isSome_some]
theorem HMz.to (m : HMz A w p l fh) (e : ∀ h, h < 24 → fh' h = fh h) : HMz A w p l fh' := by
  obtain ⟨cap, tb, nf, fl, kO, vO, vv, n, m1, m2, m3⟩ := m
  exact ⟨cap, tb, nf, fl, kO, vO, vv, n, m1, m2, fun h hh => (e h hh).trans (m3 h hh)⟩
theorem WMk.fr (m : WMk A w b mk S P) (g : Fr A w A' w' X c u) (h9 : ¬ X ((1000 * b + 9))) (h0 : ¬ X 0) : WMk A' w' b mk S P := HMz.fr m g h9 h0
theorem WMk.sc (m : WMk A w b mk S P) (hS : ∀ i, i < P → S' (2200 + i) = S (2200 + i)) : WMk A w b mk S' P := HMz.to m (fun h hh => by
  have e : mkN S' P h = mkN S P h := cN_congr P (fun i hi => by rw [hS i hi])
  unfold mkF
  rw [e])
theorem bi_2 {h : Nat} (hh : h = 0 ∨ h = 1) : okv 5 (.int (nI h)) = true := by rcases hh with e | e <;> rw [e] <;> decide
theorem m_279 {m : Nat} (hm : m = 0 ∨ m = 1) : evG TB (d + 2) 279 [.ref (nx A), .int x, .int (nI m)] (newo A 8 2 dv8) = some (.inl none, mrH A x (nI m)) := by
  have o5 := bi_2 hm
  unfold mrH
  simp (disch := first | omega | (simp (disch := omega) only [nx_setf, nx_seta, nx_newo, nx_newa]; omega)) only [e_279, x_279_0, x_279_1, x_279_4, x_279_5, x_279_6, x_279_9, x_279_10, x_279_11, x_279_14, kv_s, ki_s, kj_s, kd_s, kq_s, kq_n, kq_o, ka_s, kc_r, kc_t, kc0_r, kc0_t, kch_r, kc0h_r, kw_s, kw0_s, kwh_s, kw0h_s, rg_ref, rg_null, rg_rf, ck_t, sel_some, lkn_hd, Option.isSome_some, Bool.true_and, Bool.and_true, okv_i, okv_l, okv_r, okv_n, okv_rf, okv_b, okv_0, okv_1, okv_f, okv_d, c1_i, c1_r, c1_n, c1_rf, c1_f, nI_add, n_mul, n_sub, n_pred, n_eq, n_le, n_lt, n_neN, n_Nne, N_lt, N_le, n_ltN, n_leN, rdI_n, rdJ_n, rdD_n, wrI_n, wrI_z0, wrI_z1, wrI_zb, wrJ_n, wrD_n, aln_s, okn_n, upd_is, upd_ne, Nat.add_zero, Nat.add_sub_cancel, decide_true, decide_false, cond_true, cond_false, if_true, if_false, ite_not, not_true_eq_false, not_false_eq_true, Nat.reduceEqDiff, Nat.reduceAdd, Nat.reduceMul, Nat.reduceSub, Nat.reduceLeDiff, gf_setf_ne, gf_setf_p, gf_setf_is, va_rf_s, va_rf_n, gf_seta, ga_setf, gc_setf, gc_seta, ga_seta_ne, ga_seta_eq, gf_new, gc_new, gf_newo_o, gc_newo_o, ga_newo_o, ga_new, gf_newa_o, gc_newa_o, ga_newa_o, nx_setf, nx_seta, nx_newo, nx_newa, su_setf, su_seta, su_newo, su_newa, sg_setf, sg_seta, sg_newo, sg_newa, okq_n, dv8_41, dv8_42, o5, ckT]
theorem mrH_o {m : Nat} (hm : m < 2) : MkO (mrH A (nI g) (nI m)) (nx A) (2 * g + m) := by
  unfold mrH
  refine ⟨by simp (disch := first | omega | (simp (disch := omega) only [nx_setf, nx_seta, nx_newo, nx_newa]; omega)) only [gf_setf_ne, gf_setf_p, gf_setf_is, va_rf_s, va_rf_n, gf_seta, ga_setf, gc_setf, gc_seta, ga_seta_ne, ga_seta_eq, gf_new, gc_new, gf_newo_o, gc_newo_o, ga_newo_o, ga_new, gf_newa_o, gc_newa_o, ga_newa_o, nx_setf, nx_seta, nx_newo, nx_newa, su_setf, su_seta, su_newo, su_newa, sg_setf, sg_seta, sg_newo, sg_newa, okq_n], ?_, ?_⟩
  · rw [show (2 * g + m) / 2 = g from by omega]; simp (disch := first | omega | (simp (disch := omega) only [nx_setf, nx_seta, nx_newo, nx_newa]; omega)) only [gf_setf_ne, gf_setf_p, gf_setf_is, va_rf_s, va_rf_n, gf_seta, ga_setf, gc_setf, gc_seta, ga_seta_ne, ga_seta_eq, gf_new, gc_new, gf_newo_o, gc_newo_o, ga_newo_o, ga_new, gf_newa_o, gc_newa_o, ga_newa_o, nx_setf, nx_seta, nx_newo, nx_newa, su_setf, su_seta, su_newo, su_newa, sg_setf, sg_seta, sg_newo, sg_newa, okq_n]
  · rw [show (2 * g + m) % 2 = m from by omega]; simp (disch := first | omega | (simp (disch := omega) only [nx_setf, nx_seta, nx_newo, nx_newa]; omega)) only [gf_setf_ne, gf_setf_p, gf_setf_is, va_rf_s, va_rf_n, gf_seta, ga_setf, gc_setf, gc_seta, ga_seta_ne, ga_seta_eq, gf_new, gc_new, gf_newo_o, gc_newo_o, ga_newo_o, ga_new, gf_newa_o, gc_newa_o, ga_newa_o, nx_setf, nx_seta, nx_newo, nx_newa, su_setf, su_seta, su_newo, su_newa, sg_setf, sg_seta, sg_newo, sg_newa, okq_n]
theorem mrH_fr : Fr A w (mrH A x z) (upL w (nx A) l) X 1 2 := (Fr.nwo.stn (Nat.le_refl _)).stn (Nat.le_refl _)
/-- how often there is a mark -/
theorem m_257 {m : Nat} (k : WMk A w b mk S P) (o : WO A w b p q s a v r bl mk w0) (hg : g < 12) (hm : m = 0 ∨ m = 1) : evG TB (d + 5) 257 [.ref p, .int (nI g), .int (nI m)] A = some (.inl (some (.int (nI (mkN S P (2 * g + m))))), mrH A (nI g) (nI m)) := by
  have hh : 2 * g + m < 24 := by omega
  have mo : MkO (mrH A (nI g) (nI m)) (nx A) (2 * g + m) := mrH_o (by omega)
  have fr : Fr A w (mrH A (nI g) (nI m)) (upL w (nx A) 0) (fun _ => False) 1 2 := mrH_fr
  have k1 := k.fr fr (fun z => z) (fun z => z)
  have f13 := o.f13
  have q279 := m_279 (A := A) (d := d + 2) (x := nI g) hm
  obtain ⟨cap, tb, nf, fl, kO, vO, vv, n, m1, m2, m3⟩ := k1
  have q := m_29 (d := d) m1 mo hh
  have c6 := m1.c
  have e := m3 _ hh
  unfold mkF at e
  generalize hH : 2 * g + m = H at e q mo hh ⊢
  cases hf : nf H with
  | none =>
    rw [hf] at e q
    have e0 : mkN S P H = 0 := by
      by_cases z : mkN S P H = 0
      · exact z
      · rw [if_neg z] at e; cases e
    rw [e0]
    simp (disch := first | omega | (simp (disch := omega) only [nx_setf, nx_seta, nx_newo, nx_newa]; omega)) only [e_257, x_257_0, x_257_1, x_257_4, x_257_7, x_257_8, x_257_9, x_257_10, x_257_13, x_257_16n, x_257_16r, x_257_19, x_257_20, x_257_21n, x_257_21r, x_257_24, x_257_25, x_257_28, x_257_29, x_257_32, kv_s, ki_s, kj_s, kd_s, kq_s, kq_n, kq_o, ka_s, kc_r, kc_t, kc0_r, kc0_t, kch_r, kc0h_r, kw_s, kw0_s, kwh_s, kw0h_s, rg_ref, rg_null, rg_rf, ck_t, sel_some, lkn_hd, Option.isSome_some, Bool.true_and, Bool.and_true, okv_i, okv_l, okv_r, okv_n, okv_rf, okv_b, okv_0, okv_1, okv_f, okv_d, c1_i, c1_r, c1_n, c1_rf, c1_f, nI_add, n_mul, n_sub, n_pred, n_eq, n_le, n_lt, n_neN, n_Nne, N_lt, N_le, n_ltN, n_leN, rdI_n, rdJ_n, rdD_n, wrI_n, wrI_z0, wrI_z1, wrI_zb, wrJ_n, wrD_n, aln_s, okn_n, upd_is, upd_ne, Nat.add_zero, Nat.add_sub_cancel, decide_true, decide_false, cond_true, cond_false, if_true, if_false, ite_not, not_true_eq_false, not_false_eq_true, Nat.reduceEqDiff, Nat.reduceAdd, Nat.reduceMul, Nat.reduceSub, Nat.reduceLeDiff, gf_setf_ne, gf_setf_p, gf_setf_is, va_rf_s, va_rf_n, gf_seta, ga_setf, gc_setf, gc_seta, ga_seta_ne, ga_seta_eq, gf_new, gc_new, gf_newo_o, gc_newo_o, ga_newo_o, ga_new, gf_newa_o, gc_newa_o, ga_newa_o, nx_setf, nx_seta, nx_newo, nx_newa, su_setf, su_seta, su_newo, su_newa, sg_setf, sg_seta, sg_newo, sg_newa, okq_n, f13, q279, c6, q]
  | some y =>
    rw [hf] at e q
    obtain ⟨_, _, _, _, _, _, _, _, v1, _⟩ := m1.nd _ y hf
    have k21 := v1.k1.2
    have e0 : vv H = nI (mkN S P H) := by
      by_cases z : mkN S P H = 0
      · rw [if_pos z] at e; cases e
      · rw [if_neg z] at e; exact (Option.some.inj e).symm
    rw [e0] at v1
    have q21 := m_21 (d := d + 3) v1
    have c21 : cin (gcs (mrH A (nI g) (nI m)) (vO H)) [21] = true := by rw [k21]; rfl
    simp (disch := first | omega | (simp (disch := omega) only [nx_setf, nx_seta, nx_newo, nx_newa]; omega)) only [e_257, x_257_0, x_257_1, x_257_4, x_257_7, x_257_8, x_257_9, x_257_10, x_257_13, x_257_16n, x_257_16r, x_257_19, x_257_20, x_257_21n, x_257_21r, x_257_24, x_257_25, x_257_28, x_257_29, x_257_32, kv_s, ki_s, kj_s, kd_s, kq_s, kq_n, kq_o, ka_s, kc_r, kc_t, kc0_r, kc0_t, kch_r, kc0h_r, kw_s, kw0_s, kwh_s, kw0h_s, rg_ref, rg_null, rg_rf, ck_t, sel_some, lkn_hd, Option.isSome_some, Bool.true_and, Bool.and_true, okv_i, okv_l, okv_r, okv_n, okv_rf, okv_b, okv_0, okv_1, okv_f, okv_d, c1_i, c1_r, c1_n, c1_rf, c1_f, nI_add, n_mul, n_sub, n_pred, n_eq, n_le, n_lt, n_neN, n_Nne, N_lt, N_le, n_ltN, n_leN, rdI_n, rdJ_n, rdD_n, wrI_n, wrI_z0, wrI_z1, wrI_zb, wrJ_n, wrD_n, aln_s, okn_n, upd_is, upd_ne, Nat.add_zero, Nat.add_sub_cancel, decide_true, decide_false, cond_true, cond_false, if_true, if_false, ite_not, not_true_eq_false, not_false_eq_true, Nat.reduceEqDiff, Nat.reduceAdd, Nat.reduceMul, Nat.reduceSub, Nat.reduceLeDiff, gf_setf_ne, gf_setf_p, gf_setf_is, va_rf_s, va_rf_n, gf_seta, ga_setf, gc_setf, gc_seta, ga_seta_ne, ga_seta_eq, gf_new, gc_new, gf_newo_o, gc_newo_o, ga_newo_o, ga_new, gf_newa_o, gc_newa_o, ga_newa_o, nx_setf, nx_seta, nx_newo, nx_newa, su_setf, su_seta, su_newo, su_newa, sg_setf, sg_seta, sg_newo, sg_newa, okq_n, f13, q279, c6, q, q21, c21, k21, cin_21, ckT]
theorem mkN_s {m : Nat} (hm : m = 0 ∨ m = 1) (hg : g < 12) (hS : ∀ i, i < P → S' (2200 + i) = S (2200 + i)) (hn : S' (2200 + P) = nI (g + 16 * m)) (hh : h < 24) : mkN S' (P + 1) h = mkN S P h + (if h = 2 * g + m then 1 else 0) := by
  unfold mkN
  show cN _ P + (if decide (S' (2200 + P) = nI (h / 2 + 16 * (h % 2))) = true then 1 else 0) = _
  rw [cN_congr P (fun i hi => by rw [hS i hi]), hn]
  congr 1
  by_cases z : h = 2 * g + m
  · have e : h / 2 + 16 * (h % 2) = g + 16 * m := by omega
    rw [if_pos z, e, decide_eq_true rfl, if_pos rfl]
  · rw [if_neg z, decide_eq_false, if_neg (by decide)]
    intro e
    have := (nI_eq (by omega) (by omega)).mp e
    omega
/-- a mark more -/
theorem m_271 {m : Nat} (k : WMk A w b mk S P) (o : WO A w b p q s a v r bl mk w0) (st : St A w g0) (hg : g < 12) (hm : m = 0 ∨ m = 1) (hb : 0 < b) (hP : P < 900) (hS : ∀ i, i < P → S' (2200 + i) = S (2200 + i)) (hn : S' (2200 + P) = nI (g + 16 * m)) : ∃ A' w', evG TB (d + 6) 271 [.ref p, .int (nI g), .int (nI m)] A = some (.inl none, A') ∧ WMk A' w' b mk S' (P + 1) ∧ Fr A w A' w' (fun l => l = (1000 * b + 9)) 5 55 := by
  have hh : 2 * g + m < 24 := by omega
  have hgm : m < 2 := by omega
  have fr : ∀ X, Fr A w (mrH A (nI g) (nI m)) (upL w (nx A) 0) X 1 2 := fun X => mrH_fr
  have k1 := k.fr (fr (fun _ => False)) (fun z => z) (fun z => z)
  have o1 := o.fr (fr (fun _ => False)) (fun z => z)
  have st1 := st.fr (fr (fun _ => False)) (fun z => z)
  have f13 := o1.f13
  have q279 := m_279 (A := A) (d := d + 3) (x := nI g) hm
  have mo : MkO (mrH A (nI g) (nI m)) (nx A) (2 * g + m) := mrH_o hgm
  have wmo : upL w (nx A) 0 (nx A) = 0 := upL_is rfl
  have lmo := gc_lt mo.c
  -- the number boxed
  have hN : mkN S P (2 * g + m) < 2147483647 := by
    exact Nat.lt_of_le_of_lt (cN_le P) (Nat.lt_trans hP (by decide))
  obtain ⟨A2, y, e1, e2, e3, e4⟩ := m_25 (d := d + 2) st1 (g := mkN S P (2 * g + m) + 1) (Nat.succ_lt_succ hN)
  have k2 := k1.fr (e4 (fun _ => False)) (fun z => z) (fun z => z)
  have mo2 := mo.fr (e4 (fun _ => False)) (fun z => z)
  have wmo2 : upL (upL w (nx A) 0) (nx (mrH A (nI g) (nI m))) 0 (nx A) = 0 := by rw [upL_ne (Nat.ne_of_lt lmo)]; exact wmo
  obtain ⟨A3, w3, r3, e5, e5b, e6, e7⟩ := m_32 (d := d) k2 hh mo2 wmo2 e2 e3
  have cr := c1_ok0 e5b
  refine ⟨A3, w3, ?_, HMz.to e6 (fun h hh => ?_), (((fr _).trans (e4 _)).trans e7).mono (fun _ h => h) (by decide) (by decide)⟩
  · obtain ⟨cap, tb, nf, fl, kO, vO, vv, n, m1, m2, m3⟩ := k1
    have q := m_29 (d := d + 1) m1 mo hh
    have c6 := m1.c
    obtain ⟨cap2, tb2, nf2, fl2, kO2, vO2, vv2, n2, m12, m22, m32⟩ := k2
    have c62 := m12.c
    have e := m3 _ hh
    unfold mkF at e
    have lm : nx (mrH A (nI g) (nI m)) = nx A + 1 := rfl
    cases hf : nf (2 * g + m) with
    | none =>
      rw [hf] at e q
      have e0 : mkN S P (2 * g + m) = 0 := by
        by_cases z : mkN S P (2 * g + m) = 0
        · exact z
        · rw [if_neg z] at e; cases e
      rw [e0, Nat.zero_add] at e1
      simp (disch := first | omega | (simp (disch := omega) only [nx_setf, nx_seta, nx_newo, nx_newa]; omega)) only [e_271, x_271_0, x_271_3, x_271_4, x_271_5, x_271_6, x_271_9, x_271_10, x_271_11, x_271_14, x_271_15, x_271_18n, x_271_18r, x_271_21, x_271_23, x_271_24, x_271_27, x_271_28, x_271_30n, x_271_30r, x_271_33, x_271_34, x_271_37, x_271_39, x_271_42, x_271_43, x_271_44, x_271_47, x_271_50, x_271_51, kv_s, ki_s, kj_s, kd_s, kq_s, kq_n, kq_o, ka_s, kc_r, kc_t, kc0_r, kc0_t, kch_r, kc0h_r, kw_s, kw0_s, kwh_s, kw0h_s, rg_ref, rg_null, rg_rf, ck_t, sel_some, lkn_hd, Option.isSome_some, Bool.true_and, Bool.and_true, okv_i, okv_l, okv_r, okv_n, okv_rf, okv_b, okv_0, okv_1, okv_f, okv_d, c1_i, c1_r, c1_n, c1_rf, c1_f, nI_add, n_mul, n_sub, n_pred, n_eq, n_le, n_lt, n_neN, n_Nne, N_lt, N_le, n_ltN, n_leN, rdI_n, rdJ_n, rdD_n, wrI_n, wrI_z0, wrI_z1, wrI_zb, wrJ_n, wrD_n, aln_s, okn_n, upd_is, upd_ne, Nat.add_zero, Nat.add_sub_cancel, decide_true, decide_false, cond_true, cond_false, if_true, if_false, ite_not, not_true_eq_false, not_false_eq_true, Nat.reduceEqDiff, Nat.reduceAdd, Nat.reduceMul, Nat.reduceSub, Nat.reduceLeDiff, gf_setf_ne, gf_setf_p, gf_setf_is, va_rf_s, va_rf_n, gf_seta, ga_setf, gc_setf, gc_seta, ga_seta_ne, ga_seta_eq, gf_new, gc_new, gf_newo_o, gc_newo_o, ga_newo_o, ga_new, gf_newa_o, gc_newa_o, ga_newa_o, nx_setf, nx_seta, nx_newo, nx_newa, su_setf, su_seta, su_newo, su_newa, sg_setf, sg_seta, sg_newo, sg_newa, okq_n, f13, q279, c6, q, e1, c62, e5, cr, ckT]
    | some y2 =>
      rw [hf] at e q
      obtain ⟨_, _, _, _, _, _, _, _, v1, _⟩ := m1.nd _ y2 hf
      have k21 := v1.k1.2
      have e0 : vv (2 * g + m) = nI (mkN S P (2 * g + m)) := by
        by_cases z : mkN S P (2 * g + m) = 0
        · rw [if_pos z] at e; cases e
        · rw [if_neg z] at e; exact (Option.some.inj e).symm
      rw [e0] at v1
      have q21 := m_21 (d := d + 4) v1
      have c21 : cin (gcs (mrH A (nI g) (nI m)) (vO (2 * g + m))) [21] = true := by rw [k21]; rfl
      simp (disch := first | omega | (simp (disch := omega) only [nx_setf, nx_seta, nx_newo, nx_newa]; omega)) only [e_271, x_271_0, x_271_3, x_271_4, x_271_5, x_271_6, x_271_9, x_271_10, x_271_11, x_271_14, x_271_15, x_271_18n, x_271_18r, x_271_21, x_271_23, x_271_24, x_271_27, x_271_28, x_271_30n, x_271_30r, x_271_33, x_271_34, x_271_37, x_271_39, x_271_42, x_271_43, x_271_44, x_271_47, x_271_50, x_271_51, kv_s, ki_s, kj_s, kd_s, kq_s, kq_n, kq_o, ka_s, kc_r, kc_t, kc0_r, kc0_t, kch_r, kc0h_r, kw_s, kw0_s, kwh_s, kw0h_s, rg_ref, rg_null, rg_rf, ck_t, sel_some, lkn_hd, Option.isSome_some, Bool.true_and, Bool.and_true, okv_i, okv_l, okv_r, okv_n, okv_rf, okv_b, okv_0, okv_1, okv_f, okv_d, c1_i, c1_r, c1_n, c1_rf, c1_f, nI_add, n_mul, n_sub, n_pred, n_eq, n_le, n_lt, n_neN, n_Nne, N_lt, N_le, n_ltN, n_leN, rdI_n, rdJ_n, rdD_n, wrI_n, wrI_z0, wrI_z1, wrI_zb, wrJ_n, wrD_n, aln_s, okn_n, upd_is, upd_ne, Nat.add_zero, Nat.add_sub_cancel, decide_true, decide_false, cond_true, cond_false, if_true, if_false, ite_not, not_true_eq_false, not_false_eq_true, Nat.reduceEqDiff, Nat.reduceAdd, Nat.reduceMul, Nat.reduceSub, Nat.reduceLeDiff, gf_setf_ne, gf_setf_p, gf_setf_is, va_rf_s, va_rf_n, gf_seta, ga_setf, gc_setf, gc_seta, ga_seta_ne, ga_seta_eq, gf_new, gc_new, gf_newo_o, gc_newo_o, ga_newo_o, ga_new, gf_newa_o, gc_newa_o, ga_newa_o, nx_setf, nx_seta, nx_newo, nx_newa, su_setf, su_seta, su_newo, su_newa, sg_setf, sg_seta, sg_newo, sg_newa, okq_n, f13, q279, c6, q, q21, c21, k21, cin_21, ckT, e1, c62, e5, cr]
  · unfold mkF updF
    rw [mkN_s hm hg hS hn hh]
    by_cases z : h = 2 * g + m
    · rw [if_pos z, if_pos z, if_neg (by omega), z]
    · rw [if_neg z, if_neg z]
      rfl
end
