/-! the component's world: a read counts, a read more, reads counted -/
abbrev WSt (A : Hp) (w : Lb) (b s : Nat) (S : Nat → Int32) : Prop := (w s = (1000 * b + 1)) ∧ (∃ f, ga A s = some (0, (8, .inl f)) ∧ ∀ k, k < 8 → f k = S k)
theorem WSt.ws {A : Hp} {w : Lb} {b s : Nat} {S : Nat → Int32} (hse1f : WSt A w b s S) : w s = (1000 * b + 1) := hse1f.1
theorem WSt.e {A : Hp} {w : Lb} {b s : Nat} {S : Nat → Int32} (hse1f : WSt A w b s S) : ∃ f, ga A s = some (0, (8, .inl f)) ∧ ∀ k, k < 8 → f k = S k := hse1f.2
/-- the state that a read comes to -/
def ctV (lat t : Int32) : Int32 := if lat < t then nI 1 else nI 4
def stV (k cf lim lat t : Int32) : Int32 := if k = nI 0 ∨ lim ≤ cf then ctV lat t else nI 0
section
variable {A A' : Hp} {w w' : Lb} {X : Nat → Prop} {b p q s a v r bl mk y l i d c u n V : Nat} {S S' : Nat → Int32} {f g : Nat → Int32} {rO vO : Nat → Nat} {x z t k1 w0 : Int32}
theorem WSt.fr (h : WSt A w b s S) (k : Fr A w A' w' X c u) (h1 : ¬ X ((1000 * b + 1))) : WSt A' w' b s S := by
  obtain ⟨ws, f, e1, e2⟩ := h
  have hs : ¬ X (w s) := by rw [ws]; exact h1
  exact ⟨by rw [k.lb hs (ga_lt e1)]; exact ws, f, k.ar hs e1, e2⟩
theorem WSt.sc (h : WSt A w b s S) (hS : ∀ k, k < 8 → S' k = S k) : WSt A w b s S' := by
  obtain ⟨ws, f, e1, e2⟩ := h
  exact ⟨ws, f, e1, fun k hk => by rw [hS k hk]; exact e2 k hk⟩
theorem WSt.rd (h : WSt A w b s S) {k : Nat} (hk : k < 8) : ∃ c, ga A s = some c ∧ rdI 0 (some c) (nI k) = some (S k) := by
  obtain ⟨ws, f, e1, e2⟩ := h
  exact ⟨_, e1, by rw [← e2 k hk]; exact rdI_n hk (by omega)⟩
theorem m_263 (hv : WVh A w b v V vO S) (o : WO A w b p q s a v r bl mk w0) (h : ObI A w y l 17 89 8 f) (hi : i < V) (hl : ∀ j, j < 15 → l ≠ (1000 * b + (40 + j))) (hl6 : l ≠ (1000 * b + 6)) (hl0 : l ≠ (1000 * b + 0)) : ∃ A', evG TB (d + 4) 263 [.ref p, .ref y, .int (nI i)] A = some (.inl none, A') ∧ ObI A' w y l 17 89 8 (fun k => if k = 6 then ctV (latB S (nI i) (cS S 12)) (f 2) else if k = 4 then nI i else f k) ∧ Fr A w A' w (fun z => z = l) 0 0 := by
  have hy := gc_lt h.c
  have f10 := o.f10
  have hp := gc_lt o.c
  have k1 : ObI (setf A y 93 (.int (nI i))) w y l 17 89 8 _ := h.set 4 (nI i)
  have fr1 : Fr A w (setf A y 93 (.int (nI i))) w (fun z => z = l) 0 0 := Fr.stf h.wy
  have v1 := hv.fr fr1 (fun e => hl6 e.symm) (fun j hj e => hl j hj e.symm)
  have o1 := o.fr fr1 (fun e => hl0 e.symm)
  have f10' := o1.f10
  have q47 := v1.l.get (d := d) hi
  have vi := v1.o i hi
  have f73 : gf (setf A y 93 (.int (nI i))) (vO i) 73 = some (.int (latB S (nI i) (cS S 12))) := vi.fs 4 (by decide)
  have f91 : gf A y 91 = some (.int (f 2)) := h.fs 2 (by decide)
  have f93 : gf A y 93 = some (.int (f 4)) := h.fs 4 (by decide)
  have f95 : gf A y 95 = some (.int (f 6)) := h.fs 6 (by decide)
  have c13 : cin (gcs (setf A y 93 (.int (nI i))) (vO i)) [13] = true := by rw [gcs_d vi.c]; rfl
  have lc := v1.l.kc
  have k2 := k1.set 6 (ctV (latB S (nI i) (cS S 12)) (f 2))
  refine ⟨_, ?_, k2.to (fun k hk => by grind), fr1.trans (Fr.stf h.wy)⟩
  unfold ctV
  rcases pc (latB S (nI i) (cS S 12) < f 2) with e | e
  · simp (disch := first | omega | (simp (disch := omega) only [nx_setf, nx_seta, nx_newo, nx_newa]; omega)) only [e_263, x_263_0, x_263_1, x_263_2, x_263_5, x_263_6, x_263_7, x_263_10, x_263_11, x_263_14n, x_263_14r, x_263_17, x_263_20, x_263_21, x_263_24, x_263_27, x_263_28, x_263_31, x_263_32, x_263_35, kv_s, ki_s, kj_s, kd_s, kq_s, kq_n, kq_o, ka_s, kc_r, kc_t, kc0_r, kc0_t, kch_r, kc0h_r, kw_s, kw0_s, kwh_s, kw0h_s, rg_ref, rg_null, rg_rf, ck_t, sel_some, lkn_hd, Option.isSome_some, Bool.true_and, Bool.and_true, okv_i, okv_l, okv_r, okv_n, okv_rf, okv_b, okv_0, okv_1, okv_f, okv_d, c1_i, c1_r, c1_n, c1_rf, c1_f, nI_add, n_mul, n_sub, n_pred, n_eq, n_le, n_lt, n_neN, n_Nne, N_lt, N_le, n_ltN, n_leN, rdI_n, rdJ_n, rdD_n, wrI_n, wrI_z0, wrI_z1, wrI_zb, wrJ_n, wrD_n, aln_s, okn_n, upd_is, upd_ne, Nat.add_zero, Nat.add_sub_cancel, decide_true, decide_false, cond_true, cond_false, if_true, if_false, ite_not, not_true_eq_false, not_false_eq_true, Nat.reduceEqDiff, Nat.reduceAdd, Nat.reduceMul, Nat.reduceSub, Nat.reduceLeDiff, gf_setf_ne, gf_setf_p, gf_setf_is, va_rf_s, va_rf_n, gf_seta, ga_setf, gc_setf, gc_seta, ga_seta_ne, ga_seta_eq, gf_new, gc_new, gf_newo_o, gc_newo_o, ga_newo_o, ga_new, gf_newa_o, gc_newa_o, ga_newa_o, nx_setf, nx_seta, nx_newo, nx_newa, su_setf, su_seta, su_newo, su_newa, sg_setf, sg_seta, sg_newo, sg_newa, okq_n, f93, f10', lc, q47, c13, ckT, f73, f91, f95, e]
  · simp (disch := first | omega | (simp (disch := omega) only [nx_setf, nx_seta, nx_newo, nx_newa]; omega)) only [e_263, x_263_0, x_263_1, x_263_2, x_263_5, x_263_6, x_263_7, x_263_10, x_263_11, x_263_14n, x_263_14r, x_263_17, x_263_20, x_263_21, x_263_24, x_263_27, x_263_28, x_263_31, x_263_32, x_263_35, kv_s, ki_s, kj_s, kd_s, kq_s, kq_n, kq_o, ka_s, kc_r, kc_t, kc0_r, kc0_t, kch_r, kc0h_r, kw_s, kw0_s, kwh_s, kw0h_s, rg_ref, rg_null, rg_rf, ck_t, sel_some, lkn_hd, Option.isSome_some, Bool.true_and, Bool.and_true, okv_i, okv_l, okv_r, okv_n, okv_rf, okv_b, okv_0, okv_1, okv_f, okv_d, c1_i, c1_r, c1_n, c1_rf, c1_f, nI_add, n_mul, n_sub, n_pred, n_eq, n_le, n_lt, n_neN, n_Nne, N_lt, N_le, n_ltN, n_leN, rdI_n, rdJ_n, rdD_n, wrI_n, wrI_z0, wrI_z1, wrI_zb, wrJ_n, wrD_n, aln_s, okn_n, upd_is, upd_ne, Nat.add_zero, Nat.add_sub_cancel, decide_true, decide_false, cond_true, cond_false, if_true, if_false, ite_not, not_true_eq_false, not_false_eq_true, Nat.reduceEqDiff, Nat.reduceAdd, Nat.reduceMul, Nat.reduceSub, Nat.reduceLeDiff, gf_setf_ne, gf_setf_p, gf_setf_is, va_rf_s, va_rf_n, gf_seta, ga_setf, gc_setf, gc_seta, ga_seta_ne, ga_seta_eq, gf_new, gc_new, gf_newo_o, gc_newo_o, ga_newo_o, ga_new, gf_newa_o, gc_newa_o, ga_newa_o, nx_setf, nx_seta, nx_newo, nx_newa, su_setf, su_seta, su_newo, su_newa, sg_setf, sg_seta, sg_newo, sg_newa, okq_n, f93, f10', lc, q47, c13, ckT, f73, f91, f95, e]
def itN (B : Hp) (q k : Nat) : Hp := setf (setf B q 37 (.int (nI (k + 1)))) q 38 (.int (nI k))
/-- a walk along a list that changes the iterator alone -/
theorem itF {α : Type} {H : α → Option Value → Hp → Rv} {Ex : α → Hp → Rv} {F : Nat → α → α} {q p m a n L : Nat} {r : Nat → Nat} (hq : w q = L) (hqp : q ≠ p) (i0 : ItS A q p m 0) (l0 : ALs A p a n m r) (hp : w p ≠ L) (ha : w a ≠ L)
    (st : ∀ k acc o B, k < n → Fr A w B w (fun z => z = L) 0 0 → gc B q = some 7 → (∀ e, evG TB (e + 1) 50 [.ref q] B = some (.inl (some (.int (nI 1))), B)) → (∀ e, evG TB (e + 2) 51 [.ref q] B = some (.inl (some (.ref (r k))), itN B q k)) → Fr A w (itN B q k) w (fun z => z = L) 0 0 → H acc o B = H (F k acc) (some (.ref (r k))) (itN B q k))
    (ex : ∀ acc o B, Fr A w B w (fun z => z = L) 0 0 → gc B q = some 7 → (∀ e, evG TB (e + 1) 50 [.ref q] B = some (.inl (some (.int (nI 0))), B)) → H acc o B = Ex acc B) (acc : α) (o : Option Value) : ∃ B, H acc o A = Ex (lpF F 0 n acc) B ∧ Fr A w B w (fun z => z = L) 0 0 := by
  have key : ∀ (j k : Nat) (acc : α) (o : Option Value) (B : Hp), k + j = n → ItS B q p m k → Fr A w B w (fun z => z = L) 0 0 → ∃ B', H acc o B = Ex (lpF F k j acc) B' ∧ Fr A w B' w (fun z => z = L) 0 0 := by
    intro j
    induction j with
    | zero =>
      intro k acc o B hk it fr
      have lB' := l0.fr fr hp ha
      have h50 := fun e => m_50 (d := e) it lB' (by omega)
      rw [decide_eq_false (by omega), bI_f] at h50
      exact ⟨B, ex acc o B fr it.c h50, fr⟩
    | succ j ih =>
      intro k acc o B hk it fr
      have lB' := l0.fr fr hp ha
      have h50 := fun e => m_50 (d := e) it lB' (by omega)
      rw [decide_eq_true (show k < n by omega), bI_t] at h50
      have h51 := fun e => (m_51 (d := e) it lB' (show k < n by omega) hqp).1
      have it' := (m_51 (d := 0) it lB' (show k < n by omega) hqp).2
      have fr' : Fr A w (itN B q k) w (fun z => z = L) 0 0 := (fr.trans (Fr.stf hq)).trans (Fr.stf hq)
      obtain ⟨B', e1, e2⟩ := ih (k + 1) (F k acc) (some (.ref (r k))) (itN B q k) (by omega) it' fr'
      exact ⟨B', (st k acc o B (by omega) fr it.c h50 h51 fr').trans e1, e2⟩
  exact key n 0 acc o A (by omega) i0 Fr.rf
/-- a walk along a list, iterator and all -/
theorem foldL {α : Type} {H : α → Option Value → Hp → Rv} {Ex : α → Hp → Rv} {F : Nat → α → α} {p l n : Nat} {r : Nat → Nat} (h : WL A w p l n r) (hl : l ≠ 7)
    (st : ∀ k acc o B, k < n → Fr A w (itN B (nx A) k) (upL w (nx A) 7) (fun z => z = 7) 1 4 → gc B (nx A) = some 7 → (∀ e, evG TB (e + 1) 50 [.ref (nx A)] B = some (.inl (some (.int (nI 1))), B)) → (∀ e, evG TB (e + 2) 51 [.ref (nx A)] B = some (.inl (some (.ref (r k))), itN B (nx A) k)) → H acc o B = H (F k acc) (some (.ref (r k))) (itN B (nx A) k))
    (ex : ∀ acc o B, Fr A w B (upL w (nx A) 7) (fun z => z = 7) 1 4 → gc B (nx A) = some 7 → (∀ e, evG TB (e + 1) 50 [.ref (nx A)] B = some (.inl (some (.int (nI 0))), B)) → H acc o B = Ex acc B) (acc : α) (o : Option Value) :
    ∃ A1 B, (∀ e, evG TB (e + 3) 40 [.ref p] A = some (.inl (some (.ref (nx A))), A1)) ∧ H acc o A1 = Ex (lpF F 0 n acc) B ∧ (∀ X, X 7 → Fr A w B (upL w (nx A) 7) X 1 4) ∧ (∀ X, Fr A w A1 (upL w (nx A) 7) X 1 4) := by
  obtain ⟨wr, ar, hal, hw2, hne⟩ := h
  obtain ⟨A1, e1, it, fr1⟩ := m_40 (d := 0) hal w 7
  have e1' : ∀ e, evG TB (e + 3) 40 [.ref p] A = some (.inl (some (.ref (nx A))), A1) := fun e => by
    obtain ⟨A2, e2, _⟩ := m_40 (d := e) hal w 7
    have f18 := hal.fm
    have hp := gc_lt hal.c
    have hne : p ≠ nx A := Nat.ne_of_lt hp
    have g1 : evG TB (0 + 3) 40 [.ref p] A = some (.inl (some (.ref (nx A))), setf (setf (setf (newo A 7 4 dv7) (nx A) 40 (.ref p)) (nx A) 38 (.int nN)) (nx A) 39 (.int (nI n))) := by
      simp (disch := first | omega | (simp (disch := omega) only [nx_setf, nx_seta, nx_newo, nx_newa]; omega)) only [e_40, x_40_0, x_40_3, x_40_4, x_40_5, x_40_8, e_49, x_49_0, x_49_1, x_49_2, x_49_5, x_49_6, x_49_9, x_49_10, x_49_11, x_49_14, x_49_15, x_49_16, x_49_19, x_49_22, x_49_25, kv_s, ki_s, kj_s, kd_s, kq_s, kq_n, kq_o, ka_s, kc_r, kc_t, kc0_r, kc0_t, kch_r, kc0h_r, kw_s, kw0_s, kwh_s, kw0h_s, rg_ref, rg_null, rg_rf, ck_t, sel_some, lkn_hd, Option.isSome_some, Bool.true_and, Bool.and_true, okv_i, okv_l, okv_r, okv_n, okv_rf, okv_b, okv_0, okv_1, okv_f, okv_d, c1_i, c1_r, c1_n, c1_rf, c1_f, nI_add, n_mul, n_sub, n_pred, n_eq, n_le, n_lt, n_neN, n_Nne, N_lt, N_le, n_ltN, n_leN, rdI_n, rdJ_n, rdD_n, wrI_n, wrI_z0, wrI_z1, wrI_zb, wrJ_n, wrD_n, aln_s, okn_n, upd_is, upd_ne, Nat.add_zero, Nat.add_sub_cancel, decide_true, decide_false, cond_true, cond_false, if_true, if_false, ite_not, not_true_eq_false, not_false_eq_true, Nat.reduceEqDiff, Nat.reduceAdd, Nat.reduceMul, Nat.reduceSub, Nat.reduceLeDiff, gf_setf_ne, gf_setf_p, gf_setf_is, va_rf_s, va_rf_n, gf_seta, ga_setf, gc_setf, gc_seta, ga_seta_ne, ga_seta_eq, gf_new, gc_new, gf_newo_o, gc_newo_o, ga_newo_o, ga_new, gf_newa_o, gc_newa_o, ga_newa_o, nx_setf, nx_seta, nx_newo, nx_newa, su_setf, su_seta, su_newo, su_newa, sg_setf, sg_seta, sg_newo, sg_newa, okq_n, f18, dv7_37, dv7_38, dv7_39, dv7_40]
    have g2 : evG TB (e + 3) 40 [.ref p] A = some (.inl (some (.ref (nx A))), setf (setf (setf (newo A 7 4 dv7) (nx A) 40 (.ref p)) (nx A) 38 (.int nN)) (nx A) 39 (.int (nI n))) := by
      simp (disch := first | omega | (simp (disch := omega) only [nx_setf, nx_seta, nx_newo, nx_newa]; omega)) only [e_40, x_40_0, x_40_3, x_40_4, x_40_5, x_40_8, e_49, x_49_0, x_49_1, x_49_2, x_49_5, x_49_6, x_49_9, x_49_10, x_49_11, x_49_14, x_49_15, x_49_16, x_49_19, x_49_22, x_49_25, kv_s, ki_s, kj_s, kd_s, kq_s, kq_n, kq_o, ka_s, kc_r, kc_t, kc0_r, kc0_t, kch_r, kc0h_r, kw_s, kw0_s, kwh_s, kw0h_s, rg_ref, rg_null, rg_rf, ck_t, sel_some, lkn_hd, Option.isSome_some, Bool.true_and, Bool.and_true, okv_i, okv_l, okv_r, okv_n, okv_rf, okv_b, okv_0, okv_1, okv_f, okv_d, c1_i, c1_r, c1_n, c1_rf, c1_f, nI_add, n_mul, n_sub, n_pred, n_eq, n_le, n_lt, n_neN, n_Nne, N_lt, N_le, n_ltN, n_leN, rdI_n, rdJ_n, rdD_n, wrI_n, wrI_z0, wrI_z1, wrI_zb, wrJ_n, wrD_n, aln_s, okn_n, upd_is, upd_ne, Nat.add_zero, Nat.add_sub_cancel, decide_true, decide_false, cond_true, cond_false, if_true, if_false, ite_not, not_true_eq_false, not_false_eq_true, Nat.reduceEqDiff, Nat.reduceAdd, Nat.reduceMul, Nat.reduceSub, Nat.reduceLeDiff, gf_setf_ne, gf_setf_p, gf_setf_is, va_rf_s, va_rf_n, gf_seta, ga_setf, gc_setf, gc_seta, ga_seta_ne, ga_seta_eq, gf_new, gc_new, gf_newo_o, gc_newo_o, ga_newo_o, ga_new, gf_newa_o, gc_newa_o, ga_newa_o, nx_setf, nx_seta, nx_newo, nx_newa, su_setf, su_seta, su_newo, su_newa, sg_setf, sg_seta, sg_newo, sg_newa, okq_n, f18, dv7_37, dv7_38, dv7_39, dv7_40]
    rw [e1] at g1
    rw [g2, ← g1]
  have f0 := fr1 (fun _ => False)
  have hrn : p ≠ nx A := Nat.ne_of_lt (gc_lt hal.c)
  obtain ⟨_, _, ga0, _⟩ := hal.ar
  have han : ar ≠ nx A := Nat.ne_of_lt (ga_lt ga0)
  have wr7 : upL w (nx A) 7 p ≠ 7 := by rw [upL_ne hrn, wr]; exact hl
  have wa7 : upL w (nx A) 7 ar ≠ 7 := by rw [upL_ne han, hw2]; exact hl
  have al1 := hal.fr f0 (fun z => z) (fun z => z)
  have tr : ∀ B, Fr A1 (upL w (nx A) 7) B (upL w (nx A) 7) (fun z => z = 7) 0 0 → Fr A w B (upL w (nx A) 7) (fun z => z = 7) 1 4 := fun B h => (fr1 _).trans h
  obtain ⟨B, r1, r2⟩ := itF (A := A1) (w := upL w (nx A) 7) (L := 7) (q := nx A) (p := p) (H := H) (Ex := Ex) (F := F) (upL_is rfl) hrn.symm it al1 wr7 wa7
    (fun k acc o B hk fr c7 h50 h51 fr' => st k acc o B hk (tr _ fr') c7 h50 h51)
    (fun acc o B fr c7 h50 => ex acc o B (tr _ fr) c7 h50) acc o
  exact ⟨A1, B, e1', r1, fun X hX => (tr _ r2).mono (fun l h => by rw [h]; exact hX) (Nat.le_refl _) (Nat.le_refl _), fr1⟩
/-- the reads of a vehicle in a state -/
theorem m_260 (h : WRd A w b r n rO S) (o : WO A w b p q s a v r bl mk w0) (hb : 0 < b) {st : Int32} : ∃ A', evG TB (d + 4) 260 [.ref p, .int x, .int st] A = some (.inl (some (.int (cnt (fun i => decide (S (280 + 7 * i) = x) && decide (S (280 + 7 * i + 5) = st)) n))), A') ∧ ∀ X, X 7 → Fr A w A' (upL w (nx A) 7) X 1 4 := by
  have f11 := o.f11
  have lc := h.l.kc
  obtain ⟨A1, B, e1, r1, r2, _⟩ := foldL h.l (by omega)
    (H := fun (c : Int32) o B => exG TB (d + 3) 260 11 [some (.ref p), some (.int x), some (.int st), some (.int c), some (.ref (nx A)), o] [] B)
    (Ex := fun c B => some (.inl (some (.int c)), B))
    (F := fun i c => c + bI (decide (S (280 + 7 * i) = x) && decide (S (280 + 7 * i + 5) = st)))
    (fun k acc o B hk fr c7 h50 h51 => by
      have hb := (h.o k hk).fr fr (by rcases rlb_c (S := S) (b := b) (i := k) with z | z <;> rw [z] <;> omega)
      have v93 : gf (itN B (nx A) k) (rO k) 93 = some (.int (S (280 + 7 * k))) := hb.fs 4 (by decide)
      have v95 : gf (itN B (nx A) k) (rO k) 95 = some (.int (S (280 + 7 * k + 5))) := hb.fs 6 (by decide)
      have c17 : cin (gcs (itN B (nx A) k) (rO k)) [17] = true := by rw [gcs_d hb.c]; rfl
      rcases pc (S (280 + 7 * k) = x) with e1 | e1 <;> rcases pc (S (280 + 7 * k + 5) = st) with e2 | e2 <;> (refine x_260_11.trans ?_; simp (disch := first | omega | (simp (disch := omega) only [nx_setf, nx_seta, nx_newo, nx_newa]; omega)) only [x_260_13, x_260_18, x_260_21, x_260_23, x_260_28n, x_260_28r, x_260_31, x_260_33, x_260_34, x_260_36, x_260_39, x_260_40, x_260_43, x_260_45, x_260_48, x_260_49, x_260_52, x_260_53, x_260_56, x_260_57, x_260_58, x_260_59, x_260_62, x_260_63, kv_s, ki_s, kj_s, kd_s, kq_s, kq_n, kq_o, ka_s, kc_r, kc_t, kc0_r, kc0_t, kch_r, kc0h_r, kw_s, kw0_s, kwh_s, kw0h_s, rg_ref, rg_null, rg_rf, ck_t, sel_some, lkn_hd, Option.isSome_some, Bool.true_and, Bool.and_true, okv_i, okv_l, okv_r, okv_n, okv_rf, okv_b, okv_0, okv_1, okv_f, okv_d, c1_i, c1_r, c1_n, c1_rf, c1_f, nI_add, n_mul, n_sub, n_pred, n_eq, n_le, n_lt, n_neN, n_Nne, N_lt, N_le, n_ltN, n_leN, rdI_n, rdJ_n, rdD_n, wrI_n, wrI_z0, wrI_z1, wrI_zb, wrJ_n, wrD_n, aln_s, okn_n, upd_is, upd_ne, Nat.add_zero, Nat.add_sub_cancel, decide_true, decide_false, cond_true, cond_false, if_true, if_false, ite_not, not_true_eq_false, not_false_eq_true, Nat.reduceEqDiff, Nat.reduceAdd, Nat.reduceMul, Nat.reduceSub, Nat.reduceLeDiff, c7, h50, h51, c17, ckT, v93, v95, e1, e2, decide_true, decide_false, Bool.true_and, Bool.false_and, bI_t, bI_f]))
    (fun acc o B fr c7 h50 => by
      refine x_260_11.trans ?_
      simp (disch := first | omega | (simp (disch := omega) only [nx_setf, nx_seta, nx_newo, nx_newa]; omega)) only [x_260_13, x_260_18, x_260_21, x_260_23, x_260_28n, x_260_28r, x_260_31, x_260_33, x_260_34, x_260_36, x_260_39, x_260_40, x_260_43, x_260_45, x_260_48, x_260_49, x_260_52, x_260_53, x_260_56, x_260_57, x_260_58, x_260_59, x_260_62, x_260_63, kv_s, ki_s, kj_s, kd_s, kq_s, kq_n, kq_o, ka_s, kc_r, kc_t, kc0_r, kc0_t, kch_r, kc0h_r, kw_s, kw0_s, kwh_s, kw0h_s, rg_ref, rg_null, rg_rf, ck_t, sel_some, lkn_hd, Option.isSome_some, Bool.true_and, Bool.and_true, okv_i, okv_l, okv_r, okv_n, okv_rf, okv_b, okv_0, okv_1, okv_f, okv_d, c1_i, c1_r, c1_n, c1_rf, c1_f, nI_add, n_mul, n_sub, n_pred, n_eq, n_le, n_lt, n_neN, n_Nne, N_lt, N_le, n_ltN, n_leN, rdI_n, rdJ_n, rdD_n, wrI_n, wrI_z0, wrI_z1, wrI_zb, wrJ_n, wrD_n, aln_s, okn_n, upd_is, upd_ne, Nat.add_zero, Nat.add_sub_cancel, decide_true, decide_false, cond_true, cond_false, if_true, if_false, ite_not, not_true_eq_false, not_false_eq_true, Nat.reduceEqDiff, Nat.reduceAdd, Nat.reduceMul, Nat.reduceSub, Nat.reduceLeDiff, c7, h50]) (nI 0) none
  refine ⟨B, ?_, r2⟩
  simp (disch := first | omega | (simp (disch := omega) only [nx_setf, nx_seta, nx_newo, nx_newa]; omega)) only [e_260, x_260_0, x_260_1, x_260_2, x_260_3, x_260_6, x_260_9, kv_s, ki_s, kj_s, kd_s, kq_s, kq_n, kq_o, ka_s, kc_r, kc_t, kc0_r, kc0_t, kch_r, kc0h_r, kw_s, kw0_s, kwh_s, kw0h_s, rg_ref, rg_null, rg_rf, ck_t, sel_some, lkn_hd, Option.isSome_some, Bool.true_and, Bool.and_true, okv_i, okv_l, okv_r, okv_n, okv_rf, okv_b, okv_0, okv_1, okv_f, okv_d, c1_i, c1_r, c1_n, c1_rf, c1_f, nI_add, n_mul, n_sub, n_pred, n_eq, n_le, n_lt, n_neN, n_Nne, N_lt, N_le, n_ltN, n_leN, rdI_n, rdJ_n, rdD_n, wrI_n, wrI_z0, wrI_z1, wrI_zb, wrJ_n, wrD_n, aln_s, okn_n, upd_is, upd_ne, Nat.add_zero, Nat.add_sub_cancel, decide_true, decide_false, cond_true, cond_false, if_true, if_false, ite_not, not_true_eq_false, not_false_eq_true, Nat.reduceEqDiff, Nat.reduceAdd, Nat.reduceMul, Nat.reduceSub, Nat.reduceLeDiff, f11, lc, e1]
  exact r1
/-- a read more -/
theorem m_262 (hr : WRd A w b r n rO S) (hv : WVh A w b v V vO S) (hs : WSt A w b s S) (o : WO A w b p q s a v r bl mk w0) (h : ObI A w y ((1000 * b + (100 + n))) 17 89 8 f) (hn : n < 120) (hi : i < V) (h0 : f 0 = nI n) (h3 : f 3 = nI 0 ∨ f 3 = nI 1) (h7 : f 7 = nN)
    (hS : ∀ j, 280 ≤ j → j < 280 + 7 * n → S' j = S j) (hx : S' (280 + 7 * n) = nI i ∧ S' (280 + 7 * n + 1) = f 1 ∧ S' (280 + 7 * n + 2) = f 2 ∧ S' (280 + 7 * n + 3) = f 3 ∧ S' (280 + 7 * n + 4) = x ∧ S' (280 + 7 * n + 5) = stV (f 3) x (S 4) (latB S (nI i) (cS S 12)) (f 2) ∧ S' (280 + 7 * n + 6) = nN) :
    ∃ A' w', evG TB (d + 8) 262 [.ref p, .ref y, .int (nI i), .int x] A = some (.inl (some (.int (nI n))), A') ∧ WRd A' w' b r (n + 1) (updN rO n y) S' ∧ Fr A w A' w' (fun l => l = (1000 * b + (100 + n)) ∨ l = (1000 * b + 7)) 1 250 := by
  have hy := gc_lt h.c
  have f11 := o.f11
  have f7 := o.f7
  have hp := gc_lt o.c
  have g94 : gf A y 94 = some (.int (f 5)) := h.fs 5 (by decide)
  have k1 : ObI (setf A y 94 (.int x)) w y ((1000 * b + (100 + n))) 17 89 8 (fun k => if k = 5 then x else f k) := h.set 5 x
  have g92 : gf (setf A y 94 (.int x)) y 92 = some (.int (f 3)) := k1.fs 3 (by decide)
  have g93 : gf (setf A y 94 (.int x)) y 93 = some (.int (f 4)) := k1.fs 4 (by decide)
  have g95 : gf (setf A y 94 (.int x)) y 95 = some (.int (f 6)) := k1.fs 6 (by decide)
  have fr1 : Fr A w (setf A y 94 (.int x)) w (fun z => z = (1000 * b + (100 + n))) 0 0 := Fr.stf h.wy
  have yp : p ≠ y := fun e => by have := o.c; rw [e, h.c] at this; cases this
  have f7' : gf (setf A y 94 (.int x)) p 7 = some (.ref s) := by rw [gf_setf_p yp]; exact f7
  obtain ⟨c4, s1, s2⟩ := hs.rd (k := 4) (by decide)
  have s1' : ga (setf A y 94 (.int x)) s = some c4 := by rw [ga_setf]; exact s1
  -- the state
  have mid : ∃ A2, (∀ L st, exG TB (d + 7) 262 41 L st A2 = exG TB (d + 7) 262 41 L st A2) ∧ evG TB (d + 8) 262 [.ref p, .ref y, .int (nI i), .int x] A = exG TB (d + 7) 262 41 [some (.ref p), some (.ref y), some (.int (nI i)), some (.int x)] [] A2 ∧ ObI A2 w y ((1000 * b + (100 + n))) 17 89 8 (rdFn S' n) ∧ Fr A w A2 w (fun z => z = (1000 * b + (100 + n))) 0 0 := by
    obtain ⟨x0, x1, x2, x3, x4, x5, x6⟩ := hx
    have fin : ∀ g : Nat → Int32, (∀ k, k < 8 → g k = if k = 6 then stV (f 3) x (S 4) (latB S (nI i) (cS S 12)) (f 2) else if k = 4 then nI i else if k = 5 then x else f k) → ∀ k, k < 8 → rdFn S' n k = g k := fun g hg k hk => by
      rw [hg k hk]
      have : k = 0 ∨ k = 1 ∨ k = 2 ∨ k = 3 ∨ k = 4 ∨ k = 5 ∨ k = 6 ∨ k = 7 := by omega
      rcases this with e | e | e | e | e | e | e | e <;> subst e
      · exact h0.symm
      · exact x1
      · exact x2
      · exact x3
      · exact x0
      · exact x4
      · exact x5
      · exact x6.trans h7.symm
    by_cases hc : f 3 = nI 0 ∨ S 4 ≤ x
    · obtain ⟨A2, e1, e2, e3⟩ := m_263 (d := d + 3) (hv.fr fr1 (by omega) (fun j hj => by omega)) (o.fr fr1 (by omega)) k1 hi (fun j hj => by omega) (by omega) (by omega)
      refine ⟨A2, fun _ _ => rfl, ?_, e2.to (fin _ (fun k hk => ?_)), fr1.trans e3⟩
      · rcases h3 with z | z
        · rw [z] at g92
          simp (disch := first | omega | (simp (disch := omega) only [nx_setf, nx_seta, nx_newo, nx_newa]; omega)) only [e_262, x_262_0, x_262_1, x_262_2, x_262_5, x_262_6, x_262_9, x_262_12, x_262_13, x_262_14, x_262_17, x_262_18, x_262_19, x_262_22, x_262_23, x_262_24, x_262_27, x_262_28, x_262_29, x_262_32, x_262_35, x_262_36, x_262_37, x_262_38, kv_s, ki_s, kj_s, kd_s, kq_s, kq_n, kq_o, ka_s, kc_r, kc_t, kc0_r, kc0_t, kch_r, kc0h_r, kw_s, kw0_s, kwh_s, kw0h_s, rg_ref, rg_null, rg_rf, ck_t, sel_some, lkn_hd, Option.isSome_some, Bool.true_and, Bool.and_true, okv_i, okv_l, okv_r, okv_n, okv_rf, okv_b, okv_0, okv_1, okv_f, okv_d, c1_i, c1_r, c1_n, c1_rf, c1_f, nI_add, n_mul, n_sub, n_pred, n_eq, n_le, n_lt, n_neN, n_Nne, N_lt, N_le, n_ltN, n_leN, rdI_n, rdJ_n, rdD_n, wrI_n, wrI_z0, wrI_z1, wrI_zb, wrJ_n, wrD_n, aln_s, okn_n, upd_is, upd_ne, Nat.add_zero, Nat.add_sub_cancel, decide_true, decide_false, cond_true, cond_false, if_true, if_false, ite_not, not_true_eq_false, not_false_eq_true, Nat.reduceEqDiff, Nat.reduceAdd, Nat.reduceMul, Nat.reduceSub, Nat.reduceLeDiff, gf_setf_ne, gf_setf_p, gf_setf_is, va_rf_s, va_rf_n, gf_seta, ga_setf, gc_setf, gc_seta, ga_seta_ne, ga_seta_eq, gf_new, gc_new, gf_newo_o, gc_newo_o, ga_newo_o, ga_new, gf_newa_o, gc_newa_o, ga_newa_o, nx_setf, nx_seta, nx_newo, nx_newa, su_setf, su_seta, su_newo, su_newa, sg_setf, sg_seta, sg_newo, sg_newa, okq_n, g94, g92, o.c, e1]
        · rw [z] at g92 hc
          have hle : S 4 ≤ x := hc.resolve_left (by decide)
          have hle' : (S 4 ≤ x) = True := eq_true hle
          simp (disch := first | omega | (simp (disch := omega) only [nx_setf, nx_seta, nx_newo, nx_newa]; omega)) only [e_262, x_262_0, x_262_1, x_262_2, x_262_5, x_262_6, x_262_9, x_262_12, x_262_13, x_262_14, x_262_17, x_262_18, x_262_19, x_262_22, x_262_23, x_262_24, x_262_27, x_262_28, x_262_29, x_262_32, x_262_35, x_262_36, x_262_37, x_262_38, kv_s, ki_s, kj_s, kd_s, kq_s, kq_n, kq_o, ka_s, kc_r, kc_t, kc0_r, kc0_t, kch_r, kc0h_r, kw_s, kw0_s, kwh_s, kw0h_s, rg_ref, rg_null, rg_rf, ck_t, sel_some, lkn_hd, Option.isSome_some, Bool.true_and, Bool.and_true, okv_i, okv_l, okv_r, okv_n, okv_rf, okv_b, okv_0, okv_1, okv_f, okv_d, c1_i, c1_r, c1_n, c1_rf, c1_f, nI_add, n_mul, n_sub, n_pred, n_eq, n_le, n_lt, n_neN, n_Nne, N_lt, N_le, n_ltN, n_leN, rdI_n, rdJ_n, rdD_n, wrI_n, wrI_z0, wrI_z1, wrI_zb, wrJ_n, wrD_n, aln_s, okn_n, upd_is, upd_ne, Nat.add_zero, Nat.add_sub_cancel, decide_true, decide_false, cond_true, cond_false, if_true, if_false, ite_not, not_true_eq_false, not_false_eq_true, Nat.reduceEqDiff, Nat.reduceAdd, Nat.reduceMul, Nat.reduceSub, Nat.reduceLeDiff, gf_setf_ne, gf_setf_p, gf_setf_is, va_rf_s, va_rf_n, gf_seta, ga_setf, gc_setf, gc_seta, ga_seta_ne, ga_seta_eq, gf_new, gc_new, gf_newo_o, gc_newo_o, ga_newo_o, ga_new, gf_newa_o, gc_newa_o, ga_newa_o, nx_setf, nx_seta, nx_newo, nx_newa, su_setf, su_seta, su_newo, su_newa, sg_setf, sg_seta, sg_newo, sg_newa, okq_n, g94, g92, f7', s1', s2, hle', o.c, e1]
      · have hst : stV (f 3) x (S 4) (latB S (nI i) (cS S 12)) (f 2) = ctV (latB S (nI i) (cS S 12)) (f 2) := if_pos hc
        rw [hst]
        rfl
    · have h3' : f 3 = nI 1 := h3.resolve_left (fun e => hc (Or.inl e))
      have hle : (S 4 ≤ x) = False := eq_false (fun e => hc (Or.inr e))
      rw [h3'] at g92
      refine ⟨setf (setf (setf A y 94 (.int x)) y 93 (.int (nI i))) y 95 (.int (nI 0)), fun _ _ => rfl, ?_, ((k1.set 4 (nI i)).set 6 (nI 0)).to (fin _ (fun k hk => ?_)), (fr1.trans (Fr.stf h.wy)).trans (Fr.stf h.wy)⟩
      · simp (disch := first | omega | (simp (disch := omega) only [nx_setf, nx_seta, nx_newo, nx_newa]; omega)) only [e_262, x_262_0, x_262_1, x_262_2, x_262_5, x_262_6, x_262_9, x_262_12, x_262_13, x_262_14, x_262_17, x_262_18, x_262_19, x_262_22, x_262_23, x_262_24, x_262_27, x_262_28, x_262_29, x_262_32, x_262_35, x_262_36, x_262_37, x_262_38, kv_s, ki_s, kj_s, kd_s, kq_s, kq_n, kq_o, ka_s, kc_r, kc_t, kc0_r, kc0_t, kch_r, kc0h_r, kw_s, kw0_s, kwh_s, kw0h_s, rg_ref, rg_null, rg_rf, ck_t, sel_some, lkn_hd, Option.isSome_some, Bool.true_and, Bool.and_true, okv_i, okv_l, okv_r, okv_n, okv_rf, okv_b, okv_0, okv_1, okv_f, okv_d, c1_i, c1_r, c1_n, c1_rf, c1_f, nI_add, n_mul, n_sub, n_pred, n_eq, n_le, n_lt, n_neN, n_Nne, N_lt, N_le, n_ltN, n_leN, rdI_n, rdJ_n, rdD_n, wrI_n, wrI_z0, wrI_z1, wrI_zb, wrJ_n, wrD_n, aln_s, okn_n, upd_is, upd_ne, Nat.add_zero, Nat.add_sub_cancel, decide_true, decide_false, cond_true, cond_false, if_true, if_false, ite_not, not_true_eq_false, not_false_eq_true, Nat.reduceEqDiff, Nat.reduceAdd, Nat.reduceMul, Nat.reduceSub, Nat.reduceLeDiff, gf_setf_ne, gf_setf_p, gf_setf_is, va_rf_s, va_rf_n, gf_seta, ga_setf, gc_setf, gc_seta, ga_seta_ne, ga_seta_eq, gf_new, gc_new, gf_newo_o, gc_newo_o, ga_newo_o, ga_new, gf_newa_o, gc_newa_o, ga_newa_o, nx_setf, nx_seta, nx_newo, nx_newa, su_setf, su_seta, su_newo, su_newa, sg_setf, sg_seta, sg_newo, sg_newa, okq_n, g94, g92, g93, g95, f7', s1', s2, hle]
      · have hst : stV (f 3) x (S 4) (latB S (nI i) (cS S 12)) (f 2) = nI 0 := if_neg hc
        rw [hst]
  obtain ⟨A2, _, m1, m2, m3⟩ := mid
  have hl2 := hr.l.fr m3 (by omega)
  have o2 := o.fr m3 (by omega)
  obtain ⟨A3, w3, e1, e2, e3⟩ := hl2.add (d := d) (by omega) (Kd.of m2.c) (by decide)
  have m4 := m2.fr e3 (by omega)
  have f11' := o2.f11
  have lc := hl2.kc
  have n89 : gf A3 y 89 = some (.int (nI n)) := m4.fs 0 (by decide)
  refine ⟨A3, w3, ?_, ⟨e2, hn, fun j hj => ?_⟩, ((m3.mono (fun l h => Or.inl h) (Nat.le_refl _) (Nat.le_refl _)).trans (e3.mono (fun l h => Or.inr h) (Nat.le_refl _) (Nat.le_refl _))).mono (fun _ h => h) (by decide) (by omega)⟩
  · rw [m1]
    simp (disch := first | omega | (simp (disch := omega) only [nx_setf, nx_seta, nx_newo, nx_newa]; omega)) only [x_262_41, x_262_42, x_262_45, x_262_46, x_262_49, x_262_50, x_262_51, x_262_54, kv_s, ki_s, kj_s, kd_s, kq_s, kq_n, kq_o, ka_s, kc_r, kc_t, kc0_r, kc0_t, kch_r, kc0h_r, kw_s, kw0_s, kwh_s, kw0h_s, rg_ref, rg_null, rg_rf, ck_t, sel_some, lkn_hd, Option.isSome_some, Bool.true_and, Bool.and_true, okv_i, okv_l, okv_r, okv_n, okv_rf, okv_b, okv_0, okv_1, okv_f, okv_d, c1_i, c1_r, c1_n, c1_rf, c1_f, nI_add, n_mul, n_sub, n_pred, n_eq, n_le, n_lt, n_neN, n_Nne, N_lt, N_le, n_ltN, n_leN, rdI_n, rdJ_n, rdD_n, wrI_n, wrI_z0, wrI_z1, wrI_zb, wrJ_n, wrD_n, aln_s, okn_n, upd_is, upd_ne, Nat.add_zero, Nat.add_sub_cancel, decide_true, decide_false, cond_true, cond_false, if_true, if_false, ite_not, not_true_eq_false, not_false_eq_true, Nat.reduceEqDiff, Nat.reduceAdd, Nat.reduceMul, Nat.reduceSub, Nat.reduceLeDiff, f11', lc, e1, n89]
  · by_cases z : j = n
    · rw [z, updN_is rfl]
      have e : rlb S' b n = (1000 * b + (100 + n)) := by
        unfold rlb
        refine if_neg (fun q => ?_)
        have x5 := hx.2.2.2.2.2.1
        rw [x5] at q
        unfold stV ctV at q
        (repeat' split at q) <;> exact absurd q (by decide)
      rw [e]
      exact m4
    · rw [updN_ne z]
      have e : rlb S' b j = rlb S b j := by unfold rlb; rw [hS _ (by omega) (by omega)]
      rw [e]
      have hj' : j < n := by omega
      have c2 := (hr.o j hj').fr ((m3.mono (fun l h => Or.inl h) (Nat.le_refl _) (Nat.le_refl _)).trans (e3.mono (fun l h => Or.inr h) (Nat.le_refl _) (Nat.le_refl _)) : Fr A w A3 w3 (fun z => z = (1000 * b + (100 + n)) ∨ z = (1000 * b + 7)) _ _) (by rcases rlb_c (S := S) (b := b) (i := j) with z | z <;> rw [z] <;> omega)
      refine c2.to (fun k hk => ?_)
      unfold rdFn
      rw [hS _ (by omega) (by omega), hS _ (by omega) (by omega), hS _ (by omega) (by omega), hS _ (by omega) (by omega), hS _ (by omega) (by omega), hS _ (by omega) (by omega), hS _ (by omega) (by omega)]
end
