/-! the component's vehicles -/
/-- an object whose fields from b on are n ints -/
abbrev ObI (A : Hp) (w : Lb) (y l ci b n : Nat) (f : Nat → Int32) : Prop := (gc A y = some ci) ∧ (w y = l) ∧ (∀ k, k < n → gf A y (b + k) = some (.int (f k)))
theorem ObI.c {A : Hp} {w : Lb} {y l ci b n : Nat} {f : Nat → Int32} (hse1f : ObI A w y l ci b n f) : gc A y = some ci := hse1f.1
theorem ObI.wy {A : Hp} {w : Lb} {y l ci b n : Nat} {f : Nat → Int32} (hse1f : ObI A w y l ci b n f) : w y = l := hse1f.2.1
theorem ObI.fs {A : Hp} {w : Lb} {y l ci b n : Nat} {f : Nat → Int32} (hse1f : ObI A w y l ci b n f) : ∀ k, k < n → gf A y (b + k) = some (.int (f k)) := hse1f.2.2
section
variable {A A' : Hp} {w w' : Lb} {X : Nat → Prop} {y l ci b n c u : Nat} {f g : Nat → Int32} {x : Int32}
theorem ObI.fr (h : ObI A w y l ci b n f) (k : Fr A w A' w' X c u) (hl : ¬ X l) : ObI A' w' y l ci b n f := by
  obtain ⟨c1, wy, fs⟩ := h
  have hy : ¬ X (w y) := by rw [wy]; exact hl
  exact ⟨k.cc c1, by rw [k.lb hy (gc_lt c1)]; exact wy, fun j hj => k.fd hy (fs j hj)⟩
theorem ObI.to (h : ObI A w y l ci b n f) (e : ∀ k, k < n → g k = f k) : ObI A w y l ci b n g := ⟨h.c, h.wy, fun k hk => by rw [e k hk]; exact h.fs k hk⟩
theorem ObI.set (h : ObI A w y l ci b n f) (j : Nat) (x : Int32) : ObI (setf A y (b + j) (.int x)) w y l ci b n (fun k => if k = j then x else f k) := by
  have hy := gc_lt h.c
  refine ⟨h.c, h.wy, fun k hk => ?_⟩
  dsimp only
  by_cases z : k = j
  · rw [if_pos z, z]; exact gf_setf_is hy
  · rw [if_neg z, gf_setf_ne (by omega)]; exact h.fs k hk
theorem ObI.lab (h : ObI A w y l ci b n f) (l' : Nat) (hw : w' y = l') : ObI A w' y l' ci b n f := ⟨h.c, hw, h.fs⟩
end
/-- a list whose parts bear one label -/
abbrev WL (A : Hp) (w : Lb) (p l n : Nat) (r : Nat → Nat) : Prop := (w p = l) ∧ (∃ a, ALs A p a n n r ∧ w a = l ∧ p ≠ a)
theorem WL.wp {A : Hp} {w : Lb} {p l n : Nat} {r : Nat → Nat} (hse1f : WL A w p l n r) : w p = l := hse1f.1
theorem WL.al {A : Hp} {w : Lb} {p l n : Nat} {r : Nat → Nat} (hse1f : WL A w p l n r) : ∃ a, ALs A p a n n r ∧ w a = l ∧ p ≠ a := hse1f.2
section
variable {A A' : Hp} {w w' : Lb} {X : Nat → Prop} {p l n c u d x ci k : Nat} {r : Nat → Nat}
theorem WL.fr (h : WL A w p l n r) (k : Fr A w A' w' X c u) (hl : ¬ X l) : WL A' w' p l n r := by
  obtain ⟨wp, a, h1, h2, h3⟩ := h
  have hp : ¬ X (w p) := by rw [wp]; exact hl
  have ha : ¬ X (w a) := by rw [h2]; exact hl
  obtain ⟨_, _, e, _⟩ := h1.ar
  exact ⟨by rw [k.lb hp (gc_lt h1.c)]; exact wp, a, h1.fr k hp ha, by rw [k.lb ha (ga_lt e)]; exact h2, h3⟩
theorem WL.add (h : WL A w p l n r) (hn : n < 10000) (hx : Kd A x ci) (hci : ci < 35) : ∃ A' w', evG TB (d + 7) 43 [.ref p, .ref x] A = some (.inl (some (.int (nI 1))), A') ∧ WL A' w' p l (n + 1) (updN r n x) ∧ Fr A w A' w' (fun z => z = l) 1 (2 * n + 1) := by
  obtain ⟨wp, a, h1, h2, h3⟩ := h
  obtain ⟨A', a', e1, e2, e3, e4, e5, e6⟩ := m_43 (d := d) h1 hn hn hx hci (X := fun z => z = l) (l := l) wp h2 rfl h3
  exact ⟨A', _, e1, ⟨e3, a', e2, e4, e6⟩, e5⟩
theorem WL.size (h : WL A w p l n r) : evG TB (d + 1) 42 [.ref p] A = some (.inl (some (.int (nI n))), A) := by
  obtain ⟨_, a, h1, _, _⟩ := h
  exact m_42 h1
theorem WL.get (h : WL A w p l n r) (hk : k < n) : evG TB (d + 3) 47 [.ref p, .int (nI k)] A = some (.inl (some (.ref (r k))), A) := by
  obtain ⟨_, a, h1, _, _⟩ := h
  exact m_47 h1 hk
theorem WL.kc (h : WL A w p l n r) : gc A p = some 3 := by
  obtain ⟨_, a, h1, _, _⟩ := h
  exact h1.c
theorem WL.nb (h : WL A w p l n r) : n ≤ 10000 := by
  obtain ⟨_, a, h1, _, _⟩ := h
  exact h1.nb.1
theorem WL.emp (h : WL A w p l n r) : evG TB (d + 1) 41 [.ref p] A = some (.inl (some (.int (bI (decide (n = 0))))), A) := by
  obtain ⟨_, a, h1, _, _⟩ := h
  exact m_41 h1
/-- a new list -/
theorem WL.new (hc : gc A p = some 3) (h1 : gf A p 18 = some (.int (nI 0))) (h2 : gf A p 19 = some .null) (h3 : gf A p 20 = some (.int (nI 0))) (hl : w p = l) : ∃ A', evG TB (d + 3) 39 [.ref p, .int (nI 4)] A = some (.inl none, A') ∧ WL A' (upL w (nx A) l) p l 0 (fun _ => 0) ∧ Fr A w A' (upL w (nx A) l) (fun z => z = l) 1 4 := by
  have hp := gc_lt hc
  obtain ⟨A', e1, e2, e3⟩ := m_39 (d := d) (w := w) (X := fun z => z = l) hc h1 h2 h3 (c := 4) (by decide) (by decide) hl rfl
  exact ⟨A', e1, ⟨by rw [upL_ne (Nat.ne_of_lt hp)]; exact hl, nx A, e2, upL_is rfl, Nat.ne_of_lt hp⟩, e3⟩
end
def vhF (S : Nat → Int32) (i : Nat) : Nat → Int32 := fun k => if k = 0 then S (235 + 3 * i) else if k = 1 then S (235 + 3 * i + 1) else if k = 2 then S (235 + 3 * i + 2) else if k = 3 then cnt (fun j => decide (S (280 + 7 * j) = nI i) && decide (S (280 + 7 * j + 5) = nI 3)) (cS S 12) else if k = 4 then latB S (nI i) (cS S 12) else cnt (fun j => decide (S (1120 + 18 * j) = nI i)) (cS S 13)
abbrev WVh (A : Hp) (w : Lb) (b v n : Nat) (vO : Nat → Nat) (S : Nat → Int32) : Prop := (WL A w v ((1000 * b + 6)) n vO) ∧ (n ≤ 15) ∧ (∀ i, i < n → ObI A w (vO i) ((1000 * b + (40 + i))) 13 69 6 (vhF S i))
theorem WVh.l {A : Hp} {w : Lb} {b v n : Nat} {vO : Nat → Nat} {S : Nat → Int32} (hse1f : WVh A w b v n vO S) : WL A w v ((1000 * b + 6)) n vO := hse1f.1
theorem WVh.n15 {A : Hp} {w : Lb} {b v n : Nat} {vO : Nat → Nat} {S : Nat → Int32} (hse1f : WVh A w b v n vO S) : n ≤ 15 := hse1f.2.1
theorem WVh.o {A : Hp} {w : Lb} {b v n : Nat} {vO : Nat → Nat} {S : Nat → Int32} (hse1f : WVh A w b v n vO S) : ∀ i, i < n → ObI A w (vO i) ((1000 * b + (40 + i))) 13 69 6 (vhF S i) := hse1f.2.2
theorem dv13_69 : dv13 69 = some (.int (nI 0)) := rfl
theorem dv13_70 : dv13 70 = some (.int (nI 0)) := rfl
theorem dv13_71 : dv13 71 = some (.int (nI 0)) := rfl
theorem dv13_72 : dv13 72 = some (.int (nI 0)) := rfl
theorem dv13_73 : dv13 73 = some (.int (nI 0)) := rfl
theorem dv13_74 : dv13 74 = some (.int (nI 0)) := rfl
section
variable {A A' : Hp} {w w' : Lb} {X : Nat → Prop} {b p q s a v r bl mk y l i d c u n : Nat} {S S' : Nat → Int32} {f g : Nat → Int32} {vO : Nat → Nat} {x z t : Int32}
theorem WVh.fr (h : WVh A w b v n vO S) (k : Fr A w A' w' X c u) (h6 : ¬ X ((1000 * b + 6))) (hx : ∀ i, i < 15 → ¬ X ((1000 * b + (40 + i)))) : WVh A' w' b v n vO S := ⟨h.l.fr k h6, h.n15, fun i hi => (h.o i hi).fr k (hx i (by have := h.n15; omega))⟩
theorem WVh.sc (h : WVh A w b v n vO S) (hS : ∀ i k, i < n → k < 6 → vhF S' i k = vhF S i k) : WVh A w b v n vO S' := ⟨h.l, h.n15, fun i hi => (h.o i hi).to (fun k hk => hS i k hi hk)⟩
theorem WVh.up (h : WVh A w b v n vO S) (hi : i < n) (k : Fr A w A' w' (fun l => l = (1000 * b + (40 + i))) c u) (hn : ObI A' w' (vO i) ((1000 * b + (40 + i))) 13 69 6 (vhF S' i)) (hS : ∀ j m, j < n → j ≠ i → m < 6 → vhF S' j m = vhF S j m) : WVh A' w' b v n vO S' := by
  obtain ⟨l, n15, o⟩ := h
  refine ⟨l.fr k (by omega), n15, fun j hj => ?_⟩
  by_cases z : j = i
  · rw [z]; exact hn
  · exact ((o j hj).fr k (by omega)).to (fun m hm => hS j m hj z hm)
/-- a vehicle laid -/
def vhH (A : Hp) (x z : Int32) : Hp := setf (setf (setf (newo A 13 6 dv13) (nx A) 73 (.int nN)) (nx A) 69 (.int x)) (nx A) 70 (.int z)
theorem vhH_o : ObI (vhH A x z) (upL w (nx A) l) (nx A) l 13 69 6 (fun k => if k = 0 then x else if k = 1 then z else if k = 4 then nN else nI 0) := by
  unfold vhH
  refine ⟨by simp (disch := first | omega | (simp (disch := omega) only [nx_setf, nx_seta, nx_newo, nx_newa]; omega)) only [gf_setf_ne, gf_setf_p, gf_setf_is, va_rf_s, va_rf_n, gf_seta, ga_setf, gc_setf, gc_seta, ga_seta_ne, ga_seta_eq, gf_new, gc_new, gf_newo_o, gc_newo_o, ga_newo_o, ga_new, gf_newa_o, gc_newa_o, ga_newa_o, nx_setf, nx_seta, nx_newo, nx_newa, su_setf, su_seta, su_newo, su_newa, sg_setf, sg_seta, sg_newo, sg_newa, okq_n], upL_is rfl, fun k hk => ?_⟩
  have : k = 0 ∨ k = 1 ∨ k = 2 ∨ k = 3 ∨ k = 4 ∨ k = 5 := by omega
  rcases this with k0 | k0 | k0 | k0 | k0 | k0 <;> subst k0
  · simp (disch := first | omega | (simp (disch := omega) only [nx_setf, nx_seta, nx_newo, nx_newa]; omega)) only [gf_setf_ne, gf_setf_p, gf_setf_is, va_rf_s, va_rf_n, gf_seta, ga_setf, gc_setf, gc_seta, ga_seta_ne, ga_seta_eq, gf_new, gc_new, gf_newo_o, gc_newo_o, ga_newo_o, ga_new, gf_newa_o, gc_newa_o, ga_newa_o, nx_setf, nx_seta, nx_newo, nx_newa, su_setf, su_seta, su_newo, su_newa, sg_setf, sg_seta, sg_newo, sg_newa, okq_n, Nat.add_zero]; rfl
  · simp (disch := first | omega | (simp (disch := omega) only [nx_setf, nx_seta, nx_newo, nx_newa]; omega)) only [gf_setf_ne, gf_setf_p, gf_setf_is, va_rf_s, va_rf_n, gf_seta, ga_setf, gc_setf, gc_seta, ga_seta_ne, ga_seta_eq, gf_new, gc_new, gf_newo_o, gc_newo_o, ga_newo_o, ga_new, gf_newa_o, gc_newa_o, ga_newa_o, nx_setf, nx_seta, nx_newo, nx_newa, su_setf, su_seta, su_newo, su_newa, sg_setf, sg_seta, sg_newo, sg_newa, okq_n, Nat.reduceAdd]; rfl
  · simp (disch := first | omega | (simp (disch := omega) only [nx_setf, nx_seta, nx_newo, nx_newa]; omega)) only [gf_setf_ne, gf_setf_p, gf_setf_is, va_rf_s, va_rf_n, gf_seta, ga_setf, gc_setf, gc_seta, ga_seta_ne, ga_seta_eq, gf_new, gc_new, gf_newo_o, gc_newo_o, ga_newo_o, ga_new, gf_newa_o, gc_newa_o, ga_newa_o, nx_setf, nx_seta, nx_newo, nx_newa, su_setf, su_seta, su_newo, su_newa, sg_setf, sg_seta, sg_newo, sg_newa, okq_n, Nat.reduceAdd, dv13_71]; rfl
  · simp (disch := first | omega | (simp (disch := omega) only [nx_setf, nx_seta, nx_newo, nx_newa]; omega)) only [gf_setf_ne, gf_setf_p, gf_setf_is, va_rf_s, va_rf_n, gf_seta, ga_setf, gc_setf, gc_seta, ga_seta_ne, ga_seta_eq, gf_new, gc_new, gf_newo_o, gc_newo_o, ga_newo_o, ga_new, gf_newa_o, gc_newa_o, ga_newa_o, nx_setf, nx_seta, nx_newo, nx_newa, su_setf, su_seta, su_newo, su_newa, sg_setf, sg_seta, sg_newo, sg_newa, okq_n, Nat.reduceAdd, dv13_72]; rfl
  · simp (disch := first | omega | (simp (disch := omega) only [nx_setf, nx_seta, nx_newo, nx_newa]; omega)) only [gf_setf_ne, gf_setf_p, gf_setf_is, va_rf_s, va_rf_n, gf_seta, ga_setf, gc_setf, gc_seta, ga_seta_ne, ga_seta_eq, gf_new, gc_new, gf_newo_o, gc_newo_o, ga_newo_o, ga_new, gf_newa_o, gc_newa_o, ga_newa_o, nx_setf, nx_seta, nx_newo, nx_newa, su_setf, su_seta, su_newo, su_newa, sg_setf, sg_seta, sg_newo, sg_newa, okq_n, Nat.reduceAdd]; rfl
  · simp (disch := first | omega | (simp (disch := omega) only [nx_setf, nx_seta, nx_newo, nx_newa]; omega)) only [gf_setf_ne, gf_setf_p, gf_setf_is, va_rf_s, va_rf_n, gf_seta, ga_setf, gc_setf, gc_seta, ga_seta_ne, ga_seta_eq, gf_new, gc_new, gf_newo_o, gc_newo_o, ga_newo_o, ga_new, gf_newa_o, gc_newa_o, ga_newa_o, nx_setf, nx_seta, nx_newo, nx_newa, su_setf, su_seta, su_newo, su_newa, sg_setf, sg_seta, sg_newo, sg_newa, okq_n, Nat.reduceAdd, dv13_74]; rfl
theorem vhH_fr : Fr A w (vhH A x z) (upL w (nx A) l) X 1 6 := ((Fr.nwo.stn (Nat.le_refl _)).stn (Nat.le_refl _)).stn (Nat.le_refl _)
theorem m_424 : evG TB (d + 2) 424 [.ref (nx A), .int x, .int z] (newo A 13 6 dv13) = some (.inl none, vhH A x z) := by
  unfold vhH
  simp (disch := first | omega | (simp (disch := omega) only [nx_setf, nx_seta, nx_newo, nx_newa]; omega)) only [e_424, x_424_0, x_424_1, x_424_4, x_424_5, x_424_6, x_424_9, x_424_10, x_424_11, x_424_14, x_424_15, x_424_16, x_424_19, kv_s, ki_s, kj_s, kd_s, kq_s, kq_n, kq_o, ka_s, kc_r, kc_t, kc0_r, kc0_t, kch_r, kc0h_r, kw_s, kw0_s, kwh_s, kw0h_s, rg_ref, rg_null, rg_rf, ck_t, sel_some, lkn_hd, Option.isSome_some, Bool.true_and, Bool.and_true, okv_i, okv_l, okv_r, okv_n, okv_rf, okv_b, okv_0, okv_1, okv_f, okv_d, c1_i, c1_r, c1_n, c1_rf, c1_f, nI_add, n_mul, n_sub, n_pred, n_eq, n_le, n_lt, n_neN, n_Nne, N_lt, N_le, n_ltN, n_leN, rdI_n, rdJ_n, rdD_n, wrI_n, wrI_z0, wrI_z1, wrI_zb, wrJ_n, wrD_n, aln_s, okn_n, upd_is, upd_ne, Nat.add_zero, Nat.add_sub_cancel, decide_true, decide_false, cond_true, cond_false, if_true, if_false, ite_not, not_true_eq_false, not_false_eq_true, Nat.reduceEqDiff, Nat.reduceAdd, Nat.reduceMul, Nat.reduceSub, Nat.reduceLeDiff, gf_setf_ne, gf_setf_p, gf_setf_is, va_rf_s, va_rf_n, gf_seta, ga_setf, gc_setf, gc_seta, ga_seta_ne, ga_seta_eq, gf_new, gc_new, gf_newo_o, gc_newo_o, ga_newo_o, ga_new, gf_newa_o, gc_newa_o, ga_newa_o, nx_setf, nx_seta, nx_newo, nx_newa, su_setf, su_seta, su_newo, su_newa, sg_setf, sg_seta, sg_newo, sg_newa, okq_n, dv13_69, dv13_70, dv13_73]
/-- a vehicle more -/
theorem m_259 {w0 : Int32} (h : WVh A w b v n vO S) (o : WO A w b p q s a v r bl mk w0) (hn : n < 15) (hS : ∀ i k, i < n → k < 6 → vhF S' i k = vhF S i k) (hx : ∀ k, k < 6 → vhF S' n k = if k = 0 then x else if k = 1 then z else if k = 4 then nN else nI 0) :
    ∃ A' w', evG TB (d + 8) 259 [.ref p, .int x, .int z] A = some (.inl (some (.int (nI n))), A') ∧ WVh A' w' b v (n + 1) (updN vO n (nx A)) S' ∧ Fr A w A' w' (fun l => l = (1000 * b + 6)) 2 40 := by
  obtain ⟨hl, n15, ho⟩ := h
  have f10 := o.f10
  have hp := gc_lt o.c
  have fa : Fr A w (vhH A x z) (upL w (nx A) ((1000 * b + (40 + n)))) (fun l => l = (1000 * b + 6)) 1 6 := vhH_fr
  have fa0 : Fr A w (vhH A x z) (upL w (nx A) ((1000 * b + (40 + n)))) (fun _ => False) 1 6 := vhH_fr
  have no : ObI (vhH A x z) (upL w (nx A) ((1000 * b + (40 + n)))) (nx A) ((1000 * b + (40 + n))) 13 69 6 _ := vhH_o
  have l1 := hl.fr fa0 (fun z => z)
  obtain ⟨A2, w2, e1, e2, e3⟩ := l1.add (d := d) (by omega) (Kd.of no.c) (by decide)
  have fb : Fr (vhH A x z) (upL w (nx A) ((1000 * b + (40 + n)))) A2 w2 (fun l => l = (1000 * b + 6)) 1 (2 * n + 1) := e3
  have q10 : gf A2 p 10 = some (.ref v) := fb.fd (by
    have : upL w (nx A) ((1000 * b + (40 + n))) p = (1000 * b + 0) := by rw [upL_ne (Nat.ne_of_lt hp)]; exact o.wp
    rw [this]; omega) (fa0.fd (fun z => z) f10)
  refine ⟨A2, w2, ?_, ⟨e2, hn, fun i hi => ?_⟩, (fa.trans fb).mono (fun _ h => h) (by decide) (by omega)⟩
  · have q42 := e2.size (d := d + 6)
    have lc := l1.kc
    have lc2 := e2.kc
    have q424 := m_424 (A := A) (d := d + 5) (x := x) (z := z)
    have en : n + 1 - 1 = n := rfl
    simp (disch := first | omega | (simp (disch := omega) only [nx_setf, nx_seta, nx_newo, nx_newa]; omega)) only [e_259, x_259_0, x_259_1, x_259_4, x_259_7, x_259_8, x_259_9, x_259_10, x_259_13, x_259_16, x_259_17, x_259_18, x_259_21, x_259_24, x_259_25, x_259_26, kv_s, ki_s, kj_s, kd_s, kq_s, kq_n, kq_o, ka_s, kc_r, kc_t, kc0_r, kc0_t, kch_r, kc0h_r, kw_s, kw0_s, kwh_s, kw0h_s, rg_ref, rg_null, rg_rf, ck_t, sel_some, lkn_hd, Option.isSome_some, Bool.true_and, Bool.and_true, okv_i, okv_l, okv_r, okv_n, okv_rf, okv_b, okv_0, okv_1, okv_f, okv_d, c1_i, c1_r, c1_n, c1_rf, c1_f, nI_add, n_mul, n_sub, n_pred, n_eq, n_le, n_lt, n_neN, n_Nne, N_lt, N_le, n_ltN, n_leN, rdI_n, rdJ_n, rdD_n, wrI_n, wrI_z0, wrI_z1, wrI_zb, wrJ_n, wrD_n, aln_s, okn_n, upd_is, upd_ne, Nat.add_zero, Nat.add_sub_cancel, decide_true, decide_false, cond_true, cond_false, if_true, if_false, ite_not, not_true_eq_false, not_false_eq_true, Nat.reduceEqDiff, Nat.reduceAdd, Nat.reduceMul, Nat.reduceSub, Nat.reduceLeDiff, gf_setf_ne, gf_setf_p, gf_setf_is, va_rf_s, va_rf_n, gf_seta, ga_setf, gc_setf, gc_seta, ga_seta_ne, ga_seta_eq, gf_new, gc_new, gf_newo_o, gc_newo_o, ga_newo_o, ga_new, gf_newa_o, gc_newa_o, ga_newa_o, nx_setf, nx_seta, nx_newo, nx_newa, su_setf, su_seta, su_newo, su_newa, sg_setf, sg_seta, sg_newo, sg_newa, okq_n, f10, q424, lc, e1, q10, lc2, q42, en]
  · by_cases hin : i = n
    · rw [updN_is hin, hin]
      exact (no.fr fb (by omega)).to (fun k hk => hx k hk)
    · rw [updN_ne hin]
      exact (((ho i (by omega)).fr fa0 (fun z => z)).fr fb (by omega)).to (fun k hk => hS i k (by omega) hk)
end
