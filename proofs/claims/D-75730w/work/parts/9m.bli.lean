/-! the component's bills: a bill made -/
/-- a bill: vehicle, account, amount, toll, percent, images, invoice, (trip,) dispute, refund -/
abbrev BlO (A : Hp) (w : Lb) (y l : Nat) (f : Nat → Int32) (T : Nat) : Prop := (gc A y = some 27) ∧ (w y = l) ∧ (∀ k, k < 10 → k ≠ 7 → gf A y (133 + k) = some (.int (f k))) ∧ (gf A y 140 = some (.ref T))
theorem BlO.c {A : Hp} {w : Lb} {y l : Nat} {f : Nat → Int32} {T : Nat} (hse1f : BlO A w y l f T) : gc A y = some 27 := hse1f.1
theorem BlO.wy {A : Hp} {w : Lb} {y l : Nat} {f : Nat → Int32} {T : Nat} (hse1f : BlO A w y l f T) : w y = l := hse1f.2.1
theorem BlO.gs {A : Hp} {w : Lb} {y l : Nat} {f : Nat → Int32} {T : Nat} (hse1f : BlO A w y l f T) : ∀ k, k < 10 → k ≠ 7 → gf A y (133 + k) = some (.int (f k)) := hse1f.2.2.1
theorem BlO.ft {A : Hp} {w : Lb} {y l : Nat} {f : Nat → Int32} {T : Nat} (hse1f : BlO A w y l f T) : gf A y 140 = some (.ref T) := hse1f.2.2.2
theorem dv27_k : ∀ k, k < 10 → k ≠ 7 → dv27 (133 + k) = some (.int (nI 0))
  | 0, _, _ => rfl
  | 1, _, _ => rfl
  | 2, _, _ => rfl
  | 3, _, _ => rfl
  | 4, _, _ => rfl
  | 5, _, _ => rfl
  | 6, _, _ => rfl
  | 7, _, h => absurd rfl h
  | 8, _, _ => rfl
  | 9, _, _ => rfl
theorem dv27_140 : dv27 140 = some .null := rfl
section
variable {A A' B : Hp} {w w' : Lb} {X : Nat → Prop} {y l e b n d c u x k T : Nat} {aO : Nat → Nat} {t : Tp} {S f g : Nat → Int32} {sz v ac pc im iv z : Int32}
theorem BlO.fr (h : BlO A w y l f T) (k : Fr A w A' w' X c u) (hl : ¬ X l) : BlO A' w' y l f T := by
  obtain ⟨c1, wy, gs, ft⟩ := h
  have hy : ¬ X (w y) := by rw [wy]; exact hl
  exact ⟨k.cc c1, by rw [k.lb hy (gc_lt c1)]; exact wy, fun j hj h7 => k.fd hy (gs j hj h7), k.fd hy ft⟩
theorem BlO.too (h : BlO A w y l f T) (e : ∀ k, k < 10 → k ≠ 7 → g k = f k) : BlO A w y l g T := ⟨h.c, h.wy, fun k hk h7 => by rw [e k hk h7]; exact h.gs k hk h7, h.ft⟩
theorem BlO.set (h : BlO A w y l f T) (j : Nat) (h7 : j ≠ 7) (x : Int32) : BlO (setf A y (133 + j) (.int x)) w y l (fun k => if k = j then x else f k) T := by
  have hy := gc_lt h.c
  refine ⟨h.c, h.wy, fun k hk hk7 => ?_, by rw [gf_setf_ne (by omega)]; exact h.ft⟩
  dsimp only
  by_cases z : k = j
  · rw [if_pos z, z]; exact gf_setf_is hy
  · rw [if_neg z, gf_setf_ne (by omega)]; exact h.gs k hk hk7
/-- what a trip takes off -/
theorem m_255 (h : TpO A w T l e aO sz t) : evG TB (d + 2) 255 [.ref T, .int pc] A = some (.inl (some (.int (t.to * sz * pc / nI 100))), A) := by
  have q := m_246 (d := d) h
  have c26 := h.c
  have n0 : (nI 100 = nI 0) = False := eq_false (by decide)
  simp (disch := first | omega | (simp (disch := omega) only [nx_setf, nx_seta, nx_newo, nx_newa]; omega)) only [e_255, x_255_0, x_255_1, x_255_6, x_255_7, x_255_8, x_255_10, x_255_11, kv_s, ki_s, kj_s, kd_s, kq_s, kq_n, kq_o, ka_s, kc_r, kc_t, kc0_r, kc0_t, kch_r, kc0h_r, kw_s, kw0_s, kwh_s, kw0h_s, rg_ref, rg_null, rg_rf, ck_t, sel_some, lkn_hd, Option.isSome_some, Bool.true_and, Bool.and_true, okv_i, okv_l, okv_r, okv_n, okv_rf, okv_b, okv_0, okv_1, okv_f, okv_d, c1_i, c1_r, c1_n, c1_rf, c1_f, nI_add, n_mul, n_sub, n_pred, n_eq, n_le, n_lt, n_neN, n_Nne, N_lt, N_le, n_ltN, n_leN, rdI_n, rdJ_n, rdD_n, wrI_n, wrI_z0, wrI_z1, wrI_zb, wrJ_n, wrD_n, aln_s, okn_n, upd_is, upd_ne, Nat.add_zero, Nat.add_sub_cancel, decide_true, decide_false, cond_true, cond_false, if_true, if_false, ite_not, not_true_eq_false, not_false_eq_true, Nat.reduceEqDiff, Nat.reduceAdd, Nat.reduceMul, Nat.reduceSub, Nat.reduceLeDiff, c26, q, n0]
theorem m_254 (h : TpO A w T l e aO sz t) : evG TB (d + 3) 254 [.ref T, .int pc, .int im, .int iv] A = some (.inl (some (.int (t.to * sz - t.to * sz * pc / nI 100 + im + iv))), A) := by
  have q := m_246 (d := d + 1) h
  have q2 := m_255 (d := d) (pc := pc) h
  have c26 := h.c
  simp (disch := first | omega | (simp (disch := omega) only [nx_setf, nx_seta, nx_newo, nx_newa]; omega)) only [e_254, x_254_0, x_254_1, x_254_6, x_254_7, x_254_8, x_254_13, x_254_14, x_254_15, x_254_16, x_254_17, x_254_18, kv_s, ki_s, kj_s, kd_s, kq_s, kq_n, kq_o, ka_s, kc_r, kc_t, kc0_r, kc0_t, kch_r, kc0h_r, kw_s, kw0_s, kwh_s, kw0h_s, rg_ref, rg_null, rg_rf, ck_t, sel_some, lkn_hd, Option.isSome_some, Bool.true_and, Bool.and_true, okv_i, okv_l, okv_r, okv_n, okv_rf, okv_b, okv_0, okv_1, okv_f, okv_d, c1_i, c1_r, c1_n, c1_rf, c1_f, nI_add, n_mul, n_sub, n_pred, n_eq, n_le, n_lt, n_neN, n_Nne, N_lt, N_le, n_ltN, n_leN, rdI_n, rdJ_n, rdD_n, wrI_n, wrI_z0, wrI_z1, wrI_zb, wrJ_n, wrD_n, aln_s, okn_n, upd_is, upd_ne, Nat.add_zero, Nat.add_sub_cancel, decide_true, decide_false, cond_true, cond_false, if_true, if_false, ite_not, not_true_eq_false, not_false_eq_true, Nat.reduceEqDiff, Nat.reduceAdd, Nat.reduceMul, Nat.reduceSub, Nat.reduceLeDiff, c26, q, q2]
/-- a bill made -/
theorem m_249 (h : TpO A w T l e aO sz t) (l' : Nat) : ∃ A', evG TB (d + 4) 249 [.ref (nx A), .int v, .int ac, .ref T, .int pc, .int im, .int iv] (newo A 27 10 dv27) = some (.inl none, A') ∧ BlO A' (upL w (nx A) l') (nx A) l' (fun k => if k = 0 then v else if k = 1 then ac else if k = 2 then t.to * sz - t.to * sz * pc / nI 100 + im + iv else if k = 3 then t.to * sz else if k = 4 then pc else if k = 5 then im else if k = 6 then iv else nI 0) T ∧ ∀ X, Fr A w A' (upL w (nx A) l') X 1 10 := by
  have hT := gc_lt h.c
  have f0 : ∀ X, Fr A w (newo A 27 10 dv27) (upL w (nx A) l') X 1 10 := fun X => Fr.nwo
  have n0 : nx (newo A 27 10 dv27) = nx A + 1 := rfl
  have g0 : ∀ k, k < 10 → k ≠ 7 → gf (newo A 27 10 dv27) (nx A) (133 + k) = some (.int (nI 0)) := fun k hk h7 => gf_newo.trans (dv27_k k hk h7)
  have g140 : gf (newo A 27 10 dv27) (nx A) 140 = some .null := gf_newo.trans dv27_140
  -- with the trip set, it is a bill
  have b0 : BlO (setf (setf (setf (newo A 27 10 dv27) (nx A) 133 (.int v)) (nx A) 134 (.int ac)) (nx A) 140 (.ref T)) (upL w (nx A) l') (nx A) l' (fun k => if k = 0 then v else if k = 1 then ac else nI 0) T := by
    have lt : nx A < nx A + 1 := Nat.lt_succ_self _
    refine ⟨(gc_newo : gc (newo A 27 10 dv27) (nx A) = some 27), upL_is rfl, fun k hk h7 => ?_, gf_setf_is lt⟩
    dsimp only
    rw [gf_setf_ne (by omega)]
    by_cases z1 : k = 1
    · rw [z1, if_neg (by decide), if_pos rfl]; exact gf_setf_is lt
    · rw [gf_setf_ne (by omega)]
      by_cases z0 : k = 0
      · rw [z0, if_pos rfl]; exact gf_setf_is lt
      · rw [gf_setf_ne (by omega), if_neg z0, if_neg z1]; exact g0 k hk h7
  have fb : ∀ X, Fr A w (setf (setf (setf (newo A 27 10 dv27) (nx A) 133 (.int v)) (nx A) 134 (.int ac)) (nx A) 140 (.ref T)) (upL w (nx A) l') X 1 10 := fun X => (((f0 X).stn (Nat.le_refl _)).stn (Nat.le_refl _)).stn (Nat.le_refl _)
  have b1 := b0.set 4 (by decide) pc
  have b2 := b1.set 5 (by decide) im
  have b3 := b2.set 6 (by decide) iv
  have f3 : ∀ X, Fr A w _ (upL w (nx A) l') X 1 10 := fun X => (((fb X).stn (p := nx A) (f := 133 + 4) (v := .int pc) (Nat.le_refl _)).stn (p := nx A) (f := 133 + 5) (v := .int im) (Nat.le_refl _)).stn (p := nx A) (f := 133 + 6) (v := .int iv) (Nat.le_refl _)
  have t3 := h.fr (f3 (fun _ => False)) (fun z => z) (fun z => z) (fun z => z) (fun z => z)
  have q246 := m_246 (d := d + 2) t3
  have b4 := b3.set 3 (by decide) (t.to * sz)
  have f4 : ∀ X, Fr A w _ (upL w (nx A) l') X 1 10 := fun X => (f3 X).stn (p := nx A) (f := 133 + 3) (v := .int (t.to * sz)) (Nat.le_refl _)
  have t4 := h.fr (f4 (fun _ => False)) (fun z => z) (fun z => z) (fun z => z) (fun z => z)
  have q254 := m_254 (d := d) (pc := pc) (im := im) (iv := iv) t4
  have b5 := b4.set 2 (by decide) (t.to * sz - t.to * sz * pc / nI 100 + im + iv)
  have c26 := t3.c
  have y133 := g0 0 (by decide) (by decide)
  have y134 : gf (setf (newo A 27 10 dv27) (nx A) 133 (.int v)) (nx A) 134 = some (.int (nI 0)) := by rw [gf_setf_ne (by decide)]; exact g0 1 (by decide) (by decide)
  have y140 : gf (setf (setf (newo A 27 10 dv27) (nx A) 133 (.int v)) (nx A) 134 (.int ac)) (nx A) 140 = some .null := by rw [gf_setf_ne (by decide), gf_setf_ne (by decide)]; exact g140
  have y137 := b0.gs 4 (by decide) (by decide)
  have y138 := b1.gs 5 (by decide) (by decide)
  have y139 := b2.gs 6 (by decide) (by decide)
  have y136 := b3.gs 3 (by decide) (by decide)
  have y135 := b4.gs 2 (by decide) (by decide)
  refine ⟨_, ?_, b5.too (fun k hk h7 => by grind), fun X => (f4 X).stn (Nat.le_refl _)⟩
  simp (disch := first | omega | (simp (disch := omega) only [nx_setf, nx_seta, nx_newo, nx_newa]; omega)) only [e_249, x_249_0, x_249_1, x_249_4, x_249_5, x_249_6, x_249_9, x_249_10, x_249_11, x_249_14, x_249_15, x_249_16, x_249_19, x_249_20, x_249_22, x_249_25, x_249_26, x_249_28, x_249_31, x_249_32, x_249_34, x_249_37, x_249_38, x_249_39, x_249_42, x_249_45, x_249_46, x_249_47, x_249_49, x_249_51, x_249_53, x_249_56, x_249_59, kv_s, ki_s, kj_s, kd_s, kq_s, kq_n, kq_o, ka_s, kc_r, kc_t, kc0_r, kc0_t, kch_r, kc0h_r, kw_s, kw0_s, kwh_s, kw0h_s, rg_ref, rg_null, rg_rf, ck_t, sel_some, lkn_hd, Option.isSome_some, Bool.true_and, Bool.and_true, okv_i, okv_l, okv_r, okv_n, okv_rf, okv_b, okv_0, okv_1, okv_f, okv_d, c1_i, c1_r, c1_n, c1_rf, c1_f, nI_add, n_mul, n_sub, n_pred, n_eq, n_le, n_lt, n_neN, n_Nne, N_lt, N_le, n_ltN, n_leN, rdI_n, rdJ_n, rdD_n, wrI_n, wrI_z0, wrI_z1, wrI_zb, wrJ_n, wrD_n, aln_s, okn_n, upd_is, upd_ne, Nat.add_zero, Nat.add_sub_cancel, decide_true, decide_false, cond_true, cond_false, if_true, if_false, ite_not, not_true_eq_false, not_false_eq_true, Nat.reduceEqDiff, Nat.reduceAdd, Nat.reduceMul, Nat.reduceSub, Nat.reduceLeDiff, y133, y134, y140, y137, y138, y139, y136, y135, c26, q246, q254]
end
