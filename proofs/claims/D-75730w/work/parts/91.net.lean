/-! the component's network -/
abbrev roA (e : Nat → Option Nat) : ArC := (6, (144, .inr (.inr (.inr (.inr e)))))
/-- a road object: stands for ever -/
abbrev RoO (A : Hp) (w : Lb) (y j : Nat) (m t : Int32) : Prop := (gc A y = some 11) ∧ (w y = 0) ∧ (gf A y 60 = some (.int (nI j))) ∧ (gf A y 61 = some (.int m)) ∧ (gf A y 62 = some (.int t))
theorem RoO.c {A : Hp} {w : Lb} {y j : Nat} {m t : Int32} (hse1f : RoO A w y j m t) : gc A y = some 11 := hse1f.1
theorem RoO.wy {A : Hp} {w : Lb} {y j : Nat} {m t : Int32} (hse1f : RoO A w y j m t) : w y = 0 := hse1f.2.1
theorem RoO.f0 {A : Hp} {w : Lb} {y j : Nat} {m t : Int32} (hse1f : RoO A w y j m t) : gf A y 60 = some (.int (nI j)) := hse1f.2.2.1
theorem RoO.f1 {A : Hp} {w : Lb} {y j : Nat} {m t : Int32} (hse1f : RoO A w y j m t) : gf A y 61 = some (.int m) := hse1f.2.2.2.1
theorem RoO.f2 {A : Hp} {w : Lb} {y j : Nat} {m t : Int32} (hse1f : RoO A w y j m t) : gf A y 62 = some (.int t) := hse1f.2.2.2.2
def RdO (A : Hp) (w : Lb) (S : Nat → Int32) (o : Option Nat) (x : Int32) (j : Nat) : Prop := match o with
  | none => x = nN
  | some y => ∃ r, x = nI r ∧ r < 40 ∧ RoO A w y j (S (27 + 4 * r + 2)) (S (27 + 4 * r + 3))
abbrev WNt (A : Hp) (w : Lb) (b q : Nat) (S : Nat → Int32) : Prop := (gc A q = some 2) ∧ (w q = (1000 * b + 2)) ∧ (∃ a f, gf A q 14 = some (.ref a) ∧ w a = (1000 * b + 3) ∧ ga A a = some (0, (12, .inl f)) ∧ ∀ g, g < 12 → f g = S (15 + g)) ∧ (gf A q 15 = some (.int (S 8))) ∧ (gf A q 17 = some (.int (S 9))) ∧ (∃ a e, gf A q 16 = some (.ref a) ∧ w a = (1000 * b + 4) ∧ ga A a = some (roA e) ∧ ∀ i j, i < 12 → j < 12 → RdO A w S (e (12 * i + j)) (rdF S (nI i) (nI j) 0 (cS S 9)) j)
theorem WNt.c {A : Hp} {w : Lb} {b q : Nat} {S : Nat → Int32} (hse1f : WNt A w b q S) : gc A q = some 2 := hse1f.1
theorem WNt.wq {A : Hp} {w : Lb} {b q : Nat} {S : Nat → Int32} (hse1f : WNt A w b q S) : w q = (1000 * b + 2) := hse1f.2.1
theorem WNt.mi {A : Hp} {w : Lb} {b q : Nat} {S : Nat → Int32} (hse1f : WNt A w b q S) : ∃ a f, gf A q 14 = some (.ref a) ∧ w a = (1000 * b + 3) ∧ ga A a = some (0, (12, .inl f)) ∧ ∀ g, g < 12 → f g = S (15 + g) := hse1f.2.2.1
theorem WNt.gn {A : Hp} {w : Lb} {b q : Nat} {S : Nat → Int32} (hse1f : WNt A w b q S) : gf A q 15 = some (.int (S 8)) := hse1f.2.2.2.1
theorem WNt.rc {A : Hp} {w : Lb} {b q : Nat} {S : Nat → Int32} (hse1f : WNt A w b q S) : gf A q 17 = some (.int (S 9)) := hse1f.2.2.2.2.1
theorem WNt.ro {A : Hp} {w : Lb} {b q : Nat} {S : Nat → Int32} (hse1f : WNt A w b q S) : ∃ a e, gf A q 16 = some (.ref a) ∧ w a = (1000 * b + 4) ∧ ga A a = some (roA e) ∧ ∀ i j, i < 12 → j < 12 → RdO A w S (e (12 * i + j)) (rdF S (nI i) (nI j) 0 (cS S 9)) j := hse1f.2.2.2.2.2
def rdA (S : Nat → Int32) (R : Nat) (x y z w : Int32) : Nat → Int32 := upd (upd (upd (upd (upd S (27 + 4 * R) x) (27 + 4 * R + 1) y) (27 + 4 * R + 2) z) (27 + 4 * R + 3) w) 9 (nI (R + 1))
section
variable {A A' : Hp} {w w' : Lb} {X : Nat → Prop} {b q y j i d c s R : Nat} {S S' : Nat → Int32} {m t x : Int32} {o : Option Nat}
theorem RoO.fr (h : RoO A w y j m t) (f : Fr A w A' w' X c s) (h0 : ¬ X 0) : RoO A' w' y j m t := by
  obtain ⟨c1, wy, f0, f1, f2⟩ := h
  have hy : ¬ X (w y) := by rw [wy]; exact h0
  exact ⟨f.cc c1, by rw [f.lb hy (gc_lt c1)]; exact wy, f.fd hy f0, f.fd hy f1, f.fd hy f2⟩
theorem RdO.fr (h : RdO A w S o x j) (f : Fr A w A' w' X c s) (h0 : ¬ X 0) : RdO A' w' S o x j := by
  cases o with
  | none => exact h
  | some y =>
    obtain ⟨r, h1, h2, h3⟩ := h
    exact ⟨r, h1, h2, h3.fr f h0⟩
theorem RdO.sc (h : RdO A w S o x j) (hS : ∀ k, 27 ≤ k → k < 187 → S' k = S k) : RdO A w S' o x j := by
  cases o with
  | none => exact h
  | some y =>
    obtain ⟨r, h1, h2, h3⟩ := h
    exact ⟨r, h1, h2, by rw [hS _ (by omega) (by omega), hS _ (by omega) (by omega)]; exact h3⟩
theorem WNt.fr (h : WNt A w b q S) (f : Fr A w A' w' X c s) (h2 : ¬ X ((1000 * b + 2))) (h3 : ¬ X ((1000 * b + 3))) (h4 : ¬ X ((1000 * b + 4))) (h0 : ¬ X 0) : WNt A' w' b q S := by
  obtain ⟨c1, wq, ⟨a, g, m1, m2, m3, m4⟩, gn, rc, ⟨a', e, r1, r2, r3, r4⟩⟩ := h
  have hq : ¬ X (w q) := by rw [wq]; exact h2
  have ha : ¬ X (w a) := by rw [m2]; exact h3
  have ha' : ¬ X (w a') := by rw [r2]; exact h4
  exact ⟨f.cc c1, by rw [f.lb hq (gc_lt c1)]; exact wq, ⟨a, g, f.fd hq m1, by rw [f.lb ha (ga_lt m3)]; exact m2, f.ar ha m3, m4⟩, f.fd hq gn, f.fd hq rc, ⟨a', e, f.fd hq r1, by rw [f.lb ha' (ga_lt r3)]; exact r2, f.ar ha' r3, fun i j hi hj => (r4 i j hi hj).fr f h0⟩⟩
theorem rdF_sc {a a' : Int32} (hS : ∀ k, 27 ≤ k → k < 187 → S' k = S k) : ∀ (k i : Nat), i + k ≤ 40 → rdF S' a a' i k = rdF S a a' i k
  | 0, _, _ => rfl
  | k + 1, i, h => by
    unfold rdF
    rw [hS _ (by omega) (by omega), hS _ (by omega) (by omega), rdF_sc hS k (i + 1) (by omega)]
theorem WNt.sc (h : WNt A w b q S) (hR : cS S 9 ≤ 40) (h8 : S' 8 = S 8) (h9 : S' 9 = S 9) (hS : ∀ k, 15 ≤ k → k < 187 → S' k = S k) : WNt A w b q S' := by
  obtain ⟨c1, wq, ⟨a, g, m1, m2, m3, m4⟩, gn, rc, ⟨a', e, r1, r2, r3, r4⟩⟩ := h
  have e9 : cS S' 9 = cS S 9 := by unfold cS; rw [h9]
  refine ⟨c1, wq, ⟨a, g, m1, m2, m3, fun k hk => by rw [hS _ (by omega) (by omega)]; exact m4 k hk⟩, by rw [h8]; exact gn, by rw [h9]; exact rc, ⟨a', e, r1, r2, r3, fun i j hi hj => ?_⟩⟩
  rw [e9, rdF_sc (fun k h1 h2 => hS k (by omega) h2) _ 0 (by omega)]
  exact (r4 i j hi hj).sc (fun k h1 h2 => hS k (by omega) h2)
/-- a gantry more -/
theorem m_283 {G : Nat} (h : WNt A w b q S) (hG : S 8 = nI G) (hG2 : G < 12) (hR : cS S 9 ≤ 40) : ∃ A', evG TB (d + 1) 283 [.ref q, .int x] A = some (.inl (some (.int (nI G))), A') ∧ WNt A' w b q (upd (upd S (15 + G) x) 8 (nI (G + 1))) ∧ Fr A w A' w (fun l => l = (1000 * b + 2) ∨ l = (1000 * b + 3)) 0 0 := by
  obtain ⟨c1, wq, ⟨a, g, m1, m2, m3, m4⟩, gn, rc, ⟨a', e, r1, r2, r3, r4⟩⟩ := h
  have hq := gc_lt c1
  have la := ga_lt m3
  rw [hG] at gn
  have f : Fr A w (setf (seta A a (0, (12, .inl (upd g G x)))) q 15 (.int (nI (G + 1)))) w (fun l => l = (1000 * b + 2) ∨ l = (1000 * b + 3)) 0 0 := (Fr.sta (Or.inr m2)).trans (Fr.stf (Or.inl wq))
  have h4 : ¬ ((1000 * b + 4) = (1000 * b + 2) ∨ (1000 * b + 4) = (1000 * b + 3)) := by omega
  have h0 : ¬ (0 = (1000 * b + 2) ∨ 0 = (1000 * b + 3)) := by omega
  have ha' : ¬ (w a' = (1000 * b + 2) ∨ w a' = (1000 * b + 3)) := by rw [r2]; exact h4
  refine ⟨_, ?_, ⟨f.cc c1, wq, ⟨a, upd g G x, ?_, m2, ?_, fun k hk => ?_⟩, ?_, ?_, ⟨a', e, ?_, r2, f.ar ha' r3, fun i j hi hj => ?_⟩⟩, f⟩
  · have wr := wrI_n (f := g) (x := x) hG2 (by omega)
    simp (disch := first | omega | (simp (disch := omega) only [nx_setf, nx_seta, nx_newo, nx_newa]; omega)) only [e_283, x_283_0, x_283_1, x_283_4, x_283_5, x_283_8, x_283_9, x_283_10, x_283_11, x_283_12, x_283_15, x_283_16, x_283_17, x_283_20, x_283_21, x_283_24, x_283_25, x_283_26, kv_s, ki_s, kj_s, kd_s, kq_s, kq_n, kq_o, ka_s, kc_r, kc_t, kc0_r, kc0_t, kch_r, kc0h_r, kw_s, kw0_s, kwh_s, kw0h_s, rg_ref, rg_null, rg_rf, ck_t, sel_some, lkn_hd, Option.isSome_some, Bool.true_and, Bool.and_true, okv_i, okv_l, okv_r, okv_n, okv_rf, okv_b, okv_0, okv_1, okv_f, okv_d, c1_i, c1_r, c1_n, c1_rf, c1_f, nI_add, n_mul, n_sub, n_pred, n_eq, n_le, n_lt, n_neN, n_Nne, N_lt, N_le, n_ltN, n_leN, rdI_n, rdJ_n, rdD_n, wrI_n, wrI_z0, wrI_z1, wrI_zb, wrJ_n, wrD_n, aln_s, okn_n, upd_is, upd_ne, Nat.add_zero, Nat.add_sub_cancel, decide_true, decide_false, cond_true, cond_false, if_true, if_false, ite_not, not_true_eq_false, not_false_eq_true, Nat.reduceEqDiff, Nat.reduceAdd, Nat.reduceMul, Nat.reduceSub, Nat.reduceLeDiff, gf_setf_ne, gf_setf_p, gf_setf_is, va_rf_s, va_rf_n, gf_seta, ga_setf, gc_setf, gc_seta, ga_seta_ne, ga_seta_eq, gf_new, gc_new, gf_newo_o, gc_newo_o, ga_newo_o, ga_new, gf_newa_o, gc_newa_o, ga_newa_o, nx_setf, nx_seta, nx_newo, nx_newa, su_setf, su_seta, su_newo, su_newa, sg_setf, sg_seta, sg_newo, sg_newa, okq_n, m1, gn, m3, wr]
  · simp (disch := first | omega | (simp (disch := omega) only [nx_setf, nx_seta, nx_newo, nx_newa]; omega)) only [gf_setf_ne, gf_setf_p, gf_setf_is, va_rf_s, va_rf_n, gf_seta, ga_setf, gc_setf, gc_seta, ga_seta_ne, ga_seta_eq, gf_new, gc_new, gf_newo_o, gc_newo_o, ga_newo_o, ga_new, gf_newa_o, gc_newa_o, ga_newa_o, nx_setf, nx_seta, nx_newo, nx_newa, su_setf, su_seta, su_newo, su_newa, sg_setf, sg_seta, sg_newo, sg_newa, okq_n, m1]
  · rw [ga_setf]; exact ga_seta_lt la
  · by_cases hk2 : k = G
    · rw [hk2, up_is, up_ne (by omega), up_is]
    · rw [up_ne hk2, up_ne (by omega), up_ne (by omega)]; exact m4 k hk
  · rw [up_is]; simp (disch := first | omega | (simp (disch := omega) only [nx_setf, nx_seta, nx_newo, nx_newa]; omega)) only [gf_setf_ne, gf_setf_p, gf_setf_is, va_rf_s, va_rf_n, gf_seta, ga_setf, gc_setf, gc_seta, ga_seta_ne, ga_seta_eq, gf_new, gc_new, gf_newo_o, gc_newo_o, ga_newo_o, ga_new, gf_newa_o, gc_newa_o, ga_newa_o, nx_setf, nx_seta, nx_newo, nx_newa, su_setf, su_seta, su_newo, su_newa, sg_setf, sg_seta, sg_newo, sg_newa, okq_n]
  · rw [up_ne (by decide), up_ne (by omega)]; simp (disch := first | omega | (simp (disch := omega) only [nx_setf, nx_seta, nx_newo, nx_newa]; omega)) only [gf_setf_ne, gf_setf_p, gf_setf_is, va_rf_s, va_rf_n, gf_seta, ga_setf, gc_setf, gc_seta, ga_seta_ne, ga_seta_eq, gf_new, gc_new, gf_newo_o, gc_newo_o, ga_newo_o, ga_new, gf_newa_o, gc_newa_o, ga_newa_o, nx_setf, nx_seta, nx_newo, nx_newa, su_setf, su_seta, su_newo, su_newa, sg_setf, sg_seta, sg_newo, sg_newa, okq_n, rc]
  · simp (disch := first | omega | (simp (disch := omega) only [nx_setf, nx_seta, nx_newo, nx_newa]; omega)) only [gf_setf_ne, gf_setf_p, gf_setf_is, va_rf_s, va_rf_n, gf_seta, ga_setf, gc_setf, gc_seta, ga_seta_ne, ga_seta_eq, gf_new, gc_new, gf_newo_o, gc_newo_o, ga_newo_o, ga_new, gf_newa_o, gc_newa_o, ga_newa_o, nx_setf, nx_seta, nx_newo, nx_newa, su_setf, su_seta, su_newo, su_newa, sg_setf, sg_seta, sg_newo, sg_newa, okq_n, r1]
  · have e9 : cS (upd (upd S (15 + G) x) 8 (nI (G + 1))) 9 = cS S 9 := by rw [cS_ne (by decide), cS_ne (by omega)]
    have hS : ∀ k, 27 ≤ k → k < 187 → upd (upd S (15 + G) x) 8 (nI (G + 1)) k = S k := fun k h1 h2 => by rw [up_ne (by omega), up_ne (by omega)]
    rw [e9, rdF_sc hS _ 0 (by omega)]
    exact ((r4 i j hi hj).fr f h0).sc hS
/-- a road asked for -/
theorem m_284 (h : WNt A w b q S) (hi : i < 12) (hj : j < 12) : ∃ o, evG TB (d + 1) 284 [.ref q, .int (nI i), .int (nI j)] A = some (.inl (some (va_rf o)), A) ∧ RdO A w S o (rdF S (nI i) (nI j) 0 (cS S 9)) j := by
  obtain ⟨c1, wq, ⟨a, g, m1, m2, m3, m4⟩, gn, rc, ⟨a', e, r1, r2, r3, r4⟩⟩ := h
  refine ⟨e (12 * i + j), ?_, r4 i j hi hj⟩
  have rd : rdQ (some (roA e)) (nI (12 * i + j)) = some (e (12 * i + j)) := rdQ_n (by omega) (by omega) (by omega)
  simp (disch := first | omega | (simp (disch := omega) only [nx_setf, nx_seta, nx_newo, nx_newa]; omega)) only [e_284, x_284_0, x_284_1, x_284_4, x_284_6, x_284_7, x_284_8, x_284_9, x_284_10, x_284_11, kv_s, ki_s, kj_s, kd_s, kq_s, kq_n, kq_o, ka_s, kc_r, kc_t, kc0_r, kc0_t, kch_r, kc0h_r, kw_s, kw0_s, kwh_s, kw0h_s, rg_ref, rg_null, rg_rf, ck_t, sel_some, lkn_hd, Option.isSome_some, Bool.true_and, Bool.and_true, okv_i, okv_l, okv_r, okv_n, okv_rf, okv_b, okv_0, okv_1, okv_f, okv_d, c1_i, c1_r, c1_n, c1_rf, c1_f, nI_add, n_mul, n_sub, n_pred, n_eq, n_le, n_lt, n_neN, n_Nne, N_lt, N_le, n_ltN, n_leN, rdI_n, rdJ_n, rdD_n, wrI_n, wrI_z0, wrI_z1, wrI_zb, wrJ_n, wrD_n, aln_s, okn_n, upd_is, upd_ne, Nat.add_zero, Nat.add_sub_cancel, decide_true, decide_false, cond_true, cond_false, if_true, if_false, ite_not, not_true_eq_false, not_false_eq_true, Nat.reduceEqDiff, Nat.reduceAdd, Nat.reduceMul, Nat.reduceSub, Nat.reduceLeDiff, gf_setf_ne, gf_setf_p, gf_setf_is, va_rf_s, va_rf_n, gf_seta, ga_setf, gc_setf, gc_seta, ga_seta_ne, ga_seta_eq, gf_new, gc_new, gf_newo_o, gc_newo_o, ga_newo_o, ga_new, gf_newa_o, gc_newa_o, ga_newa_o, nx_setf, nx_seta, nx_newo, nx_newa, su_setf, su_seta, su_newo, su_newa, sg_setf, sg_seta, sg_newo, sg_newa, okq_n, r1, r3, rd]
theorem rdF_up {a a' x y z u : Int32} : ∀ (k i : Nat), i + k ≤ R → R < 40 → rdF (rdA S R x y z u) a a' i k = rdF S a a' i k
  | 0, _, _, _ => rfl
  | k + 1, i, h, hR => by
    have e1 : rdA S R x y z u (27 + 4 * i) = S (27 + 4 * i) := by unfold rdA; rw [up_ne (by omega), up_ne (by omega), up_ne (by omega), up_ne (by omega), up_ne (by omega)]
    have e2 : rdA S R x y z u (27 + 4 * i + 1) = S (27 + 4 * i + 1) := by unfold rdA; rw [up_ne (by omega), up_ne (by omega), up_ne (by omega), up_ne (by omega), up_ne (by omega)]
    unfold rdF
    rw [e1, e2, rdF_up k (i + 1) (by omega) hR]
theorem rdF_ap {a a' : Int32} : ∀ (k i : Nat), i + k < 100 → rdF S a a' i (k + 1) = if rdF S a a' i k = nN then (if S (27 + 4 * (i + k)) = a ∧ S (27 + 4 * (i + k) + 1) = a' then nI (i + k) else nN) else rdF S a a' i k
  | 0, i, _ => by
    show (if _ then nI i else nN) = if nN = nN then _ else _
    rw [if_pos rfl]
    rfl
  | k + 1, i, h => by
    have ih : rdF S a a' (i + 1) (k + 1) = if rdF S a a' (i + 1) k = nN then (if S (27 + 4 * (i + 1 + k)) = a ∧ S (27 + 4 * (i + 1 + k) + 1) = a' then nI (i + 1 + k) else nN) else rdF S a a' (i + 1) k := rdF_ap k (i + 1) (by omega)
    show (if S (27 + 4 * i) = a ∧ S (27 + 4 * i + 1) = a' then nI i else rdF S a a' (i + 1) (k + 1)) = (if (if S (27 + 4 * i) = a ∧ S (27 + 4 * i + 1) = a' then nI i else rdF S a a' (i + 1) k) = nN then _ else (if S (27 + 4 * i) = a ∧ S (27 + 4 * i + 1) = a' then nI i else rdF S a a' (i + 1) k))
    by_cases h1 : S (27 + 4 * i) = a ∧ S (27 + 4 * i + 1) = a'
    · rw [if_pos h1, if_pos h1, if_neg (fun e => by rw [n_neN (by omega)] at e; exact e)]
    · rw [if_neg h1, if_neg h1, ih, show i + 1 + k = i + (k + 1) from by omega]
theorem dv11_60 : dv11 60 = some (.int (nI 0)) := rfl
theorem dv11_61 : dv11 61 = some (.int (nI 0)) := rfl
theorem dv11_62 : dv11 62 = some (.int (nI 0)) := rfl
/-- a road more -/
theorem m_285 (h : WNt A w b q S) (hR : S 9 = nI R) (hR2 : R < 40) (hi : i < 12) (hj : j < 12) (hn : rdF S (nI i) (nI j) 0 R = nN) : ∃ A', evG TB (d + 2) 285 [.ref q, .int (nI i), .int (nI j), .int m, .int t] A = some (.inl (some (.int (nI R))), A') ∧ WNt A' (upL w (nx A) 0) b q (rdA S R (nI i) (nI j) m t) ∧ Fr A w A' (upL w (nx A) 0) (fun l => l = (1000 * b + 2) ∨ l = (1000 * b + 4)) 1 3 := by
  obtain ⟨c1, wq, ⟨a, g, m1, m2, m3, m4⟩, gn, rc, ⟨a', e, r1, r2, r3, r4⟩⟩ := h
  have hq := gc_lt c1
  have la := ga_lt m3
  have la' := ga_lt r3
  have cR : cS S 9 = R := by unfold cS; rw [hR]; exact n_cl (by omega)
  rw [hR] at rc
  rw [cR] at r4
  have wn : upL w (nx A) 0 (nx A) = 0 := upL_is rfl
  have wo : ∀ p, p < nx A → upL w (nx A) 0 p = w p := fun p hp => upL_ne (Nat.ne_of_lt hp)
  have wq' : upL w (nx A) 0 q = (1000 * b + 2) := by rw [wo q hq]; exact wq
  have wa' : upL w (nx A) 0 a' = (1000 * b + 4) := by rw [wo a' la']; exact r2
  have f0 : Fr A w (newo A 11 3 dv11) (upL w (nx A) 0) (fun l => l = (1000 * b + 2) ∨ l = (1000 * b + 4)) 1 3 := Fr.nwo
  have f1 := ((f0.stn (f := 60) (v := .int (nI j)) (Nat.le_refl _)).stn (f := 61) (v := .int m) (Nat.le_refl _)).stn (f := 62) (v := .int t) (Nat.le_refl _)
  have f := ((f1.trans (Fr.sta (p := a') (x := roA (va_up e (12 * i + j) (some (nx A)))) (Or.inr wa'))).trans (Fr.stf (p := q) (f := 17) (v := .int (nI (R + 1))) (Or.inl wq'))).mono (fun _ h => h) (Nat.le_refl _) (Nat.le_refl _)
  have h3 : ¬ ((1000 * b + 3) = (1000 * b + 2) ∨ (1000 * b + 3) = (1000 * b + 4)) := by omega
  have h0 : ¬ (0 = (1000 * b + 2) ∨ 0 = (1000 * b + 4)) := by omega
  have ha : ¬ (w a = (1000 * b + 2) ∨ w a = (1000 * b + 4)) := by rw [m2]; exact h3
  have la2 : a' < nx (setf (setf (setf (newo A 11 3 dv11) (nx A) 60 (.int (nI j))) (nx A) 61 (.int m)) (nx A) 62 (.int t)) := Nat.lt_succ_of_lt la'
  refine ⟨_, ?_, ⟨f.cc c1, wq', ⟨a, g, ?_, by rw [wo a la]; exact m2, f.ar ha m3, fun k hk => ?_⟩, ?_, ?_, ⟨a', va_up e (12 * i + j) (some (nx A)), ?_, wa', ?_, fun i2 j2 hi2 hj2 => ?_⟩⟩, f⟩
  · have wr : wrQ (some (roA e)) (nI (12 * i + j)) (some (nx A)) = some (roA (va_up e (12 * i + j) (some (nx A)))) := wrQ_n (by omega) (by omega) (by omega)
    have ok : okq (setf (setf (setf (newo A 11 3 dv11) (nx A) 60 (.int (nI j))) (nx A) 61 (.int m)) (nx A) 62 (.int t)) [11] (.ref (nx A)) = true := by
      show cin (gcs _ (nx A)) [11] = true
      rw [gcs_d (k := 11) (by simp (disch := first | omega | (simp (disch := omega) only [nx_setf, nx_seta, nx_newo, nx_newa]; omega)) only [gf_setf_ne, gf_setf_p, gf_setf_is, va_rf_s, va_rf_n, gf_seta, ga_setf, gc_setf, gc_seta, ga_seta_ne, ga_seta_eq, gf_new, gc_new, gf_newo_o, gc_newo_o, ga_newo_o, ga_new, gf_newa_o, gc_newa_o, ga_newa_o, nx_setf, nx_seta, nx_newo, nx_newa, su_setf, su_seta, su_newo, su_newa, sg_setf, sg_seta, sg_newo, sg_newa, okq_n])]; rfl
    have at6 : atag (some (roA e)) 6 = true := rfl
    simp (disch := first | omega | (simp (disch := omega) only [nx_setf, nx_seta, nx_newo, nx_newa]; omega)) only [e_285, x_285_0, x_285_1, x_285_4, x_285_6, x_285_7, x_285_8, x_285_9, x_285_10, x_285_13, x_285_14, x_285_15, x_285_16, x_285_18, x_285_21r, x_285_21n, x_285_22, x_285_23, x_285_24, x_285_27, x_285_28, x_285_29, x_285_32, x_285_33, x_285_36, x_285_37, x_285_38, e_418, x_418_0, x_418_1, x_418_4, x_418_5, x_418_6, x_418_9, x_418_10, x_418_11, x_418_14, x_418_15, x_418_16, x_418_19, kv_s, ki_s, kj_s, kd_s, kq_s, kq_n, kq_o, ka_s, kc_r, kc_t, kc0_r, kc0_t, kch_r, kc0h_r, kw_s, kw0_s, kwh_s, kw0h_s, rg_ref, rg_null, rg_rf, ck_t, sel_some, lkn_hd, Option.isSome_some, Bool.true_and, Bool.and_true, okv_i, okv_l, okv_r, okv_n, okv_rf, okv_b, okv_0, okv_1, okv_f, okv_d, c1_i, c1_r, c1_n, c1_rf, c1_f, nI_add, n_mul, n_sub, n_pred, n_eq, n_le, n_lt, n_neN, n_Nne, N_lt, N_le, n_ltN, n_leN, rdI_n, rdJ_n, rdD_n, wrI_n, wrI_z0, wrI_z1, wrI_zb, wrJ_n, wrD_n, aln_s, okn_n, upd_is, upd_ne, Nat.add_zero, Nat.add_sub_cancel, decide_true, decide_false, cond_true, cond_false, if_true, if_false, ite_not, not_true_eq_false, not_false_eq_true, Nat.reduceEqDiff, Nat.reduceAdd, Nat.reduceMul, Nat.reduceSub, Nat.reduceLeDiff, gf_setf_ne, gf_setf_p, gf_setf_is, va_rf_s, va_rf_n, gf_seta, ga_setf, gc_setf, gc_seta, ga_seta_ne, ga_seta_eq, gf_new, gc_new, gf_newo_o, gc_newo_o, ga_newo_o, ga_new, gf_newa_o, gc_newa_o, ga_newa_o, nx_setf, nx_seta, nx_newo, nx_newa, su_setf, su_seta, su_newo, su_newa, sg_setf, sg_seta, sg_newo, sg_newa, okq_n, r1, r3, rc, wr, ok, at6, dv11_60, dv11_61, dv11_62, Bool.true_and, ckT]
  · simp (disch := first | omega | (simp (disch := omega) only [nx_setf, nx_seta, nx_newo, nx_newa]; omega)) only [gf_setf_ne, gf_setf_p, gf_setf_is, va_rf_s, va_rf_n, gf_seta, ga_setf, gc_setf, gc_seta, ga_seta_ne, ga_seta_eq, gf_new, gc_new, gf_newo_o, gc_newo_o, ga_newo_o, ga_new, gf_newa_o, gc_newa_o, ga_newa_o, nx_setf, nx_seta, nx_newo, nx_newa, su_setf, su_seta, su_newo, su_newa, sg_setf, sg_seta, sg_newo, sg_newa, okq_n, m1]
  · unfold rdA
    rw [up_ne (by omega), up_ne (by omega), up_ne (by omega), up_ne (by omega), up_ne (by omega)]
    exact m4 k hk
  · unfold rdA
    rw [up_ne (by omega), up_ne (by omega), up_ne (by omega), up_ne (by omega), up_ne (by omega)]
    simp (disch := first | omega | (simp (disch := omega) only [nx_setf, nx_seta, nx_newo, nx_newa]; omega)) only [gf_setf_ne, gf_setf_p, gf_setf_is, va_rf_s, va_rf_n, gf_seta, ga_setf, gc_setf, gc_seta, ga_seta_ne, ga_seta_eq, gf_new, gc_new, gf_newo_o, gc_newo_o, ga_newo_o, ga_new, gf_newa_o, gc_newa_o, ga_newa_o, nx_setf, nx_seta, nx_newo, nx_newa, su_setf, su_seta, su_newo, su_newa, sg_setf, sg_seta, sg_newo, sg_newa, okq_n, gn]
  · unfold rdA
    rw [up_is]
    simp (disch := first | omega | (simp (disch := omega) only [nx_setf, nx_seta, nx_newo, nx_newa]; omega)) only [gf_setf_ne, gf_setf_p, gf_setf_is, va_rf_s, va_rf_n, gf_seta, ga_setf, gc_setf, gc_seta, ga_seta_ne, ga_seta_eq, gf_new, gc_new, gf_newo_o, gc_newo_o, ga_newo_o, ga_new, gf_newa_o, gc_newa_o, ga_newa_o, nx_setf, nx_seta, nx_newo, nx_newa, su_setf, su_seta, su_newo, su_newa, sg_setf, sg_seta, sg_newo, sg_newa, okq_n]
  · simp (disch := first | omega | (simp (disch := omega) only [nx_setf, nx_seta, nx_newo, nx_newa]; omega)) only [gf_setf_ne, gf_setf_p, gf_setf_is, va_rf_s, va_rf_n, gf_seta, ga_setf, gc_setf, gc_seta, ga_seta_ne, ga_seta_eq, gf_new, gc_new, gf_newo_o, gc_newo_o, ga_newo_o, ga_new, gf_newa_o, gc_newa_o, ga_newa_o, nx_setf, nx_seta, nx_newo, nx_newa, su_setf, su_seta, su_newo, su_newa, sg_setf, sg_seta, sg_newo, sg_newa, okq_n, r1]
  · rw [ga_setf]; exact ga_seta_lt la2
  · have e9 : cS (rdA S R (nI i) (nI j) m t) 9 = R + 1 := by unfold rdA; exact cS_up (by omega)
    have hS : ∀ r, r < R → rdA S R (nI i) (nI j) m t (27 + 4 * r + 2) = S (27 + 4 * r + 2) ∧ rdA S R (nI i) (nI j) m t (27 + 4 * r + 3) = S (27 + 4 * r + 3) := fun r hr => by
      unfold rdA
      constructor
      · rw [up_ne (by omega), up_ne (by omega), up_ne (by omega), up_ne (by omega), up_ne (by omega)]
      · rw [up_ne (by omega), up_ne (by omega), up_ne (by omega), up_ne (by omega), up_ne (by omega)]
    have n0 : rdA S R (nI i) (nI j) m t (27 + 4 * R) = nI i := by unfold rdA; rw [up_ne (by omega), up_ne (by omega), up_ne (by omega), up_ne (by omega), up_is]
    have n1 : rdA S R (nI i) (nI j) m t (27 + 4 * R + 1) = nI j := by unfold rdA; rw [up_ne (by omega), up_ne (by omega), up_ne (by omega), up_is]
    have n2 : rdA S R (nI i) (nI j) m t (27 + 4 * R + 2) = m := by unfold rdA; rw [up_ne (by omega), up_ne (by omega), up_is]
    have n3 : rdA S R (nI i) (nI j) m t (27 + 4 * R + 3) = t := by unfold rdA; rw [up_ne (by omega), up_is]
    have old := r4 i2 j2 hi2 hj2
    rw [e9, rdF_ap R 0 (by omega), Nat.zero_add, n0, n1, rdF_up R 0 (by omega) hR2]
    by_cases hij : 12 * i2 + j2 = 12 * i + j
    · have hi3 : i2 = i := by omega
      have hj3 : j2 = j := by omega
      rw [hi3, hj3, hn, if_pos rfl, if_pos ⟨rfl, rfl⟩, show va_up e (12 * i + j) (some (nx A)) (12 * i + j) = some (nx A) from if_pos rfl]
      refine ⟨R, rfl, hR2, ?_⟩
      rw [n2, n3]
      refine ⟨?_, wn, ?_, ?_, ?_⟩
      · simp (disch := first | omega | (simp (disch := omega) only [nx_setf, nx_seta, nx_newo, nx_newa]; omega)) only [gf_setf_ne, gf_setf_p, gf_setf_is, va_rf_s, va_rf_n, gf_seta, ga_setf, gc_setf, gc_seta, ga_seta_ne, ga_seta_eq, gf_new, gc_new, gf_newo_o, gc_newo_o, ga_newo_o, ga_new, gf_newa_o, gc_newa_o, ga_newa_o, nx_setf, nx_seta, nx_newo, nx_newa, su_setf, su_seta, su_newo, su_newa, sg_setf, sg_seta, sg_newo, sg_newa, okq_n]
      · simp (disch := first | omega | (simp (disch := omega) only [nx_setf, nx_seta, nx_newo, nx_newa]; omega)) only [gf_setf_ne, gf_setf_p, gf_setf_is, va_rf_s, va_rf_n, gf_seta, ga_setf, gc_setf, gc_seta, ga_seta_ne, ga_seta_eq, gf_new, gc_new, gf_newo_o, gc_newo_o, ga_newo_o, ga_new, gf_newa_o, gc_newa_o, ga_newa_o, nx_setf, nx_seta, nx_newo, nx_newa, su_setf, su_seta, su_newo, su_newa, sg_setf, sg_seta, sg_newo, sg_newa, okq_n]
      · simp (disch := first | omega | (simp (disch := omega) only [nx_setf, nx_seta, nx_newo, nx_newa]; omega)) only [gf_setf_ne, gf_setf_p, gf_setf_is, va_rf_s, va_rf_n, gf_seta, ga_setf, gc_setf, gc_seta, ga_seta_ne, ga_seta_eq, gf_new, gc_new, gf_newo_o, gc_newo_o, ga_newo_o, ga_new, gf_newa_o, gc_newa_o, ga_newa_o, nx_setf, nx_seta, nx_newo, nx_newa, su_setf, su_seta, su_newo, su_newa, sg_setf, sg_seta, sg_newo, sg_newa, okq_n]
      · simp (disch := first | omega | (simp (disch := omega) only [nx_setf, nx_seta, nx_newo, nx_newa]; omega)) only [gf_setf_ne, gf_setf_p, gf_setf_is, va_rf_s, va_rf_n, gf_seta, ga_setf, gc_setf, gc_seta, ga_seta_ne, ga_seta_eq, gf_new, gc_new, gf_newo_o, gc_newo_o, ga_newo_o, ga_new, gf_newa_o, gc_newa_o, ga_newa_o, nx_setf, nx_seta, nx_newo, nx_newa, su_setf, su_seta, su_newo, su_newa, sg_setf, sg_seta, sg_newo, sg_newa, okq_n]
    · rw [show va_up e (12 * i + j) (some (nx A)) (12 * i2 + j2) = e (12 * i2 + j2) from if_neg hij]
      have hne : ¬ (nI i = nI i2 ∧ nI j = nI j2) := fun z => by
        have z1 := (nI_eq (by omega) (by omega)).mp z.1
        have z2 := (nI_eq (by omega) (by omega)).mp z.2
        omega
      rw [if_neg hne]
      have e3 : (if rdF S (nI i2) (nI j2) 0 R = nN then nN else rdF S (nI i2) (nI j2) 0 R) = rdF S (nI i2) (nI j2) 0 R := by
        by_cases z : rdF S (nI i2) (nI j2) 0 R = nN
        · rw [if_pos z, z]
        · rw [if_neg z]
      rw [e3]
      have old2 := old.fr f h0
      cases hE : e (12 * i2 + j2) with
      | none => rw [hE] at old2; exact old2
      | some y =>
        rw [hE] at old2
        obtain ⟨r, u1, u2, u3⟩ := old2
        have hrR : r < R := by
          by_cases z : r < R
          · exact z
          · exfalso
            -- a road found is one of the first R
            have : ∀ (k i0 : Nat), i0 + k = R → rdF S (nI i2) (nI j2) i0 k = nI r → False := by
              intro k
              induction k with
              | zero => intro i0 _ h; have h' : nN = nI r := h; rw [n_Nne (by omega)] at h'; exact h'
              | succ k ih =>
                intro i0 hi0 h
                unfold rdF at h
                split at h
                · have := (nI_eq (by omega) (by omega)).mp h; omega
                · exact ih (i0 + 1) (by omega) h
            exact this R 0 (by omega) u1
        refine ⟨r, u1, u2, ?_⟩
        rw [(hS r hrR).1, (hS r hrR).2]
        exact u3
end
