/-! the component's search: all ways from a gantry to another one -/
theorem n_or {u v : Nat} : nI u ||| nI v = nI (u ||| v) := by
  unfold nI
  apply Int32.toBitVec_inj.mp
  rw [Int32.toBitVec_or]
  exact BitVec.ofNat_or.symm
theorem sm_t : ∀ t : Nat, t < 12 → ((nI t &&& (31 : Int32)).toBitVec.smod 32).toNat = t := by decide
theorem n_shl1 {t : Nat} (ht : t < 12) : nI 1 <<< (nI t &&& (31 : Int32)) = nI (2 ^ t) := by
  have h : 2 ^ t ≤ 2 ^ 12 := Nat.pow_le_pow_right (by decide) (by omega)
  rw [pk_shlN _ t (sm_t t ht) (by omega), Nat.one_mul]
theorem n_shrt {u t : Nat} (hu : u < 4096) (ht : t < 12) : nI u >>> (nI t &&& (31 : Int32)) = nI (u / 2 ^ t) := pk_shrN (by omega) _ t (sm_t t ht)
theorem n_and1 {x : Nat} (h : x < 4096) : nI x &&& nI 1 = nI (x % 2) := pk_andN (by omega) 1 (by decide)
theorem n_bt {u t : Nat} (hu : u < 4096) (ht : t < 12) : (nI u >>> (nI t &&& (31 : Int32)) &&& nI 1 = nI 0) = (u.testBit t = false) := by
  rw [n_shrt hu ht, n_and1 (Nat.lt_of_le_of_lt (Nat.div_le_self _ _) hu), Nat.testBit_eq_decide_div_mod_eq]
  apply propext
  rw [nI_eq (by omega) (by omega), decide_eq_false_iff_not]
  omega
theorem onR_end {f : Nat → Int32} {x : Int32} : ∀ (k i : Nat), onR f x i (k + 1) = (onR f x i k || decide (f (i + k) = x))
  | 0, i => by
    show (decide (f i = x) || false) = (false || decide (f (i + 0) = x))
    rw [Bool.or_false, Bool.false_or, Nat.add_zero]
  | k + 1, i => by
    show (decide (f i = x) || onR f x (i + 1) (k + 1)) = ((decide (f i = x) || onR f x (i + 1) k) || decide (f (i + (k + 1)) = x))
    rw [onR_end k (i + 1), Bool.or_assoc, show i + 1 + k = i + (k + 1) from by omega]
/-- the gantries on a way, as bits -/
def UsO (u : Nat) (wy : Nat → Int32) (s : Nat) : Prop := u < 4096 ∧ ∀ t, t < 12 → u.testBit t = onR wy (nI t) 0 (s + 1)
theorem UsO.new {a : Nat} {wy : Nat → Int32} (ha : a < 12) (h : wy 0 = nI a) : UsO (2 ^ a) wy 0 := by
  refine ⟨Nat.lt_of_le_of_lt (Nat.pow_le_pow_right (by decide) (show a ≤ 11 by omega)) (by decide), fun t ht => ?_⟩
  rw [Nat.testBit_two_pow]
  show decide (a = t) = (decide (wy 0 = nI t) || false)
  rw [Bool.or_false, h]
  exact decide_eq_decide.mpr (nI_eq (by omega) (by omega)).symm
theorem UsO.more {u s t : Nat} {wy : Nat → Int32} (h : UsO u wy s) (ht : t < 12) : UsO (u ||| 2 ^ t) (upd wy (s + 1) (nI t)) (s + 1) := by
  obtain ⟨h1, h2⟩ := h
  have hp : 2 ^ t < 4096 := Nat.lt_of_le_of_lt (Nat.pow_le_pow_right (by decide) (show t ≤ 11 by omega)) (by decide)
  refine ⟨Nat.or_lt_two_pow (n := 12) h1 hp, fun j hj => ?_⟩
  rw [Nat.testBit_or, Nat.testBit_two_pow, h2 j hj, onR_end (s + 1) 0, onR_congr (f := upd wy (s + 1) (nI t)) (g := wy) (s + 1) 0 (fun i _ hi => upd_ne (by omega)), upd_is (by omega)]
  congr 1
  exact decide_eq_decide.mpr (nI_eq (by omega) (by omega)).symm
/-- a search: kind, network, target, way, best, the ints behind -/
abbrev SrO (A : Hp) (w : Lb) (y ci q to a1 a2 : Nat) (K : Nat → Prop) (f1 f2 g : Nat → Int32) : Prop := (gc A y = some ci) ∧ (w y = 7) ∧ (gf A y 77 = some (.ref q)) ∧ (gf A y 78 = some (.int (nI to))) ∧ (gf A y 79 = some (.ref a1)) ∧ (gf A y 80 = some (.ref a2)) ∧ (w a1 = 7) ∧ (w a2 = 7) ∧ (ga A a1 = some (0, (7, .inl f1))) ∧ (ga A a2 = some (0, (7, .inl f2))) ∧ (∀ k, K k → gf A y (81 + k) = some (.int (g k))) ∧ (K 0) ∧ (a1 ≠ a2)
theorem SrO.c {A : Hp} {w : Lb} {y ci q to a1 a2 : Nat} {K : Nat → Prop} {f1 f2 g : Nat → Int32} (hse1f : SrO A w y ci q to a1 a2 K f1 f2 g) : gc A y = some ci := hse1f.1
theorem SrO.wy {A : Hp} {w : Lb} {y ci q to a1 a2 : Nat} {K : Nat → Prop} {f1 f2 g : Nat → Int32} (hse1f : SrO A w y ci q to a1 a2 K f1 f2 g) : w y = 7 := hse1f.2.1
theorem SrO.f77 {A : Hp} {w : Lb} {y ci q to a1 a2 : Nat} {K : Nat → Prop} {f1 f2 g : Nat → Int32} (hse1f : SrO A w y ci q to a1 a2 K f1 f2 g) : gf A y 77 = some (.ref q) := hse1f.2.2.1
theorem SrO.f78 {A : Hp} {w : Lb} {y ci q to a1 a2 : Nat} {K : Nat → Prop} {f1 f2 g : Nat → Int32} (hse1f : SrO A w y ci q to a1 a2 K f1 f2 g) : gf A y 78 = some (.int (nI to)) := hse1f.2.2.2.1
theorem SrO.f79 {A : Hp} {w : Lb} {y ci q to a1 a2 : Nat} {K : Nat → Prop} {f1 f2 g : Nat → Int32} (hse1f : SrO A w y ci q to a1 a2 K f1 f2 g) : gf A y 79 = some (.ref a1) := hse1f.2.2.2.2.1
theorem SrO.f80 {A : Hp} {w : Lb} {y ci q to a1 a2 : Nat} {K : Nat → Prop} {f1 f2 g : Nat → Int32} (hse1f : SrO A w y ci q to a1 a2 K f1 f2 g) : gf A y 80 = some (.ref a2) := hse1f.2.2.2.2.2.1
theorem SrO.w1 {A : Hp} {w : Lb} {y ci q to a1 a2 : Nat} {K : Nat → Prop} {f1 f2 g : Nat → Int32} (hse1f : SrO A w y ci q to a1 a2 K f1 f2 g) : w a1 = 7 := hse1f.2.2.2.2.2.2.1
theorem SrO.w2 {A : Hp} {w : Lb} {y ci q to a1 a2 : Nat} {K : Nat → Prop} {f1 f2 g : Nat → Int32} (hse1f : SrO A w y ci q to a1 a2 K f1 f2 g) : w a2 = 7 := hse1f.2.2.2.2.2.2.2.1
theorem SrO.n1 {A : Hp} {w : Lb} {y ci q to a1 a2 : Nat} {K : Nat → Prop} {f1 f2 g : Nat → Int32} (hse1f : SrO A w y ci q to a1 a2 K f1 f2 g) : ga A a1 = some (0, (7, .inl f1)) := hse1f.2.2.2.2.2.2.2.2.1
theorem SrO.n2 {A : Hp} {w : Lb} {y ci q to a1 a2 : Nat} {K : Nat → Prop} {f1 f2 g : Nat → Int32} (hse1f : SrO A w y ci q to a1 a2 K f1 f2 g) : ga A a2 = some (0, (7, .inl f2)) := hse1f.2.2.2.2.2.2.2.2.2.1
theorem SrO.gs {A : Hp} {w : Lb} {y ci q to a1 a2 : Nat} {K : Nat → Prop} {f1 f2 g : Nat → Int32} (hse1f : SrO A w y ci q to a1 a2 K f1 f2 g) : ∀ k, K k → gf A y (81 + k) = some (.int (g k)) := hse1f.2.2.2.2.2.2.2.2.2.2.1
theorem SrO.k0 {A : Hp} {w : Lb} {y ci q to a1 a2 : Nat} {K : Nat → Prop} {f1 f2 g : Nat → Int32} (hse1f : SrO A w y ci q to a1 a2 K f1 f2 g) : K 0 := hse1f.2.2.2.2.2.2.2.2.2.2.2.1
theorem SrO.ne {A : Hp} {w : Lb} {y ci q to a1 a2 : Nat} {K : Nat → Prop} {f1 f2 g : Nat → Int32} (hse1f : SrO A w y ci q to a1 a2 K f1 f2 g) : a1 ≠ a2 := hse1f.2.2.2.2.2.2.2.2.2.2.2.2
/-- what a search does at the end of a way -/
abbrev Tk : Type := Nat → Int32 → Int32 → Int32 → (Nat → Int32) → Bool × (Nat → Int32)
def TkS (ci : Nat) (K : Nat → Prop) (tk : Tk) : Prop := ∀ (A : Hp) (w : Lb) (y q to a1 a2 : Nat) (f1 f2 g : Nat → Int32) (d r : Nat) (mi tl ms : Int32), SrO A w y ci q to a1 a2 K f1 f2 g → r ≤ 6 → ∃ A', evG TB (d + 2) (if ci = 15 then 232 else 233) [.ref y, .int (nI r), .int mi, .int tl, .int ms] A = some (.inl (some (.int (bI (tk r mi tl ms g).1))), A') ∧ SrO A' w y ci q to a1 a2 K f1 f2 (tk r mi tl ms g).2 ∧ Fr A w A' w (fun z => z = 7) 0 0
def tkN (tk : Tk) (r : Nat) (wy : Nat → Int32) (mi tl ms : Int32) (a : (Nat → Int32) × (Nat → Int32)) : (Nat → Int32) × (Nat → Int32) := if (tk r mi tl ms a.1).1 = true then (upd (tk r mi tl ms a.1).2 0 (nI r), fun j => if j ≤ r then wy j else a.2 j) else ((tk r mi tl ms a.1).2, a.2)
section
variable {A A' : Hp} {w w' : Lb} {X : Nat → Prop} {y ci q to a1 a2 b d c s G R u h r t : Nat} {K : Nat → Prop} {f1 f2 g f1' f2' : Nat → Int32} {S : Nat → Int32} {tk : Tk} {mi tl ms mc mh x : Int32}
theorem SrO.way (h : SrO A w y ci q to a1 a2 K f1 f2 g) (f : Nat → Int32) : SrO (seta A a1 (0, (7, .inl f))) w y ci q to a1 a2 K f f2 g := by
  obtain ⟨h1, h2, h3, h4, h5, h6, h7, h8, h9, h10, h11, h12, h13⟩ := h
  exact ⟨h1, h2, h3, h4, h5, h6, h7, h8, ga_seta_lt (ga_lt h9), by rw [ga_seta_ne h13.symm]; exact h10, h11, h12, h13⟩
theorem SrO.best (h : SrO A w y ci q to a1 a2 K f1 f2 g) (f : Nat → Int32) : SrO (seta A a2 (0, (7, .inl f))) w y ci q to a1 a2 K f1 f g := by
  obtain ⟨h1, h2, h3, h4, h5, h6, h7, h8, h9, h10, h11, h12, h13⟩ := h
  exact ⟨h1, h2, h3, h4, h5, h6, h7, h8, by rw [ga_seta_ne h13]; exact h9, ga_seta_lt (ga_lt h10), h11, h12, h13⟩
theorem SrO.set (h : SrO A w y ci q to a1 a2 K f1 f2 g) (k : Nat) (x : Int32) : SrO (setf A y (81 + k) (.int x)) w y ci q to a1 a2 K f1 f2 (upd g k x) := by
  obtain ⟨h1, h2, h3, h4, h5, h6, h7, h8, h9, h10, h11, h12, h13⟩ := h
  have hy := gc_lt h1
  refine ⟨h1, h2, ?_, ?_, ?_, ?_, h7, h8, h9, h10, fun j hj => ?_, h12, h13⟩
  · rw [gf_setf_ne (by omega)]; exact h3
  · rw [gf_setf_ne (by omega)]; exact h4
  · rw [gf_setf_ne (by omega)]; exact h5
  · rw [gf_setf_ne (by omega)]; exact h6
  · by_cases z : j = k
    · rw [z, upd_is rfl]; exact gf_setf_is hy
    · rw [upd_ne z, gf_setf_ne (by omega)]; exact h11 j hj
theorem lk_a : lkn [(16, 233), (15, 232)] 15 = some 232 := rfl
theorem lk_b : lkn [(16, 229), (15, 229)] 15 = some 229 := rfl
theorem lk_c : lkn [(16, 230), (15, 230)] 15 = some 230 := rfl
theorem cp_way (hr : r ≤ 6) : cpI 0 (some ((0, (7, .inl f1)) : ArC)) (some (0, (7, .inl f2))) (nI 0) (nI 0) (nI (r + 1)) = some (0, (7, .inl (va_cpy f1 f2 0 0 (r + 1)))) := by
  unfold cpI
  dsimp only
  rw [n_cl (by decide), n_cl (by omega), decide_eq_true (nI_pos' (by decide)), decide_eq_true (nI_pos' (by omega))]
  rw [show ((0 + (r + 1)).ble 7) = true from Nat.ble_eq_true_of_le (by omega)]
  rfl
/-- at the end of a way -/
theorem go_end (hk : TkS ci K tk) (hci : ci = 15 ∨ ci = 16) (h : SrO A w y ci q to a1 a2 K f1 f2 g) (hr : r ≤ 6) (he : f1 r = nI to) {wy : Nat → Int32} (hw : ∀ j, j ≤ r → f1 j = wy j) (hto : to < 12) : ∃ A', evG TB (d + 3) 229 [.ref y, .int (nI r), .int x, .int mi, .int tl, .int ms] A = some (.inl none, A') ∧ SrO A' w y ci q to a1 a2 K f1 (tkN tk r wy mi tl ms (g, f2)).2 (tkN tk r wy mi tl ms (g, f2)).1 ∧ Fr A w A' w (fun z => z = 7) 0 0 := by
  obtain ⟨A1, e1, h1, fr1⟩ := hk A w y q to a1 a2 f1 f2 g d r mi tl ms h hr
  have f79 := h.f79
  have f78 := h.f78
  have n1 := h.n1
  have rd : rdI 0 (some ((0, (7, .inl f1)) : ArC)) (nI r) = some (nI to) := by rw [← he]; exact rdI_n (by omega) (by omega)
  have hc := h.c
  unfold tkN
  cases htk : (tk r mi tl ms g).1 with
  | false =>
    rw [htk, bI_f] at e1
    refine ⟨A1, ?_, h1, fr1⟩
    rcases hci with e | e <;> subst e
    · rw [if_pos rfl] at e1
      simp (disch := first | omega | (simp (disch := omega) only [nx_setf, nx_seta, nx_newo, nx_newa]; omega)) only [e_229, x_229_0, x_229_1, x_229_4, x_229_5, x_229_6, x_229_8, x_229_10, x_229_11, x_229_14, x_229_17, x_229_18, x_229_19, x_229_20, x_229_22, x_229_24, x_229_27, x_229_30, x_229_31, x_229_32, x_229_35, x_229_36, x_229_39, x_229_40, x_229_41, x_229_44, x_229_45, x_229_46, x_229_47, x_229_48, x_229_51, kv_s, ki_s, kj_s, kd_s, kq_s, kq_n, kq_o, ka_s, kc_r, kc_t, kc0_r, kc0_t, kch_r, kc0h_r, kw_s, kw0_s, kwh_s, kw0h_s, rg_ref, rg_null, rg_rf, ck_t, sel_some, lkn_hd, Option.isSome_some, Bool.true_and, Bool.and_true, okv_i, okv_l, okv_r, okv_n, okv_rf, okv_b, okv_0, okv_1, okv_f, okv_d, c1_i, c1_r, c1_n, c1_rf, c1_f, nI_add, n_mul, n_sub, n_pred, n_eq, n_le, n_lt, n_neN, n_Nne, N_lt, N_le, n_ltN, n_leN, rdI_n, rdJ_n, rdD_n, wrI_n, wrI_z0, wrI_z1, wrI_zb, wrJ_n, wrD_n, aln_s, okn_n, upd_is, upd_ne, Nat.add_zero, Nat.add_sub_cancel, decide_true, decide_false, cond_true, cond_false, if_true, if_false, ite_not, not_true_eq_false, not_false_eq_true, Nat.reduceEqDiff, Nat.reduceAdd, Nat.reduceMul, Nat.reduceSub, Nat.reduceLeDiff, gf_setf_ne, gf_setf_p, gf_setf_is, va_rf_s, va_rf_n, gf_seta, ga_setf, gc_setf, gc_seta, ga_seta_ne, ga_seta_eq, gf_new, gc_new, gf_newo_o, gc_newo_o, ga_newo_o, ga_new, gf_newa_o, gc_newa_o, ga_newa_o, nx_setf, nx_seta, nx_newo, nx_newa, su_setf, su_seta, su_newo, su_newa, sg_setf, sg_seta, sg_newo, sg_newa, okq_n, f79, f78, n1, rd, hc, lk_a, e1, eq_self]
    · rw [if_neg (by decide)] at e1
      simp (disch := first | omega | (simp (disch := omega) only [nx_setf, nx_seta, nx_newo, nx_newa]; omega)) only [e_229, x_229_0, x_229_1, x_229_4, x_229_5, x_229_6, x_229_8, x_229_10, x_229_11, x_229_14, x_229_17, x_229_18, x_229_19, x_229_20, x_229_22, x_229_24, x_229_27, x_229_30, x_229_31, x_229_32, x_229_35, x_229_36, x_229_39, x_229_40, x_229_41, x_229_44, x_229_45, x_229_46, x_229_47, x_229_48, x_229_51, kv_s, ki_s, kj_s, kd_s, kq_s, kq_n, kq_o, ka_s, kc_r, kc_t, kc0_r, kc0_t, kch_r, kc0h_r, kw_s, kw0_s, kwh_s, kw0h_s, rg_ref, rg_null, rg_rf, ck_t, sel_some, lkn_hd, Option.isSome_some, Bool.true_and, Bool.and_true, okv_i, okv_l, okv_r, okv_n, okv_rf, okv_b, okv_0, okv_1, okv_f, okv_d, c1_i, c1_r, c1_n, c1_rf, c1_f, nI_add, n_mul, n_sub, n_pred, n_eq, n_le, n_lt, n_neN, n_Nne, N_lt, N_le, n_ltN, n_leN, rdI_n, rdJ_n, rdD_n, wrI_n, wrI_z0, wrI_z1, wrI_zb, wrJ_n, wrD_n, aln_s, okn_n, upd_is, upd_ne, Nat.add_zero, Nat.add_sub_cancel, decide_true, decide_false, cond_true, cond_false, if_true, if_false, ite_not, not_true_eq_false, not_false_eq_true, Nat.reduceEqDiff, Nat.reduceAdd, Nat.reduceMul, Nat.reduceSub, Nat.reduceLeDiff, gf_setf_ne, gf_setf_p, gf_setf_is, va_rf_s, va_rf_n, gf_seta, ga_setf, gc_setf, gc_seta, ga_seta_ne, ga_seta_eq, gf_new, gc_new, gf_newo_o, gc_newo_o, ga_newo_o, ga_new, gf_newa_o, gc_newa_o, ga_newa_o, nx_setf, nx_seta, nx_newo, nx_newa, su_setf, su_seta, su_newo, su_newa, sg_setf, sg_seta, sg_newo, sg_newa, okq_n, f79, f78, n1, rd, hc, lk_a, e1, eq_self]
  | true =>
    rw [htk, bI_t] at e1
    have h2 := h1.set 0 (nI r)
    have h3 := h2.best (va_cpy f1 f2 0 0 (r + 1))
    have hcpy : ∀ j, (fun j => if j ≤ r then wy j else f2 j) j = va_cpy f1 f2 0 0 (r + 1) j := fun j => by
      show (if j ≤ r then wy j else f2 j) = (if 0 ≤ j ∧ j < 0 + (r + 1) then f1 (0 + (j - 0)) else f2 j)
      by_cases z : j ≤ r
      · rw [if_pos z, if_pos (by omega), Nat.zero_add, Nat.sub_zero]; exact (hw j z).symm
      · rw [if_neg z, if_neg (by omega)]
    have g81 := h1.gs 0 h1.k0
    rw [Nat.add_zero] at g81
    have f79' := h2.f79
    have f80' := h2.f80
    have n1' := h2.n1
    have n2' := h2.n2
    have cp := cp_way (f1 := f1) (f2 := f2) hr
    have hf : (fun j => if j ≤ r then wy j else f2 j) = va_cpy f1 f2 0 0 (r + 1) := funext hcpy
    rw [if_pos rfl, hf]
    refine ⟨_, ?_, h3, (fr1.trans (Fr.stf h1.wy)).trans (Fr.sta h2.w2)⟩
    rcases hci with e | e <;> subst e
    · rw [if_pos rfl] at e1
      simp (disch := first | omega | (simp (disch := omega) only [nx_setf, nx_seta, nx_newo, nx_newa]; omega)) only [e_229, x_229_0, x_229_1, x_229_4, x_229_5, x_229_6, x_229_8, x_229_10, x_229_11, x_229_14, x_229_17, x_229_18, x_229_19, x_229_20, x_229_22, x_229_24, x_229_27, x_229_30, x_229_31, x_229_32, x_229_35, x_229_36, x_229_39, x_229_40, x_229_41, x_229_44, x_229_45, x_229_46, x_229_47, x_229_48, x_229_51, kv_s, ki_s, kj_s, kd_s, kq_s, kq_n, kq_o, ka_s, kc_r, kc_t, kc0_r, kc0_t, kch_r, kc0h_r, kw_s, kw0_s, kwh_s, kw0h_s, rg_ref, rg_null, rg_rf, ck_t, sel_some, lkn_hd, Option.isSome_some, Bool.true_and, Bool.and_true, okv_i, okv_l, okv_r, okv_n, okv_rf, okv_b, okv_0, okv_1, okv_f, okv_d, c1_i, c1_r, c1_n, c1_rf, c1_f, nI_add, n_mul, n_sub, n_pred, n_eq, n_le, n_lt, n_neN, n_Nne, N_lt, N_le, n_ltN, n_leN, rdI_n, rdJ_n, rdD_n, wrI_n, wrI_z0, wrI_z1, wrI_zb, wrJ_n, wrD_n, aln_s, okn_n, upd_is, upd_ne, Nat.add_zero, Nat.add_sub_cancel, decide_true, decide_false, cond_true, cond_false, if_true, if_false, ite_not, not_true_eq_false, not_false_eq_true, Nat.reduceEqDiff, Nat.reduceAdd, Nat.reduceMul, Nat.reduceSub, Nat.reduceLeDiff, f79, f78, n1, rd, hc, lk_a, e1, eq_self, g81, f79', f80', n1', n2', cp]
    · rw [if_neg (by decide)] at e1
      simp (disch := first | omega | (simp (disch := omega) only [nx_setf, nx_seta, nx_newo, nx_newa]; omega)) only [e_229, x_229_0, x_229_1, x_229_4, x_229_5, x_229_6, x_229_8, x_229_10, x_229_11, x_229_14, x_229_17, x_229_18, x_229_19, x_229_20, x_229_22, x_229_24, x_229_27, x_229_30, x_229_31, x_229_32, x_229_35, x_229_36, x_229_39, x_229_40, x_229_41, x_229_44, x_229_45, x_229_46, x_229_47, x_229_48, x_229_51, kv_s, ki_s, kj_s, kd_s, kq_s, kq_n, kq_o, ka_s, kc_r, kc_t, kc0_r, kc0_t, kch_r, kc0h_r, kw_s, kw0_s, kwh_s, kw0h_s, rg_ref, rg_null, rg_rf, ck_t, sel_some, lkn_hd, Option.isSome_some, Bool.true_and, Bool.and_true, okv_i, okv_l, okv_r, okv_n, okv_rf, okv_b, okv_0, okv_1, okv_f, okv_d, c1_i, c1_r, c1_n, c1_rf, c1_f, nI_add, n_mul, n_sub, n_pred, n_eq, n_le, n_lt, n_neN, n_Nne, N_lt, N_le, n_ltN, n_leN, rdI_n, rdJ_n, rdD_n, wrI_n, wrI_z0, wrI_z1, wrI_zb, wrJ_n, wrD_n, aln_s, okn_n, upd_is, upd_ne, Nat.add_zero, Nat.add_sub_cancel, decide_true, decide_false, cond_true, cond_false, if_true, if_false, ite_not, not_true_eq_false, not_false_eq_true, Nat.reduceEqDiff, Nat.reduceAdd, Nat.reduceMul, Nat.reduceSub, Nat.reduceLeDiff, f79, f78, n1, rd, hc, lk_a, e1, eq_self, g81, f79', f80', n1', n2', cp]
end
