/-! the component's trips: a trip begun, what it tells -/
theorem dv26_126 : dv26 126 = some (.int (nI 0)) := rfl
theorem dv26_127 : dv26 127 = some .null := rfl
theorem dv26_128 : dv26 128 = some .null := rfl
theorem dv26_129 : dv26 129 = some .null := rfl
theorem dv26_130 : dv26 130 = some (.int (nI 0)) := rfl
theorem dv26_131 : dv26 131 = some (.int (nI 0)) := rfl
theorem dv26_132 : dv26 132 = some (.int (nI 0)) := rfl
/-- an object whose fields from b on are n ints, whoever owns it -/
abbrev IV (A : Hp) (y ci b n : Nat) (f : Nat → Int32) : Prop := (gc A y = some ci) ∧ (∀ k, k < n → gf A y (b + k) = some (.int (f k)))
theorem IV.c {A : Hp} {y ci b n : Nat} {f : Nat → Int32} (hse1f : IV A y ci b n f) : gc A y = some ci := hse1f.1
theorem IV.fs {A : Hp} {y ci b n : Nat} {f : Nat → Int32} (hse1f : IV A y ci b n f) : ∀ k, k < n → gf A y (b + k) = some (.int (f k)) := hse1f.2
theorem ObI.iv {A : Hp} {w : Lb} {y l ci b n : Nat} {f : Nat → Int32} (h : ObI A w y l ci b n f) : IV A y ci b n f := ⟨h.c, h.fs⟩
/-- a trip's reads, a trip's gantries -/
def RlO (A : Hp) (w : Lb) (r l : Nat) (aO : Nat → Nat) (rs : List Nat) : Prop := WL A w r l rs.length (fun k => aO (rs.getD k 0))
def GlO (A : Hp) (w : Lb) (g l : Nat) (ps : List (Nat × Bool)) : Prop := ∃ gO, WL A w g l ps.length gO ∧ ∀ k, k < ps.length → InS A (gO k) (nI (ps.getD k (0, false)).1) ∧ w (gO k) = 0
abbrev TpO (A : Hp) (w : Lb) (y l e : Nat) (aO : Nat → Nat) (sz : Int32) (t : Tp) : Prop := (gc A y = some 26) ∧ (w y = l) ∧ (gf A y 126 = some (.int sz)) ∧ (∃ r, gf A y 127 = some (.ref r) ∧ RlO A w r (l + e) aO t.rs) ∧ (∃ g, gf A y 128 = some (.ref g) ∧ GlO A w g (l + 2 * e) t.ps) ∧ (gf A y 129 = some (.ref (aO t.la))) ∧ (gf A y 130 = some (.int (nI (misN t.ps)))) ∧ (gf A y 131 = some (.int t.to)) ∧ (gf A y 132 = some (.int t.co))
theorem TpO.c {A : Hp} {w : Lb} {y l e : Nat} {aO : Nat → Nat} {sz : Int32} {t : Tp} (hse1f : TpO A w y l e aO sz t) : gc A y = some 26 := hse1f.1
theorem TpO.wy {A : Hp} {w : Lb} {y l e : Nat} {aO : Nat → Nat} {sz : Int32} {t : Tp} (hse1f : TpO A w y l e aO sz t) : w y = l := hse1f.2.1
theorem TpO.f126 {A : Hp} {w : Lb} {y l e : Nat} {aO : Nat → Nat} {sz : Int32} {t : Tp} (hse1f : TpO A w y l e aO sz t) : gf A y 126 = some (.int sz) := hse1f.2.2.1
theorem TpO.rl {A : Hp} {w : Lb} {y l e : Nat} {aO : Nat → Nat} {sz : Int32} {t : Tp} (hse1f : TpO A w y l e aO sz t) : ∃ r, gf A y 127 = some (.ref r) ∧ RlO A w r (l + e) aO t.rs := hse1f.2.2.2.1
theorem TpO.gl {A : Hp} {w : Lb} {y l e : Nat} {aO : Nat → Nat} {sz : Int32} {t : Tp} (hse1f : TpO A w y l e aO sz t) : ∃ g, gf A y 128 = some (.ref g) ∧ GlO A w g (l + 2 * e) t.ps := hse1f.2.2.2.2.1
theorem TpO.f129 {A : Hp} {w : Lb} {y l e : Nat} {aO : Nat → Nat} {sz : Int32} {t : Tp} (hse1f : TpO A w y l e aO sz t) : gf A y 129 = some (.ref (aO t.la)) := hse1f.2.2.2.2.2.1
theorem TpO.f130 {A : Hp} {w : Lb} {y l e : Nat} {aO : Nat → Nat} {sz : Int32} {t : Tp} (hse1f : TpO A w y l e aO sz t) : gf A y 130 = some (.int (nI (misN t.ps))) := hse1f.2.2.2.2.2.2.1
theorem TpO.f131 {A : Hp} {w : Lb} {y l e : Nat} {aO : Nat → Nat} {sz : Int32} {t : Tp} (hse1f : TpO A w y l e aO sz t) : gf A y 131 = some (.int t.to) := hse1f.2.2.2.2.2.2.2.1
theorem TpO.f132 {A : Hp} {w : Lb} {y l e : Nat} {aO : Nat → Nat} {sz : Int32} {t : Tp} (hse1f : TpO A w y l e aO sz t) : gf A y 132 = some (.int t.co) := hse1f.2.2.2.2.2.2.2.2
section
variable {A A' : Hp} {w w' : Lb} {X : Nat → Prop} {y l ci b n c u d x k p : Nat} {r r' aO : Nat → Nat} {rs : List Nat} {ps : List (Nat × Bool)} {sz v : Int32} {t : Tp} {S f : Nat → Int32}
theorem IV.fr (h : IV A y ci b n f) (k : Fr A w A' w' X c u) (hl : ¬ X (w y)) : IV A' y ci b n f := ⟨k.cc h.c, fun j hj => k.fd hl (h.fs j hj)⟩
theorem WL.too (h : WL A w p l n r) (e : ∀ k, k < n → r' k = r k) : WL A w p l n r' := by
  obtain ⟨wp, a, ⟨h1, h2, h3, h4, ⟨cap, e', h5, h6, h7, h7a, h8⟩, h9⟩, wa, ne⟩ := h
  exact ⟨wp, a, ⟨h1, h2, h3, h4, ⟨cap, e', h5, h6, h7, h7a, fun i hi => by rw [e i hi]; exact h8 i hi⟩, h9⟩, wa, ne⟩
theorem RlO.fr (h : RlO A w p l aO rs) (k : Fr A w A' w' X c u) (hl : ¬ X l) : RlO A' w' p l aO rs := WL.fr h k hl
theorem GlO.fr (h : GlO A w p l ps) (k : Fr A w A' w' X c u) (hl : ¬ X l) (h0 : ¬ X 0) : GlO A' w' p l ps := by
  obtain ⟨gO, h1, h2⟩ := h
  refine ⟨gO, h1.fr k hl, fun j hj => ?_⟩
  obtain ⟨a, b⟩ := h2 j hj
  have hb : ¬ X (w (gO j)) := by rw [b]; exact h0
  exact ⟨a.fr k hb, by rw [k.lb hb a.k1.1]; exact b⟩
theorem TpO.fr {e : Nat} (h : TpO A w y l e aO sz t) (k : Fr A w A' w' X c u) (hl : ¬ X l) (hl1 : ¬ X (l + e)) (hl2 : ¬ X (l + 2 * e)) (h0 : ¬ X 0) : TpO A' w' y l e aO sz t := by
  obtain ⟨c1, wy, f126, ⟨r, r1, r2⟩, ⟨g, g1, g2⟩, f129, f130, f131, f132⟩ := h
  have hy : ¬ X (w y) := by rw [wy]; exact hl
  exact ⟨k.cc c1, by rw [k.lb hy (gc_lt c1)]; exact wy, k.fd hy f126, ⟨r, k.fd hy r1, r2.fr k hl1⟩, ⟨g, k.fd hy g1, g2.fr k hl2 h0⟩, k.fd hy f129, k.fd hy f130, k.fd hy f131, k.fd hy f132⟩
theorem RlO.add (h : RlO A w p l aO rs) (hn : rs.length < 10000) (hx : Kd A (aO x) ci) (hci : ci < 35) : ∃ A' w', evG TB (d + 7) 43 [.ref p, .ref (aO x)] A = some (.inl (some (.int (nI 1))), A') ∧ RlO A' w' p l aO (rs ++ [x]) ∧ Fr A w A' w' (fun z => z = l) 1 (2 * rs.length + 1) := by
  obtain ⟨A', w', e1, e2, e3⟩ := WL.add (d := d) h hn hx hci
  refine ⟨A', w', e1, ?_, e3⟩
  have hl : (rs ++ [x]).length = rs.length + 1 := by simp
  unfold RlO
  rw [hl]
  refine e2.too (fun k hk => ?_)
  by_cases z : k = rs.length
  · rw [updN_is z, z]; simp
  · rw [updN_ne z]
    have : k < rs.length := by omega
    simp [List.getD, List.getElem?_append, this]
theorem GlO.add {g : Nat} {bl : Bool} (h : GlO A w p l ps) (hn : ps.length < 10000) (hx : InS A x (nI g)) (wx : w x = 0) (h0 : 0 ≠ l) : ∃ A' w', evG TB (d + 7) 43 [.ref p, .ref x] A = some (.inl (some (.int (nI 1))), A') ∧ GlO A' w' p l (ps ++ [(g, bl)]) ∧ Fr A w A' w' (fun z => z = l) 1 (2 * ps.length + 1) := by
  obtain ⟨gO, h1, h2⟩ := h
  obtain ⟨A', w', e1, e2, e3⟩ := WL.add (d := d) h1 hn hx.k1 (by decide)
  have hl : (ps ++ [(g, bl)]).length = ps.length + 1 := by simp
  refine ⟨A', w', e1, ⟨updN gO ps.length x, by rw [hl]; exact e2, fun k hk => ?_⟩, e3⟩
  rw [hl] at hk
  by_cases z : k = ps.length
  · rw [updN_is z, z]
    have e : ((ps ++ [(g, bl)]).getD ps.length (0, false)).1 = g := by simp
    rw [e]
    exact ⟨hx.fr e3 (by rw [wx]; exact h0), by rw [e3.lb (by rw [wx]; exact h0) hx.k1.1]; exact wx⟩
  · rw [updN_ne z]
    have hk' : k < ps.length := by omega
    have e : (ps ++ [(g, bl)]).getD k (0, false) = ps.getD k (0, false) := by simp [List.getD, List.getElem?_append, hk']
    rw [e]
    obtain ⟨a, b⟩ := h2 k hk'
    exact ⟨a.fr e3 (by rw [b]; exact h0), by rw [e3.lb (by rw [b]; exact h0) a.k1.1]; exact b⟩
/-- a list laid and made -/
def nwH (A : Hp) : Hp := setf (newa (setf (newo A 3 3 dv3) (nx A) 18 (.int (nI 0))) (zar 5 4)) (nx A) 19 (.ref (nx A + 1))
theorem m_39n : evG TB (d + 3) 39 [.ref (nx A), .int (nI 4)] (newo A 3 3 dv3) = some (.inl none, nwH A) := by
  have e18 : gf (newo A 3 3 dv3) (nx A) 18 = some (.int (nI 0)) := gf_newo
  have e19 : gf (newo A 3 3 dv3) (nx A) 19 = some .null := gf_newo
  have e20 : gf (newo A 3 3 dv3) (nx A) 20 = some (.int (nI 0)) := gf_newo
  unfold nwH
  simp (disch := first | omega | (simp (disch := omega) only [nx_setf, nx_seta, nx_newo, nx_newa]; omega)) only [e_39, x_39_0, x_39_1, x_39_4, x_39_5, x_39_8, x_39_9, x_39_10, x_39_13, x_39_16, x_39_19, x_39_20, x_39_23, x_39_27, x_39_30, x_39_36, x_39_37, x_39_40, x_39_41, x_39_49, x_39_53, x_39_60, e_1, x_1_0, x_1_1, x_1_4, x_1_5, x_1_6, x_1_9, e_0, x_0_0, x_0_1, x_0_4, kv_s, ki_s, kj_s, kd_s, kq_s, kq_n, kq_o, ka_s, kc_r, kc_t, kc0_r, kc0_t, kch_r, kc0h_r, kw_s, kw0_s, kwh_s, kw0h_s, rg_ref, rg_null, rg_rf, ck_t, sel_some, lkn_hd, Option.isSome_some, Bool.true_and, Bool.and_true, okv_i, okv_l, okv_r, okv_n, okv_rf, okv_b, okv_0, okv_1, okv_f, okv_d, c1_i, c1_r, c1_n, c1_rf, c1_f, nI_add, n_mul, n_sub, n_pred, n_eq, n_le, n_lt, n_neN, n_Nne, N_lt, N_le, n_ltN, n_leN, rdI_n, rdJ_n, rdD_n, wrI_n, wrI_z0, wrI_z1, wrI_zb, wrJ_n, wrD_n, aln_s, okn_n, upd_is, upd_ne, Nat.add_zero, Nat.add_sub_cancel, decide_true, decide_false, cond_true, cond_false, if_true, if_false, ite_not, not_true_eq_false, not_false_eq_true, Nat.reduceEqDiff, Nat.reduceAdd, Nat.reduceMul, Nat.reduceSub, Nat.reduceLeDiff, gf_setf_ne, gf_setf_p, gf_setf_is, va_rf_s, va_rf_n, gf_seta, ga_setf, gc_setf, gc_seta, ga_seta_ne, ga_seta_eq, gf_new, gc_new, gf_newo_o, gc_newo_o, ga_newo_o, ga_new, gf_newa_o, gc_newa_o, ga_newa_o, nx_setf, nx_seta, nx_newo, nx_newa, su_setf, su_seta, su_newo, su_newa, sg_setf, sg_seta, sg_newo, sg_newa, okq_n, e18, e19, e20, nle (show 0 < 4 by decide), n_cl]
theorem nwH_fr : Fr A w (nwH A) (upL (upL w (nx A) l) (nx A + 1) l) X 2 7 := ((Fr.nwo.stn (Nat.le_refl _)).trans Fr.nwa).stn (Nat.le_refl _)
theorem nwH_nx : nx (nwH A) = nx A + 2 := rfl
theorem nwH_o : WL (nwH A) (upL (upL w (nx A) l) (nx A + 1) l) (nx A) l 0 r := by
  have c0 : gc (newo A 3 3 dv3) (nx A) = some 3 := gc_newo
  have e18 : gf (newo A 3 3 dv3) (nx A) 18 = some (.int (nI 0)) := gf_newo
  have e19 : gf (newo A 3 3 dv3) (nx A) 19 = some .null := gf_newo
  have e20 : gf (newo A 3 3 dv3) (nx A) 20 = some (.int (nI 0)) := gf_newo
  obtain ⟨A', e1, e2, e3⟩ := WL.new (d := 0) (w := upL w (nx A) l) c0 e18 e19 e20 (upL_is rfl)
  have e4 := (m_39n (A := A) (d := 0)).symm.trans e1
  have e5 : nwH A = A' := by
    have := Option.some.inj e4
    exact congrArg Prod.snd this
  rw [e5]
  exact e2.too (fun k hk => absurd hk (Nat.not_lt_zero _))
theorem nwH_gf {f : Nat} (h : p < nx A) : gf (nwH A) p f = gf A p f := by
  unfold nwH
  rw [gf_setf_p (by omega), gf_newa_o (by show p < nx A + 1; omega), gf_setf_p (by omega), gf_newo_o h]
theorem nwH_gc (h : p < nx A) : gc (nwH A) p = gc A p := by
  unfold nwH
  rw [gc_setf, gc_newa_o (by show p < nx A + 1; omega), gc_setf, gc_newo_o h]
theorem nwH_m {f : Nat} {v : Value} (h : p < nx A) : Fr (nwH A) w (setf (nwH A) p f v) w X 0 0 ∨ True := Or.inr trivial
/-- a trip laid, with its empty lists -/
def tpH (A : Hp) (sz : Int32) : Hp := setf (setf (nwH (setf (nwH (newo A 26 7 dv26)) (nx A) 127 (.ref (nx A + 1)))) (nx A) 128 (.ref (nx A + 3))) (nx A) 126 (.int sz)
def tpW (A : Hp) (w : Lb) (l : Nat) : Lb := upL (upL (upL (upL (upL w (nx A) l) (nx A + 1) (l + 1)) (nx A + 2) (l + 1)) (nx A + 3) (l + 2)) (nx A + 4) (l + 2)
theorem tpH_fr : Fr A w (tpH A sz) (tpW A w l) X 5 21 := by
  have f0 : Fr A w (newo A 26 7 dv26) (upL w (nx A) l) X 1 7 := Fr.nwo
  have f1 : Fr A w (setf (nwH (newo A 26 7 dv26)) (nx A) 127 (.ref (nx A + 1))) (upL (upL (upL w (nx A) l) (nx A + 1) (l + 1)) (nx A + 2) (l + 1)) X 3 14 := (f0.trans nwH_fr).stn (Nat.le_refl _)
  exact ((f1.trans nwH_fr).stn (Nat.le_refl _)).stn (Nat.le_refl _)
theorem tpH_w : tpW A w l (nx A) = l := by
  unfold tpW
  rw [upL_ne (by omega), upL_ne (by omega), upL_ne (by omega), upL_ne (by omega)]
  exact upL_is rfl
/-- an empty list stays one while another object's fields change -/
theorem WL.set0 {q f : Nat} {v : Value} (h : WL A w p l 0 r) (hf : f ≠ 18 ∧ f ≠ 19 ∧ f ≠ 20) : WL (setf A q f v) w p l 0 r := by
  obtain ⟨wp, a, ⟨c1, h1, h2, h3, ⟨cap, e', h5, h6, h7, h7a, h8⟩, h9⟩, wa, ne⟩ := h
  exact ⟨wp, a, ⟨c1, (gf_setf_ne (Ne.symm hf.1)).trans h1, (gf_setf_ne (Ne.symm hf.2.1)).trans h2, (gf_setf_ne (Ne.symm hf.2.2)).trans h3, ⟨cap, e', h5, h6, h7, h7a, fun i hi => absurd hi (Nat.not_lt_zero _)⟩, h9⟩, wa, ne⟩
theorem tpH_1 : WL (tpH A sz) (tpW A w l) (nx A + 1) (l + 1) 0 r := by
  have l1 : WL (nwH (newo A 26 7 dv26)) (upL (upL (upL w (nx A) l) (nx A + 1) (l + 1)) (nx A + 2) (l + 1)) (nx A + 1) (l + 1) 0 r := nwH_o
  have l2 := l1.set0 (q := nx A) (f := 127) (v := .ref (nx A + 1)) (by decide)
  have fr : Fr (setf (nwH (newo A 26 7 dv26)) (nx A) 127 (.ref (nx A + 1))) (upL (upL (upL w (nx A) l) (nx A + 1) (l + 1)) (nx A + 2) (l + 1)) (nwH (setf (nwH (newo A 26 7 dv26)) (nx A) 127 (.ref (nx A + 1)))) (tpW A w l) (fun _ => False) 2 7 := nwH_fr
  exact ((l2.fr fr (fun z => z)).set0 (by decide)).set0 (by decide)
theorem tpH_2 : WL (tpH A sz) (tpW A w l) (nx A + 3) (l + 2) 0 r := by
  have l1 : WL (nwH (setf (nwH (newo A 26 7 dv26)) (nx A) 127 (.ref (nx A + 1)))) (tpW A w l) (nx A + 3) (l + 2) 0 r := nwH_o
  exact (l1.set0 (by decide)).set0 (by decide)
theorem tpH_c : gc (tpH A sz) (nx A) = some 26 := by
  unfold tpH
  rw [gc_setf, gc_setf, nwH_gc (by show nx A < nx A + 1 + 2; omega), gc_setf, nwH_gc (by show nx A < nx A + 1; omega)]
  exact gc_newo
theorem tpH_o {g : Nat} (hg : g ≠ 126 ∧ g ≠ 127 ∧ g ≠ 128) : gf (tpH A sz) (nx A) g = dv26 g := by
  unfold tpH
  rw [gf_setf_ne hg.1, gf_setf_ne hg.2.2, nwH_gf (by show nx A < nx A + 1 + 2; omega), gf_setf_ne hg.2.1, nwH_gf (by show nx A < nx A + 1; omega)]
  exact gf_newo
theorem tpH_6 : gf (tpH A sz) (nx A) 126 = some (.int sz) := gf_setf_is (by show nx A < nx A + 1 + 2 + 2; omega)
theorem tpH_7 : gf (tpH A sz) (nx A) 127 = some (.ref (nx A + 1)) := by
  unfold tpH
  rw [gf_setf_ne (by decide), gf_setf_ne (by decide), nwH_gf (by show nx A < nx A + 1 + 2; omega)]
  exact gf_setf_is (by show nx A < nx A + 1 + 2; omega)
theorem tpH_8 : gf (tpH A sz) (nx A) 128 = some (.ref (nx A + 3)) := by
  unfold tpH
  rw [gf_setf_ne (by decide)]
  exact gf_setf_is (by show nx A < nx A + 1 + 2 + 2; omega)
/-- a trip begun -/
theorem m_243 {g g0 lb : Nat} (st : St A w g0) (h0 : 0 < l) (rd : ObI A w (aO x) lb 17 89 8 f) (hlb : lb < l) (hg : f 1 = nI g) (hg2 : g < 2147483648) (ht : tpN S x = ⟨[x], [(g, false)], x, nI 0, nI 0⟩) :
    ∃ A' w', evG TB (d + 9) 243 [.ref (nx A), .ref (aO x), .int sz] (newo A 26 7 dv26) = some (.inl none, A') ∧ TpO A' w' (nx A) l 1 aO sz (tpN S x) ∧ Fr A w A' w' (fun z => z = l ∨ z = l + 1 ∨ z = l + 2) 8 24 := by
  have n0 : nx (newo A 26 7 dv26) = nx A + 1 := rfl
  have nB : nx (setf (nwH (newo A 26 7 dv26)) (nx A) 127 (.ref (nx A + 1))) = nx A + 3 := rfl
  have q1 : evG TB (d + 8) 39 [.ref (nx A + 1), .int (nI 4)] (newo (newo A 26 7 dv26) 3 3 dv3) = some (.inl none, nwH (newo A 26 7 dv26)) := m_39n (A := newo A 26 7 dv26)
  have q2 : evG TB (d + 8) 39 [.ref (nx A + 3), .int (nI 4)] (newo (setf (nwH (newo A 26 7 dv26)) (nx A) 127 (.ref (nx A + 1))) 3 3 dv3) = some (.inl none, nwH (setf (nwH (newo A 26 7 dv26)) (nx A) 127 (.ref (nx A + 1)))) := m_39n (A := setf (nwH (newo A 26 7 dv26)) (nx A) 127 (.ref (nx A + 1)))
  have g127 : gf (nwH (newo A 26 7 dv26)) (nx A) 127 = some .null := (nwH_gf (by rw [n0]; omega)).trans gf_newo
  have g128 : gf (nwH (setf (nwH (newo A 26 7 dv26)) (nx A) 127 (.ref (nx A + 1)))) (nx A) 128 = some .null := by
    rw [nwH_gf (by rw [nB]; omega), gf_setf_ne (by decide), nwH_gf (by rw [n0]; omega)]
    exact gf_newo
  have g126 : gf (setf (nwH (setf (nwH (newo A 26 7 dv26)) (nx A) 127 (.ref (nx A + 1)))) (nx A) 128 (.ref (nx A + 3))) (nx A) 126 = some (.int (nI 0)) := by
    rw [gf_setf_ne (by decide), nwH_gf (by rw [nB]; omega), gf_setf_ne (by decide), nwH_gf (by rw [n0]; omega)]
    exact gf_newo
  have nx1 : nx (nwH (newo A 26 7 dv26)) = nx A + 1 + 2 := rfl
  have hC : setf (setf (nwH (setf (nwH (newo A 26 7 dv26)) (nx A) 127 (.ref (nx A + 1)))) (nx A) 128 (.ref (nx A + 3))) (nx A) 126 (.int sz) = tpH A sz := rfl
  have f2 : ∀ X, Fr A w (tpH A sz) (tpW A w l) X 5 21 := fun X => tpH_fr
  have fF := f2 (fun _ => False)
  have rdc := rd.fr fF (fun z => z)
  have hlb1 : ¬ lb = l + 1 := by omega
  have hlb2 : ¬ lb = l + 2 := by omega
  have h01 : ¬ 0 = l + 1 := by omega
  have h02 : ¬ 0 = l + 2 := by omega
  have hl1 : ¬ l = l + 1 := by omega
  have hl2 : ¬ l = l + 2 := by omega
  have h12 : ¬ l + 1 = l + 2 := by omega
  have h21 : ¬ l + 2 = l + 1 := by omega
  obtain ⟨A3, w3, e3, r3, f3⟩ := RlO.add (d := d + 1) (x := x) (rs := []) (tpH_1 : RlO (tpH A sz) (tpW A w l) (nx A + 1) (l + 1) aO []) (by decide) (Kd.of rdc.c) (by decide)
  have gl2 : GlO (tpH A sz) (tpW A w l) (nx A + 3) (l + 2) [] := ⟨fun _ => 0, tpH_2, fun k hk => absurd hk (Nat.not_lt_zero _)⟩
  have gl3 := gl2.fr f3 h21 h01
  have st3 := (st.fr fF (fun z => z)).fr f3 h01
  have rd3 := rdc.fr f3 hlb1
  obtain ⟨A4, y, e4, i4, wy4, f4⟩ := m_25 (d := d + 5) st3 hg2
  have gl4 := gl3.fr (f4 (fun _ => False)) (fun z => z) (fun z => z)
  have r4 := r3.fr (f4 (fun _ => False)) (fun z => z)
  obtain ⟨A5, w5, e5, r5, f5⟩ := GlO.add (d := d + 1) (g := g) (bl := false) gl4 (by decide) i4 wy4 h02
  have rl5 := r4.fr f5 h12
  -- the trip's own fields
  have t3 : ∀ {g v}, gf (tpH A sz) (nx A) g = some v → gf A3 (nx A) g = some v := fun h => f3.fd (by rw [tpH_w]; exact hl1) h
  have wt3 : w3 (nx A) = l := by rw [f3.lb (by rw [tpH_w]; exact hl1) (gc_lt tpH_c)]; exact tpH_w
  have lt3 : nx A < nx A3 := Nat.lt_of_lt_of_le (gc_lt tpH_c) f3.n1
  have t4 : ∀ {g v}, gf A3 (nx A) g = some v → gf A4 (nx A) g = some v := fun h => (f4 (fun _ => False)).fd (fun z => z) h
  have wt4 : upL w3 (nx A3) 0 (nx A) = l := by rw [upL_ne (by omega)]; exact wt3
  have lt4 : nx A < nx A4 := Nat.lt_of_lt_of_le lt3 (f4 (fun _ => False)).n1
  have t5 : ∀ {g v}, gf A4 (nx A) g = some v → gf A5 (nx A) g = some v := fun h => f5.fd (by rw [wt4]; exact hl2) h
  have wt5 : w5 (nx A) = l := by rw [f5.lb (by rw [wt4]; exact hl2) lt4]; exact wt4
  have lt5 : nx A < nx A5 := Nat.lt_of_lt_of_le lt4 f5.n1
  have c5 : gc A5 (nx A) = some 26 := f5.cc ((f4 (fun _ => False)).cc (f3.cc tpH_c))
  have f6 : Fr A5 w5 (setf A5 (nx A) 129 (.ref (aO x))) w5 (fun z => z = l) 0 0 := Fr.stf wt5
  refine ⟨setf A5 (nx A) 129 (.ref (aO x)), w5, ?_, ?_, ?_⟩
  · have c127 := tpH_7 (A := A) (sz := sz)
    have a128 := t3 (tpH_8 (A := A) (sz := sz))
    have a129 := t5 (t4 (t3 ((tpH_o (A := A) (sz := sz) (g := 129) (by decide)).trans dv26_129)))
    have lc1 := (tpH_1 (A := A) (w := w) (l := l) (sz := sz) (r := fun _ => 0)).kc
    obtain ⟨gO, gw, _⟩ := gl4
    have lc2 := gw.kc
    obtain ⟨gO3, gw3, _⟩ := gl3
    have lc3 := gw3.kc
    have x90 : gf A3 (aO x) 90 = some (.int (nI g)) := by rw [← hg]; exact rd3.fs 1 (by decide)
    simp (disch := first | omega | (simp (disch := omega) only [nx_setf, nx_seta, nx_newo, nx_newa]; omega)) only [e_243, x_243_0, x_243_1, x_243_4, x_243_5, x_243_8, x_243_9, x_243_10, x_243_13, x_243_16, x_243_17, x_243_20, x_243_21, x_243_22, x_243_25, x_243_28, x_243_29, x_243_30, x_243_33, x_243_34, x_243_37, x_243_38, x_243_41, x_243_42, x_243_43, x_243_46, x_243_47, x_243_50, x_243_53, x_243_56, x_243_57, x_243_58, x_243_59, x_243_62, kv_s, ki_s, kj_s, kd_s, kq_s, kq_n, kq_o, ka_s, kc_r, kc_t, kc0_r, kc0_t, kch_r, kc0h_r, kw_s, kw0_s, kwh_s, kw0h_s, rg_ref, rg_null, rg_rf, ck_t, sel_some, lkn_hd, Option.isSome_some, Bool.true_and, Bool.and_true, okv_i, okv_l, okv_r, okv_n, okv_rf, okv_b, okv_0, okv_1, okv_f, okv_d, c1_i, c1_r, c1_n, c1_rf, c1_f, nI_add, n_mul, n_sub, n_pred, n_eq, n_le, n_lt, n_neN, n_Nne, N_lt, N_le, n_ltN, n_leN, rdI_n, rdJ_n, rdD_n, wrI_n, wrI_z0, wrI_z1, wrI_zb, wrJ_n, wrD_n, aln_s, okn_n, upd_is, upd_ne, Nat.add_zero, Nat.add_sub_cancel, decide_true, decide_false, cond_true, cond_false, if_true, if_false, ite_not, not_true_eq_false, not_false_eq_true, Nat.reduceEqDiff, Nat.reduceAdd, Nat.reduceMul, Nat.reduceSub, Nat.reduceLeDiff, q1, q2, g127, g128, g126, nx_newo, nx_setf, nx1, hC, c127, lc1, e3, a128, x90, e4, lc2, e5, a129]
  · rw [ht]
    refine ⟨c5, wt5, ?_, ⟨nx A + 1, ?_, rl5.fr f6 (by omega)⟩, ⟨nx A + 3, ?_, r5.fr f6 (by omega) (by omega)⟩, gf_setf_is lt5, ?_, ?_, ?_⟩
    · rw [gf_setf_ne (by decide)]; exact t5 (t4 (t3 tpH_6))
    · rw [gf_setf_ne (by decide)]; exact t5 (t4 (t3 tpH_7))
    · rw [gf_setf_ne (by decide)]; exact t5 (t4 (t3 tpH_8))
    · rw [gf_setf_ne (by decide)]; exact t5 (t4 (t3 ((tpH_o (by decide)).trans dv26_130)))
    · rw [gf_setf_ne (by decide)]; exact t5 (t4 (t3 ((tpH_o (by decide)).trans dv26_131)))
    · rw [gf_setf_ne (by decide)]; exact t5 (t4 (t3 ((tpH_o (by decide)).trans dv26_132)))
  · exact (((((f2 _).trans (f3.mono (fun l h => Or.inr (Or.inl h)) (Nat.le_refl _) (Nat.le_refl _))).trans (f4 _)).trans (f5.mono (fun l h => Or.inr (Or.inr h)) (Nat.le_refl _) (Nat.le_refl _))).trans (f6.mono (fun l h => Or.inl h) (Nat.le_refl _) (Nat.le_refl _))).mono (fun _ h => h) (by decide) (by decide)
end
