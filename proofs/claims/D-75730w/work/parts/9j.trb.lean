/-! the component's World.trips: the trips are laid -/
section
variable {A A' B : Hp} {w w' wB : Lb} {X : Nat → Prop} {y e ci b n c u d x k p q s a v bl mk g0 G D R rr m r i L it V N tp : Nat} {aO rO vO tO : Nat → Nat} {l : List Nat} {t : Tp} {S f : Nat → Int32} {vv nv : Value} {w0 : Int32} {T : Nat → Tp}
/-- a new trip -/
theorem m_264n (hb : 0 < b) (ok : LyOK S G D R) (o : WO A w b p q s a v r bl mk w0) (hr : WRd A w b r R rO S) (hv : WVh A w b v V vO S) (st : St A w g0) (hL : 1000 * b + 1000 < L) (hi : i < V) (hx : x < R)
    (fr : Fr A w B wB (fun z => z = 7 ∨ L ≤ z) c u) (wl : WL B wB tp (L + 1) N tO) (hN : N < 1000) {j3 j4 j5 : Option Value} :
    ∃ B' wB', exG TB (d + 14) 264 149 [some (.ref p), some (.int (nI i)), j3, some (.ref tp), j4, j5, some (.ref (rO x))] [] B = exG TB (d + 14) 264 104 [some (.ref p), some (.int (nI i)), j3, some (.ref tp), some (.ref (nx B)), j5, some (.ref (rO x))] [] B' ∧ Fr B wB B' wB' (fun z => z = L + 1 ∨ z = L + 3 + 3 * N ∨ z = L + 3 + 3 * N + 1 ∨ z = L + 3 + 3 * N + 2) 9 (25 + 2 * N) ∧ WL B' wB' tp (L + 1) (N + 1) (updN tO N (nx B)) ∧ TpO B' wB' (nx B) (L + 3 + 3 * N) 1 rO (S (235 + 3 * i)) (tpN S x) := by
  have R120 := ok.R120
  have f0 : ∀ X, Fr B wB (newo B 26 7 dv26) (upL wB (nx B) 0) X 1 7 := fun X => Fr.nwo
  have fr0 := fr.trans (f0 (fun z => z = 7 ∨ L ≤ z))
  have hv0 := hv.fr fr0 (by omega) (fun j hj => by omega)
  have o0 := o.fr fr0 (by omega)
  have hrB := hr.fr fr (by omega) (by omega) (fun j hj => by omega)
  have stB := st.fr fr (by omega)
  have f10 := o0.f10
  have lc := hv0.l.kc
  have q47 := hv0.l.get (d := d + 11) hi
  have vo := hv0.o i hi
  have c13 : cin (gcs (newo B 26 7 dv26) (vO i)) [13] = true := by rw [gcs_d vo.c]; rfl
  have f69 : gf (newo B 26 7 dv26) (vO i) 69 = some (.int (S (235 + 3 * i))) := vo.fs 0 (by decide)
  obtain ⟨gx, lgx, egx⟩ := ok.g x hx
  have G12 := ok.net.G12
  have hgx : gN S x = gx := by unfold gN; rw [egx]; exact n_cl (by omega)
  have rd := hrB.o x hx
  have llt := rlb_lt (S := S) hL (show x < 120 by omega)
  obtain ⟨A1, w1, e1, t1, f1⟩ := m_243 (d := d + 5) (l := L + 3 + 3 * N) (sz := S (235 + 3 * i)) (aO := rO) (x := x) stB (by omega) rd (by omega) (g := gN S x) (by show S (280 + 7 * x + 1) = _; rw [hgx]; exact egx) (by rw [hgx]; omega) rfl
  have wl1 := wl.fr f1 (by omega)
  obtain ⟨A2, w2, e2, wl2, f2⟩ := wl1.add (d := d + 7) (by omega) (Kd.of t1.c) (by decide)
  have t2 := t1.fr f2 (by omega) (by omega) (by omega) (by omega)
  have lc1 := wl1.kc
  refine ⟨A2, w2, ?_, ((f1.mono (fun z h => Or.inr h) (Nat.le_refl _) (Nat.le_refl _)).trans (f2.mono (fun z h => Or.inl h) (Nat.le_refl _) (Nat.le_refl _))).mono (fun _ h => h) (by omega) (by omega), wl2, t2⟩
  simp (disch := first | omega | (simp (disch := omega) only [nx_setf, nx_seta, nx_newo, nx_newa]; omega)) only [x_264_149, x_264_152, x_264_153, x_264_155, x_264_156, x_264_159, x_264_160, x_264_163n, x_264_163r, x_264_166, x_264_169, x_264_172, x_264_174, x_264_175, x_264_177, x_264_180, x_264_181, kv_s, ki_s, kj_s, kd_s, kq_s, kq_n, kq_o, ka_s, kc_r, kc_t, kc0_r, kc0_t, kch_r, kc0h_r, kw_s, kw0_s, kwh_s, kw0h_s, rg_ref, rg_null, rg_rf, ck_t, sel_some, lkn_hd, Option.isSome_some, Bool.true_and, Bool.and_true, okv_i, okv_l, okv_r, okv_n, okv_rf, okv_b, okv_0, okv_1, okv_f, okv_d, c1_i, c1_r, c1_n, c1_rf, c1_f, nI_add, n_mul, n_sub, n_pred, n_eq, n_le, n_lt, n_neN, n_Nne, N_lt, N_le, n_ltN, n_leN, rdI_n, rdJ_n, rdD_n, wrI_n, wrI_z0, wrI_z1, wrI_zb, wrJ_n, wrD_n, aln_s, okn_n, upd_is, upd_ne, Nat.add_zero, Nat.add_sub_cancel, decide_true, decide_false, cond_true, cond_false, if_true, if_false, ite_not, not_true_eq_false, not_false_eq_true, Nat.reduceEqDiff, Nat.reduceAdd, Nat.reduceMul, Nat.reduceSub, Nat.reduceLeDiff, f10, lc, q47, c13, ckT, f69, e1, lc1, e2]
/-- the bounds of trips laid of a part of the order -/
theorem lay_b (ok : LyOK S G D R) {oa : List Nat} (ho : ∀ x, x ∈ oa → x < R) (hs : SrtT S oa) : (lay S G D oa).1 ≤ oa.length ∧ ∀ n, n < (lay S G D oa).1 → TpI S G oa ((lay S G D oa).2 n) ∧ ((lay S G D oa).2 n).rs.length ≤ oa.length := by
  have ti := lay_ok ok ho hs
  have rs := lay_rS (S := S) (G := G) (D := D) oa.length oa rfl
  refine ⟨?_, fun n hn => ⟨ti n hn, ?_⟩⟩
  · have key : ∀ n, n ≤ (lay S G D oa).1 → n ≤ rS (lay S G D oa).2 n := by
      intro n
      induction n with
      | zero => intro _; exact Nat.zero_le _
      | succ n ih =>
        intro hn
        have h1 := ih (by omega)
        have h2 := (ti n (by omega)).len
        show n + 1 ≤ rS (lay S G D oa).2 n + ((lay S G D oa).2 n).rs.length
        omega
    have := key _ (Nat.le_refl _)
    omega
  · have := rS_lt (T := (lay S G D oa).2) hn
    omega
end
