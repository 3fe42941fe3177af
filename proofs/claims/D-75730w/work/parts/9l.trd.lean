/-! the component's World.trips, whole -/
theorem dv20_30 : dv20 30 = some .null := rfl
theorem dv20_103 : dv20 103 = some .null := rfl
def rlW (L : Nat) (w : Lb) : Lb := fun q => if L ≤ w q then 0 else w q
section
variable {A A' B : Hp} {w w' : Lb} {X : Nat → Prop} {y l e ci b n d c u x k p q s a v bl mk g0 G D R rr m r i L it V tp : Nat} {aO rO vO : Nat → Nat} {es ord : List Nat} {ps : List (Nat × Bool)} {t : Tp} {S f : Nat → Int32} {vv nv : Value} {w0 sz : Int32} {ky kA vl : Nat → Nat} {mc : Nat}
theorem rlW_p {z : Nat} (h : L ≤ w z) : rlW L w z = 0 := if_pos h
theorem rlW_0 {z : Nat} (h : w z = 0) : rlW L w z = 0 := by unfold rlW; rw [h]; split <;> rfl
theorem WL.rl (h : WL A w p l n aO) (hl : L ≤ l) : WL A (rlW L w) p 0 n aO := by
  obtain ⟨wp, a, h1, h2, h3⟩ := h
  exact ⟨rlW_p (by rw [wp]; exact hl), a, h1, rlW_p (by rw [h2]; exact hl), h3⟩
theorem GlO.rl (h : GlO A w p l ps) (hl : L ≤ l) : GlO A (rlW L w) p 0 ps := by
  obtain ⟨gO, h1, h2⟩ := h
  exact ⟨gO, h1.rl hl, fun k hk => ⟨(h2 k hk).1, rlW_0 (h2 k hk).2⟩⟩
theorem TpO.rll (h : TpO A w y l e aO sz t) (hl : L ≤ l) : TpO A (rlW L w) y 0 0 aO sz t := by
  obtain ⟨c1, wy, f126, ⟨r, r1, r2⟩, ⟨g, g1, g2⟩, f129, f130, f131, f132⟩ := h
  exact ⟨c1, rlW_p (by rw [wy]; exact hl), f126, ⟨r, r1, WL.rl r2 (Nat.le_trans hl (Nat.le_add_right _ _))⟩, ⟨g, g1, g2.rl (Nat.le_trans hl (Nat.le_add_right _ _))⟩, f129, f130, f131, f132⟩
theorem Fr.rl (h : Fr A w A' w' (fun z => z = 7 ∨ L ≤ z) c u) (hL : ∀ q, q < nx A → w q < L) (hX : X 7) : Fr A w A' (rlW L w') X c u := by
  obtain ⟨a1, a2, a3, a4, a5, a6, a7⟩ := h
  refine ⟨a1, a2, a3, a4, a5, a6, fun q hq hx => ?_⟩
  have h1 := hL q hq
  have h2 : ¬ (w q = 7 ∨ L ≤ w q) := fun z => z.elim (fun z => hx (z ▸ hX)) (fun z => absurd h1 (Nat.not_lt.mpr z))
  obtain ⟨b1, b2, b3⟩ := a7 q hq h2
  refine ⟨?_, b2, b3⟩
  unfold rlW
  rw [b1, if_neg (Nat.not_le.mpr h1)]
theorem m_264 (hb : 0 < b) (ok : LyOK S G D R) (o : WO A w b p q s a v r bl mk w0) (nt : WNt A w b q S) (ws : WSt A w b s S) (hr : WRd A w b r R rO S) (hv : WVh A w b v V vO S) (st : St A w g0) (hi : i < V) :
    ∃ A' w' tp tO, evG TB (d + 15) 264 [.ref p, .int (nI i)] A = some (.inl (some (.ref tp)), A') ∧ WL A' w' tp 0 (tps S G D R (nI i)).1 tO ∧ (∀ n, n < (tps S G D R (nI i)).1 → TpO A' w' (tO n) 0 0 rO (S (235 + 3 * i)) ((tps S G D R (nI i)).2 n)) ∧ ∀ X, X 7 → Fr A w A' w' X (6 + 27 * R) (25 + 7 * R + R * (155 + 76 * R)) := by
  have R120 := ok.R120
  obtain ⟨L, hL, fL⟩ := fresh w (1000 * b + 1000) (nx A)
  have L7 : 7 < L := by omega
  have L0 : 0 < L := by omega
  -- the map
  have f0 : ∀ X, Fr A w (newo A 20 9 dv20) (upL w (nx A) L) X 1 9 := fun X => Fr.nwo
  obtain ⟨A1, e54, tm1, f1⟩ := m_54 (A := newo A 20 9 dv20) (w := upL w (nx A) L) (m := nx A) (lb := L) (d := d + 11) (ky := fun _ => 0) (kA := fun _ => 0) (vl := fun _ => 0) gc_newo (gf_newo.trans dv20_30) (by rw [gf_newo]; rfl) (gf_newo.trans dv20_103) (by rw [gf_newo]; rfl) (by rw [gf_newo]; rfl) (upL_is rfl) (by omega)
  have fr1 : Fr A w A1 (upL w (nx A) L) (fun z => z = 7 ∨ z = L) 1 9 := ((f0 _).trans (f1.mono (fun z h => Or.inr h) (Nat.le_refl _) (Nat.le_refl _))).mono (fun _ h => h) (by omega) (by omega)
  have o1 := o.fr fr1 (by omega)
  have hr1 := hr.fr fr1 (by omega) (by omega) (fun j hj => by omega)
  have f11 := o1.f11
  have lc := hr1.l.kc
  obtain ⟨ar, al, war, _⟩ := hr1.l.als
  obtain ⟨A2, e40, is2, f2⟩ := m_40 (d := d + 11) al (upL w (nx A) L) 7
  have fr2 := fr1.trans (f2 (fun z => z = 7 ∨ z = L))
  have tm2 : TmO A2 (upL (upL w (nx A) L) (nx A1) 7) (nx A) L rO S (ordL S (nI i) 0) .null := ⟨[], _, _, _, tm1.fr (f2 (fun _ => False)) (fun z => z) (fun z => z), rfl⟩
  have lr := gc_lt hr1.l.kc
  obtain ⟨o', B, wB, e3, fr3, tm3⟩ := m_264a (d := d) (p := p) (vi := nI i) hb ok hr st hL (Nat.ne_of_gt lr) R 0 A2 _ none _ _ (Nat.zero_add _) fr2 is2 (upL_is rfl) tm2
  -- the list of trips
  have f4 : ∀ X, Fr B wB (nwH B) (upL (upL wB (nx B) (L + 1)) (nx B + 1) (L + 1)) X 2 7 := fun X => nwH_fr
  have wl4 : WL (nwH B) (upL (upL wB (nx B) (L + 1)) (nx B + 1) (L + 1)) (nx B) (L + 1) 0 (fun _ => 0) := nwH_o
  obtain ⟨es, ky, kA, vl, tmB, hmap⟩ := tm3
  have tm4 := tmB.fr (f4 (fun _ => False)) (fun z => z) (fun z => z)
  have q39 : evG TB (d + 14) 39 [.ref (nx B), .int (nI 4)] (newo B 3 3 dv3) = some (.inl none, nwH B) := m_39n (d := d + 11)
  obtain ⟨A5, vs, e68, c23, g116, tm5, f5⟩ := m_68 (d := d + 10) tm4
  have wl5 := wl4.fr f5 (by omega)
  obtain ⟨A6, it, e85, ti6, hit, f6⟩ := m_85 (d := d + 10) tm5 c23 g116 (L + 2)
  have wl6 := wl5.fr (f6 (fun _ => False)) (fun z => z)
  have tm6 := tm5.fr (f6 (fun _ => False)) (fun z => z) (fun z => z)
  have fr6 : Fr A w A6 (upL (upL (upL (upL wB (nx B) (L + 1)) (nx B + 1) (L + 1)) (nx (nwH B)) L) (nx A5) (L + 2)) (fun z => z = 7 ∨ L ≤ z) (6 + 2 * R) (25 + 7 * R) := ((((fr3.mono (fun z h => h.elim Or.inl (fun h => Or.inr (Nat.le_of_eq h.symm))) (Nat.le_refl _) (Nat.le_refl _)).trans (f4 _)).trans (f5.mono (fun z h => Or.inr (Nat.le_of_eq h.symm)) (Nat.le_refl _) (Nat.le_refl _))).trans (f6 _)).mono (fun _ h => h) (by omega) (by omega)
  have om := ordL_ok' S (nI i) R
  have hmap2 : es.map vl = (ordL S (nI i) R).map rO := by
    have := congrArg (List.map Prod.fst) hmap
    rw [List.map_map, List.map_map] at this
    exact this
  obtain ⟨B7, w7, tO, e7, fr7, wl7, tt7⟩ := m_264b (d := d) (L := L) (m := nx A) (tp := nx B) (it := it) (ky := ky) (kA := kA) (vl := vl) (es := es) (ord := ordL S (nI i) R) (vv := .ref vs) (mc := es.length) hb ok o nt ws hr hv st hL hi (fun x hx => ((om.mem x).mp hx).1) om.srt om.len (ordL S (nI i) R) [] [] es A6 _ (fun _ => 0) none _ _ rfl rfl hmap2 fr6 tm6 ti6 (by rw [hit]; exact upL_is rfl) wl6 (fun n hn => absurd hn (Nat.not_lt_zero _))
  refine ⟨B7, rlW L w7, nx B, tO, ?_, wl7.rl (Nat.le_add_right _ _), fun n hn => (tt7 n hn).rll (by rw [Nat.add_assoc]; exact Nat.le_add_right _ _), fun X hX => ?_⟩
  · have c20 := tmB.c
    have c20' := tm4.c
    have ev : trV (lay S G D []).1 (fun _ => 0) = .null := rfl
    rw [ev] at e7
    simp (disch := first | omega | (simp (disch := omega) only [nx_setf, nx_seta, nx_newo, nx_newa]; omega)) only [e_264, x_264_0, x_264_3, x_264_4, x_264_7, x_264_8, x_264_9, x_264_12, x_264_15, kv_s, ki_s, kj_s, kd_s, kq_s, kq_n, kq_o, ka_s, kc_r, kc_t, kc0_r, kc0_t, kch_r, kc0h_r, kw_s, kw0_s, kwh_s, kw0h_s, rg_ref, rg_null, rg_rf, ck_t, sel_some, lkn_hd, Option.isSome_some, Bool.true_and, Bool.and_true, okv_i, okv_l, okv_r, okv_n, okv_rf, okv_b, okv_0, okv_1, okv_f, okv_d, c1_i, c1_r, c1_n, c1_rf, c1_f, nI_add, n_mul, n_sub, n_pred, n_eq, n_le, n_lt, n_neN, n_Nne, N_lt, N_le, n_ltN, n_leN, rdI_n, rdJ_n, rdD_n, wrI_n, wrI_z0, wrI_z1, wrI_zb, wrJ_n, wrD_n, aln_s, okn_n, upd_is, upd_ne, Nat.add_zero, Nat.add_sub_cancel, decide_true, decide_false, cond_true, cond_false, if_true, if_false, ite_not, not_true_eq_false, not_false_eq_true, Nat.reduceEqDiff, Nat.reduceAdd, Nat.reduceMul, Nat.reduceSub, Nat.reduceLeDiff, e54, f11, lc, e40]
    refine e3.trans ?_
    simp (disch := first | omega | (simp (disch := omega) only [nx_setf, nx_seta, nx_newo, nx_newa]; omega)) only [x_264_81, x_264_84, x_264_85, x_264_86, x_264_89, x_264_90, x_264_91, x_264_93, x_264_94, x_264_97, x_264_102, kv_s, ki_s, kj_s, kd_s, kq_s, kq_n, kq_o, ka_s, kc_r, kc_t, kc0_r, kc0_t, kch_r, kc0h_r, kw_s, kw0_s, kwh_s, kw0h_s, rg_ref, rg_null, rg_rf, ck_t, sel_some, lkn_hd, Option.isSome_some, Bool.true_and, Bool.and_true, okv_i, okv_l, okv_r, okv_n, okv_rf, okv_b, okv_0, okv_1, okv_f, okv_d, c1_i, c1_r, c1_n, c1_rf, c1_f, nI_add, n_mul, n_sub, n_pred, n_eq, n_le, n_lt, n_neN, n_Nne, N_lt, N_le, n_ltN, n_leN, rdI_n, rdJ_n, rdD_n, wrI_n, wrI_z0, wrI_z1, wrI_zb, wrJ_n, wrD_n, aln_s, okn_n, upd_is, upd_ne, Nat.add_zero, Nat.add_sub_cancel, decide_true, decide_false, cond_true, cond_false, if_true, if_false, ite_not, not_true_eq_false, not_false_eq_true, Nat.reduceEqDiff, Nat.reduceAdd, Nat.reduceMul, Nat.reduceSub, Nat.reduceLeDiff, q39, c20', e68, c23, e85]
    exact e7
  · have h1 := fr7.rl fL hX
    have hm : (ordL S (nI i) R).length * (155 + 76 * R) ≤ R * (155 + 76 * R) := Nat.mul_le_mul_right _ om.len
    have hln := om.len
    exact h1.mono (fun _ h => h) (by omega) (by omega)
end
