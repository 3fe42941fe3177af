/-! the component's World.close: the end of it, and whole -/
section
variable {A A' B : Hp} {w w' wB : Lb} {X : Nat → Prop} {y l e b n d c u k T p q s a v r bl mk V C i R Bn x P g0 ar : Nat} {aO vO rO acO bO : Nat → Nat} {t : Tp} {S S' W Z f g : Nat → Int32} {sz ac z w0 am pr : Int32} {ps : List (Nat × Bool)}
/-- a bill more for a vehicle -/
theorem vhF_13 (hc : cS Z 13 = Bn) (hB : Bn < 60) (hi : i < 15) (hk : k < 15) (hz : Z (1120 + 18 * Bn) = nI i) : ∀ j, j < 6 → vhF (upd Z 13 (nI (Bn + 1))) k j = if k = i ∧ j = 5 then vhF Z i 5 + nI 1 else vhF Z k j := by
  intro j hj
  have hU : ∀ j, j ≠ 13 → upd Z 13 (nI (Bn + 1)) j = Z j := fun j h => upd_ne h
  have c13 : cS (upd Z 13 (nI (Bn + 1))) 13 = Bn + 1 := by unfold cS; rw [upd_is rfl]; exact n_cl (by omega)
  have e5 : vhF (upd Z 13 (nI (Bn + 1))) k 5 = vhF Z k 5 + bI (decide (i = k)) := by
    rw [vhF_5, vhF_5, c13, hc]
    have e : cnt (fun j => decide (upd Z 13 (nI (Bn + 1)) (1120 + 18 * j) = nI k)) (Bn + 1) = cnt (fun j => decide (upd Z 13 (nI (Bn + 1)) (1120 + 18 * j) = nI k)) Bn + bI (decide (upd Z 13 (nI (Bn + 1)) (1120 + 18 * Bn) = nI k)) := by
      unfold cnt
      rw [lpF_end, Nat.zero_add]
    rw [e, hU _ (by omega), hz, cnt_congr (q := fun j => decide (Z (1120 + 18 * j) = nI k)) (fun j hj => by rw [hU _ (by omega)])]
    congr 2
    exact decide_eq_decide.mpr (nI_eq (by omega) (by omega))
  rw [vhF_ag (S := Z) (z := vhF Z k 2) (hU 12 (by decide)) (hU _ (by omega)) (hU _ (by omega)) (by rw [vhF_2]; exact hU _ (by omega)) (fun j h1 h2 => hU j (by omega)) e5 j hj]
  by_cases z2 : j = 2
  · rw [if_pos z2, if_neg (by omega), z2]
  · rw [if_neg z2]
    by_cases z5 : j = 5
    · rw [if_pos z5]
      by_cases zk : k = i
      · rw [if_pos ⟨zk, z5⟩, zk, decide_eq_true rfl, bI_t]
      · rw [if_neg (fun z => zk z.1), decide_eq_false (fun z => zk z.symm), bI_f, z5]
        exact Int32.add_zero _
    · rw [if_neg z5, if_neg (fun z => z5 z.2)]
/-- a vehicle's bills and the list of bills -/
theorem m_270e (hb : 0 < b) {j3 j4 j5 j6 : Option Value} (o : WO B wB b p q s a v r bl mk w0) (hv : WVh B wB b v V vO Z) (hbl : WL B wB bl (1000 * b + 8) Bn bO) (hi : i < V) (hy : Kd B y 27) (hc : cS Z 13 = Bn) (hB : Bn < 60) (hz : Z (1120 + 18 * Bn) = nI i) :
    ∃ B' wB', exG TB (d + 7) 270 194 [some (.ref p), some (.ref y), some (.ref (vO i)), j3, j4, j5, j6] [] B = some (.inl none, B') ∧ WVh B' wB' b v V vO (upd Z 13 (nI (Bn + 1))) ∧ WL B' wB' bl (1000 * b + 8) (Bn + 1) (updN bO Bn y) ∧ Fr B wB B' wB' (fun l => l = 1000 * b + 8 ∨ l = 1000 * b + (40 + i)) 1 (2 * Bn + 1) := by
  have V15 := hv.n15
  have vo := hv.o i hi
  have v74 : gf B (vO i) 74 = some (.int (vhF Z i 5)) := vo.fs 5 (by decide)
  have f1 : Fr B wB (setf B (vO i) 74 (.int (vhF Z i 5 + nI 1))) wB (fun l => l = 1000 * b + (40 + i)) 0 0 := Fr.stf (X := fun l => l = 1000 * b + (40 + i)) vo.wy
  have hv1 := hv.up hi f1 (S' := upd Z 13 (nI (Bn + 1))) ((vo.set 5 (vhF Z i 5 + nI 1)).to (fun k hk => by
    rw [vhF_13 hc hB (by omega) (by omega) hz k hk]
    by_cases z5 : k = 5
    · rw [if_pos ⟨rfl, z5⟩, if_pos z5]
    · rw [if_neg (fun z => z5 z.2), if_neg z5])) (fun j m hj hne hm => by
    rw [vhF_13 hc hB (by omega) (by omega) hz m hm, if_neg (fun z => hne z.1)])
  have bl1 := hbl.fr f1 (by omega)
  have o1 := o.fr f1 (by omega)
  have f12 := o1.f12
  have lc := bl1.kc
  obtain ⟨B2, w2, e2, bl2, f2⟩ := bl1.add (d := d) (by omega) (f1.cs hy) (by decide)
  have hv2 := hv1.fr f2 (by omega) (fun j hj => by omega)
  refine ⟨B2, w2, ?_, hv2, bl2, ((f1.mono (fun l h => Or.inr h) (Nat.le_refl _) (Nat.le_refl _)).trans (f2.mono (fun l h => Or.inl h) (Nat.le_refl _) (Nat.le_refl _))).mono (fun _ h => h) (by omega) (by omega)⟩
  simp (disch := first | omega | (simp (disch := omega) only [nx_setf, nx_seta, nx_newo, nx_newa]; omega)) only [x_270_194, x_270_195, x_270_196, x_270_199, x_270_200, x_270_201, x_270_204, x_270_205, x_270_208, x_270_209, x_270_212, x_270_213, kv_s, ki_s, kj_s, kd_s, kq_s, kq_n, kq_o, ka_s, kc_r, kc_t, kc0_r, kc0_t, kch_r, kc0h_r, kw_s, kw0_s, kwh_s, kw0h_s, rg_ref, rg_null, rg_rf, ck_t, sel_some, lkn_hd, Option.isSome_some, Bool.true_and, Bool.and_true, okv_i, okv_l, okv_r, okv_n, okv_rf, okv_b, okv_0, okv_1, okv_f, okv_d, c1_i, c1_r, c1_n, c1_rf, c1_f, nI_add, n_mul, n_sub, n_pred, n_eq, n_le, n_lt, n_neN, n_Nne, N_lt, N_le, n_ltN, n_leN, rdI_n, rdJ_n, rdD_n, wrI_n, wrI_z0, wrI_z1, wrI_zb, wrJ_n, wrD_n, aln_s, okn_n, upd_is, upd_ne, Nat.add_zero, Nat.add_sub_cancel, decide_true, decide_false, cond_true, cond_false, if_true, if_false, ite_not, not_true_eq_false, not_false_eq_true, Nat.reduceEqDiff, Nat.reduceAdd, Nat.reduceMul, Nat.reduceSub, Nat.reduceLeDiff, v74, f12, lc, e2]
/-- a bill is closed -/
theorem m_270 (hb : 0 < b) (o : WO A w b p q s a v r bl mk w0) (hv : WVh A w b v V vO S) (ha : WAc A w b a C acO S) (hr : WRd A w b r R rO S) (hbl : WL A w bl (1000 * b + 8) Bn bO) (wm : WMk A w b mk S P) (st : St A w g0) (hi : i < V)
    (hy : BlO A w y (1000 * b + (300 + Bn)) f T) (tp : TpO A w T 0 0 rO sz t) (f0 : f 0 = nI i) (f1 : f 1 = S (235 + 3 * i + 1)) (f2 : f 2 = amtV S i t (prcV S i (gotV S i))) (hac : S (235 + 3 * i + 1) = nN ∨ ∃ c, c < C ∧ S (235 + 3 * i + 1) = nI c) (h12 : cS S 12 = R) (h13 : cS S 13 = Bn) (hB : Bn < 60) (hP : P + t.ps.length ≤ 900)
    (hx : ∀ x, x ∈ t.rs → x < R ∧ S (280 + 7 * x) = nI i ∧ S (280 + 7 * x + 5) = nI 1) (nd : t.rs.Nodup) (hlr : t.rs.length < 1000) (hg : ∀ j, j ∈ t.rs → S (280 + 7 * j + 1) = nI (gN S j) ∧ gN S j < 12) (hp12 : ∀ q, q ∈ t.ps → q.1 < 12) (mk0 : ∃ r rs ps, t.rs = r :: rs ∧ t.ps = (gN S r, false) :: ps ∧ Mk S (gN S r) rs ps) :
    ∃ A' w', evG TB (d + 8) 270 [.ref p, .ref y] A = some (.inl none, A') ∧ WAc A' w' b a C acO (blT S i Bn P t) ∧ WVh A' w' b v V vO (blT S i Bn P t) ∧ WRd A' w' b r R rO (blT S i Bn P t) ∧ WL A' w' bl (1000 * b + 8) (Bn + 1) (updN bO Bn y) ∧ WMk A' w' b mk (blT S i Bn P t) (P + t.ps.length) ∧ Fr A w A' w' (fun l => l = 7 ∨ (1000 * b + 8 ≤ l ∧ l < 1000 * b + 220)) (3 + 5 * t.ps.length) (130 + 56 * t.ps.length) := by
  have V15 := hv.n15
  have R120 := hr.n120
  have C8 := ha.n8
  have i15 : i < 15 := by omega
  -- the rows on the way
  obtain ⟨W, hWe⟩ : ∃ W, W = kpS (blH S i Bn t (prcV S i (gotV S i))) Bn P t.ps := ⟨_, rfl⟩
  have hW : ∀ j, j < 1120 → j ≠ 14 → W j = S j := fun j h1 h2 => by rw [hWe, kpS_c h1 h2, blH_c h1]
  have hWb : ∀ j, j < cS S 13 → W (1120 + 18 * j) = S (1120 + 18 * j) := fun j hj => by rw [hWe, kpS_lo (by omega) (by omega) (by omega), blH_lo (by omega)]
  have hWB : W (1120 + 18 * Bn) = nI i := by
    rw [hWe, kpS_lo (by omega) (by omega) (by omega)]
    unfold blH
    rw [upd_ne (by omega), upd_ne (by omega), upd_ne (by omega), upd_ne (by omega), upd_ne (by omega), upd_ne (by omega), upd_ne (by omega), upd_ne (by omega), upd_ne (by omega), upd_ne (by omega), upd_ne (by omega), upd_ne (by omega), upd_ne (by omega), upd_ne (by omega), upd_ne (by omega), upd_ne (by omega), upd_is rfl]
  have hWp : ∀ k, k < t.ps.length → W (2200 + (P + k)) = nI (codP (t.ps.getD k (0, false))) := fun k hk => by rw [hWe, kpS_pl hB hk]
  have hWo : ∀ k, k < P → W (2200 + k) = S (2200 + k) := fun k hk => by rw [hWe, kpS_po hB hk, blH_hi (by omega)]
  have hWa : W (235 + 3 * i + 1) = nN ∨ acN W i < 8 := by
    have e1 : W (235 + 3 * i + 1) = S (235 + 3 * i + 1) := hW _ (by omega) (by omega)
    rcases hac with h | ⟨c, hc, h⟩
    · exact Or.inl (e1.trans h)
    · refine Or.inr ?_
      unfold acN
      rw [e1, h, n_cl (by omega)]
      omega
  have hbT : blT S i Bn P t = upd (t.rs.foldl (fun S r => mkB Bn r S) (chS W i (f 2))) 13 (nI (Bn + 1)) := by
    unfold blT
    rw [hWe, f2]
  rw [hbT]
  have r1 : ∀ j, 280 ≤ j → chS W i (f 2) j = W j := fun j hj => chS_hi i15 hWa hj
  have r1l : ∀ j, j < 187 → chS W i (f 2) j = W j := fun j hj => chS_lo i15 hWa hj
  have r2 : ∀ j, (j < 280 ∨ 1120 ≤ j) → t.rs.foldl (fun S r => mkB Bn r S) (chS W i (f 2)) j = chS W i (f 2) j := fun j hj => mkB_c (fun r hr => by have := (hx r hr).1; omega)
  -- the charge
  obtain ⟨A1, w1, j3, e1, ha1, hv1, fr1⟩ := m_270a (d := d + 1) hb o hv ha hi hy tp.c f0 f1 ⟨by omega, fun c hc => by omega, by omega⟩ hac hW hWb (by omega) (by omega)
  have o1 := o.fr fr1 (by omega)
  have tp1 := tp.fr fr1 (by omega) (by omega) (by omega) (by omega)
  have hr1 := (hr.fr fr1 (by omega) (by omega) (fun j hj => by omega)).sc (S' := chS W i (f 2)) (fun j h1 h2 => by rw [r1 j (by omega)]; exact hW j (by omega) (by omega))
  have bl1 := hbl.fr fr1 (by omega)
  have st1 := st.fr fr1 (by omega)
  have wm1 := wm.fr fr1 (by omega) (by omega)
  have y1 := hy.fr fr1 (by omega)
  have c12 : cS (chS W i (f 2)) 12 = R := by unfold cS; rw [r1l 12 (by omega), hW 12 (by omega) (by omega)]; exact h12
  -- the reads
  obtain ⟨A2, w2, j6, e2, hv2, hr2, fr2⟩ := m_270r (d := d + 1) (p := p) (y := y) (j3 := some j3) hb hi R120 t.rs [] A1 w1 (chS W i (f 2)) none rfl hlr tp1 o1 hv1 hr1 bl1 c12 (fun x hx2 => by
    obtain ⟨x1, x2, x3⟩ := hx x hx2
    rw [r1 _ (by omega), r1 _ (by omega), hW _ (by omega) (by omega), hW _ (by omega) (by omega)]
    exact ⟨x1, x2, x3⟩) nd
  generalize hZ : t.rs.foldl (fun S r => mkB Bn r S) (chS W i (f 2)) = Z at hv2 hr2 r2
  have o2 := o1.fr fr2 (by omega)
  have tp2 := tp1.fr fr2 (by omega) (by omega) (by omega) (by omega)
  have bl2 := bl1.fr fr2 (by omega)
  have st2 := st1.fr fr2 (by omega)
  have wm2 := wm1.fr fr2 (by omega) (by omega)
  have ha2 := ha1.fr fr2 (by omega) (fun j hj => by omega)
  have y2 := y1.fr fr2 (by omega)
  -- which places were read: an array
  have hgR : ∀ j, j ∈ t.rs → Z (280 + 7 * j + 1) = nI (gN S j) := fun j hj => by
    have h1 := (hx j hj).1
    rw [← hZ, mkB_c (fun r hr => by have := (hx r hr).1; omega), r1 _ (by omega), hW _ (by omega) (by omega)]
    exact (hg j hj).1
  have gNe : ∀ j, j ∈ t.rs → gN Z j = gN S j := fun j hj => by
    unfold gN
    rw [hgR j hj, (hg j hj).1]
  have mkc : ∀ (rs : List Nat) (g : Nat) (ps : List (Nat × Bool)), (∀ j, j ∈ rs → gN Z j = gN S j) → Mk S g rs ps → Mk Z g rs ps := by
    intro rs
    induction rs with
    | nil => intro g ps _ h; exact h
    | cons x rs ih =>
      intro g ps h hM
      have hx0 := h x List.mem_cons_self
      rcases hM with ⟨m1, m2⟩ | ⟨m1, pre, rest, m2, m3, m4⟩
      · exact Or.inl ⟨by rw [hx0]; exact m1, ih _ _ (fun j hj => h j (List.mem_cons_of_mem _ hj)) m2⟩
      · refine Or.inr ⟨by rw [hx0]; exact m1, pre, rest, by rw [hx0]; exact m2, by rw [hx0]; exact m3, ?_⟩
        rw [hx0]
        exact ih _ _ (fun j hj => h j (List.mem_cons_of_mem _ hj)) m4
  have mk2 : ∃ r rs ps, t.rs = r :: rs ∧ t.ps = (gN Z r, false) :: ps ∧ Mk Z (gN Z r) rs ps := by
    obtain ⟨r0, rs0, ps0, k1, k2, k3⟩ := mk0
    have h0 := gNe r0 (by rw [k1]; exact List.mem_cons_self)
    exact ⟨r0, rs0, ps0, k1, by rw [h0]; exact k2, by rw [h0]; exact mkc _ _ _ (fun j hj => gNe j (by rw [k1]; exact List.mem_cons_of_mem _ hj)) k3⟩
  obtain ⟨A3, F, e3, n3, hF, fr3⟩ := m_248 (d := d + 3) (S := Z) (g0 := []) tp2 (by omega) (by omega) (fun j hj => (hr2.o j (hx j hj).1).iv) (fun j hj => ⟨by rw [gNe j hj]; exact hgR j hj, by rw [gNe j hj]; exact (hg j hj).2⟩) hp12 mk2
  have fF := fr3 (fun _ => False)
  -- the marks
  have wm3 : WMk A3 (upL w2 (nx A2) 7) b mk Z (P + 0) := (wm2.fr fF (fun z => z) (fun z => z)).sc (fun k hk => by
    rw [r2 _ (by omega), r1 _ (by omega), hWo k (by omega)])
  have hps9 : t.ps.length ≤ 900 := by omega
  obtain ⟨A4, w4, e4, wm4, fr4⟩ := m_270m (d := d) (p := p) (y := y) (x := vO i) (ar := nx A2) (f := F) (j3 := some j3) hb hps9 hp12 (fun k hk => by rw [r2 _ (by omega), r1 _ (by omega)]; exact hWp k hk) hP hF t.ps.length 0 A3 _ (by omega) (tp2.fr fF (fun z => z) (fun z => z) (fun z => z) (fun z => z)) (o2.fr fF (fun z => z)) (st2.fr fF (fun z => z)) wm3 n3 (upL_is rfl)
  have f34 := (fr3 (fun l => l = 1000 * b + 9)).trans fr4
  have y4 := y2.fr f34 (by omega)
  have hz4 : Z (1120 + 18 * Bn) = nI i := by rw [r2 _ (by omega), r1 _ (by omega)]; exact hWB
  have c13 : cS Z 13 = Bn := by unfold cS; rw [r2 13 (by omega), r1l 13 (by omega), hW 13 (by omega) (by omega)]; exact h13
  -- the end
  obtain ⟨A5, w5, e5, hv5, bl5, fr5⟩ := m_270e (d := d) (p := p) (y := y) (j3 := some j3) (j4 := some (.ref T)) (j5 := some (.ref (nx A2))) (j6 := some (.int (nI t.ps.length))) hb (o2.fr f34 (by omega)) (hv2.fr f34 (by omega) (fun j hj => by omega)) (bl2.fr f34 (by omega)) hi (Kd.of y4.c) c13 hB hz4
  have f345 := (f34.mono (Y := fun l => l = 1000 * b + 9 ∨ l = 1000 * b + 8 ∨ l = 1000 * b + (40 + i)) (fun l h => Or.inl h) (Nat.le_refl _) (Nat.le_refl _)).trans (fr5.mono (fun l h => Or.inr h) (Nat.le_refl _) (Nat.le_refl _))
  have hU : ∀ j, j ≠ 13 → upd Z 13 (nI (Bn + 1)) j = Z j := fun j h => upd_ne h
  refine ⟨A5, w5, ?_, (ha2.fr f345 (by omega) (fun j hj => by omega)).sc (fun k h1 h2 => by rw [hU k (by omega), r2 k (by omega)]), hv5, (hr2.fr f345 (by omega) (by omega) (fun j hj => by omega)).sc (fun j h1 h2 => hU j (by omega)), bl5, (wm4.fr fr5 (by omega) (by omega)).sc (fun k hk => hU _ (by omega)), ?_⟩
  · refine e1.trans (e2.trans ?_)
    have c26 := tp2.c
    simp (disch := first | omega | (simp (disch := omega) only [nx_setf, nx_seta, nx_newo, nx_newa]; omega)) only [x_270_137, x_270_139, x_270_142, x_270_144, x_270_145, kv_s, ki_s, kj_s, kd_s, kq_s, kq_n, kq_o, ka_s, kc_r, kc_t, kc0_r, kc0_t, kch_r, kc0h_r, kw_s, kw0_s, kwh_s, kw0h_s, rg_ref, rg_null, rg_rf, ck_t, sel_some, lkn_hd, Option.isSome_some, Bool.true_and, Bool.and_true, okv_i, okv_l, okv_r, okv_n, okv_rf, okv_b, okv_0, okv_1, okv_f, okv_d, c1_i, c1_r, c1_n, c1_rf, c1_f, nI_add, n_mul, n_sub, n_pred, n_eq, n_le, n_lt, n_neN, n_Nne, N_lt, N_le, n_ltN, n_leN, rdI_n, rdJ_n, rdD_n, wrI_n, wrI_z0, wrI_z1, wrI_zb, wrJ_n, wrD_n, aln_s, okn_n, upd_is, upd_ne, Nat.add_zero, Nat.add_sub_cancel, decide_true, decide_false, cond_true, cond_false, if_true, if_false, ite_not, not_true_eq_false, not_false_eq_true, Nat.reduceEqDiff, Nat.reduceAdd, Nat.reduceMul, Nat.reduceSub, Nat.reduceLeDiff, c26, e3]
    exact e4.trans e5
  · refine (((fr1.mono (fun l h => by omega) (Nat.le_refl _) (Nat.le_refl _)).trans (fr2.mono (fun l h => by omega) (Nat.le_refl _) (Nat.le_refl _))).trans (f345.mono (fun l h => by omega) (Nat.le_refl _) (Nat.le_refl _))).mono (fun _ h => h) (by omega) (by omega)
end
