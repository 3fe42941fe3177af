/-! the component's World.close: the account is charged; the places are marked -/
section
variable {A A' B : Hp} {w w' wB : Lb} {X : Nat → Prop} {y l e b n d c u k T p q s a v r bl mk V C i R Bn x P g0 : Nat} {aO vO rO acO bO : Nat → Nat} {t : Tp} {S S' W Z f g : Nat → Int32} {sz ac z w0 am pr : Int32} {ps : List (Nat × Bool)}
theorem vhF_0 : vhF S i 0 = S (235 + 3 * i) := rfl
theorem vhF_1 : vhF S i 1 = S (235 + 3 * i + 1) := rfl
theorem vhF_2 : vhF S i 2 = S (235 + 3 * i + 2) := rfl
theorem vhF_3 : vhF S i 3 = cnt (fun j => decide (S (280 + 7 * j) = nI i) && decide (S (280 + 7 * j + 5) = nI 3)) (cS S 12) := rfl
theorem vhF_4 : vhF S i 4 = latB S (nI i) (cS S 12) := rfl
theorem vhF_5 : vhF S i 5 = cnt (fun j => decide (S (1120 + 18 * j) = nI i)) (cS S 13) := rfl
theorem k6 (hk : k < 6) : k = 0 ∨ k = 1 ∨ k = 2 ∨ k = 3 ∨ k = 4 ∨ k = 5 := by omega
theorem latB_congr {n : Nat} (h : ∀ j, j < n → S' (280 + 7 * j) = S (280 + 7 * j) ∧ S' (280 + 7 * j + 5) = S (280 + 7 * j + 5) ∧ S' (280 + 7 * j + 2) = S (280 + 7 * j + 2)) : latB S' z n = latB S z n := by
  induction n with
  | zero => rw [latB_0, latB_0]
  | succ n ih =>
    rw [latB_e, latB_e, ih (fun j hj => h j (by omega))]
    obtain ⟨e0, e5, e2⟩ := h n (by omega)
    rw [e0, e5, e2]
/-- a vehicle's ints when the row changes, but not its reads nor its bills -/
theorem vhF_ag (h12 : S' 12 = S 12) (hd0 : S' (235 + 3 * i) = S (235 + 3 * i)) (hd1 : S' (235 + 3 * i + 1) = S (235 + 3 * i + 1)) (hd2 : S' (235 + 3 * i + 2) = z) (hr : ∀ j, 280 ≤ j → j < 280 + 7 * cS S 12 → S' j = S j) (h5 : vhF S' i 5 = am) : ∀ k, k < 6 → vhF S' i k = if k = 2 then z else if k = 5 then am else vhF S i k := by
  intro k hk
  have c12 : cS S' 12 = cS S 12 := by unfold cS; rw [h12]
  rcases k6 hk with e | e | e | e | e | e <;> subst e
  · rw [vhF_0, vhF_0, if_neg (by decide), if_neg (by decide)]; exact hd0
  · rw [vhF_1, vhF_1, if_neg (by decide), if_neg (by decide)]; exact hd1
  · rw [vhF_2, if_pos rfl]; exact hd2
  · rw [vhF_3, vhF_3, if_neg (by decide), if_neg (by decide), c12]
    exact cnt_congr (fun j hj => by rw [hr _ (by omega) (by omega), hr _ (by omega) (by omega)])
  · rw [vhF_4, vhF_4, if_neg (by decide), if_neg (by decide), c12]
    exact latB_congr (fun j hj => ⟨hr _ (by omega) (by omega), hr _ (by omega) (by omega), hr _ (by omega) (by omega)⟩)
  · rw [h5, if_neg (by decide), if_pos rfl]
theorem vhF_5ag (h13 : S' 13 = S 13) (hb : ∀ j, j < cS S 13 → S' (1120 + 18 * j) = S (1120 + 18 * j)) : vhF S' i 5 = vhF S i 5 := by
  have c13 : cS S' 13 = cS S 13 := by unfold cS; rw [h13]
  rw [vhF_5, vhF_5, c13]
  exact cnt_congr (fun j hj => by rw [hb j hj])
theorem ite25 : (if k = 2 then vhF S i 2 else if k = 5 then vhF S i 5 else vhF S i k) = vhF S i k := by
  split
  · rename_i h; rw [h]
  · split
    · rename_i h; rw [h]
    · rfl
/-- the account of a bill is charged -/
theorem m_270a (hb : 0 < b) (o : WO A w b p q s a v r bl mk w0) (hv : WVh A w b v V vO S) (ha : WAc A w b a C acO S) (hi : i < V) (hy : BlO A w y l f T) (hT : gc A T = some 26) (f0 : f 0 = nI i) (f1 : f 1 = S (235 + 3 * i + 1)) (hl : l ≠ 7 ∧ (∀ c, c < 8 → l ≠ 1000 * b + (20 + c)) ∧ l ≠ 1000 * b + (40 + i)) (hac : S (235 + 3 * i + 1) = nN ∨ ∃ c, c < C ∧ S (235 + 3 * i + 1) = nI c) (hW : ∀ j, j < 1120 → j ≠ 14 → W j = S j) (hWb : ∀ j, j < cS S 13 → W (1120 + 18 * j) = S (1120 + 18 * j)) (hR : cS S 12 ≤ 120) (hBs : cS S 13 ≤ 60) :
    ∃ A' w' j3, evG TB (d + 7) 270 [.ref p, .ref y] A = exG TB (d + 6) 270 59 [some (.ref p), some (.ref y), some (.ref (vO i)), some j3, some (.ref T), some (.int (nI 0)), none] [] A' ∧ WAc A' w' b a C acO (chS W i (f 2)) ∧ WVh A' w' b v V vO (chS W i (f 2)) ∧ Fr A w A' w' (fun l => l = 7 ∨ (1000 * b + 20 ≤ l ∧ l < 1000 * b + 28) ∨ l = 1000 * b + (40 + i)) 1 8 := by
  have V15 := hv.n15
  have f10 := o.f10
  have lc := hv.l.kc
  have q47 := hv.l.get (d := d + 3) hi
  have vo := hv.o i hi
  have c13 : cin (gcs A (vO i)) [13] = true := by rw [gcs_d vo.c]; rfl
  have y0 : gf A y 133 = some (.int (nI i)) := by rw [← f0]; exact hy.gs 0 (by decide) (by decide)
  have y1 : gf A y 134 = some (.int (S (235 + 3 * i + 1))) := by rw [← f1]; exact hy.gs 1 (by decide) (by decide)
  have y2 : gf A y 135 = some (.int (f 2)) := hy.gs 2 (by decide) (by decide)
  have ft := hy.ft
  have cp := o.c
  have e1 : W (235 + 3 * i + 1) = S (235 + 3 * i + 1) := hW _ (by omega) (by omega)
  have e2 : W (235 + 3 * i + 2) = S (235 + 3 * i + 2) := hW _ (by omega) (by omega)
  rcases hac with hac | ⟨c, hc, hac⟩
  · have hch : chS W i (f 2) = upd W (235 + 3 * i + 2) (W (235 + 3 * i + 2) + f 2) := by
      unfold chS
      rw [if_pos (by rw [e1]; exact hac)]
    rw [hch, e2]
    have q268 := m_268n (A := A) (p := p) (d := d + 5)
    have fx : ∀ X, Fr A w (newo A 34 8 (fun _ => none)) (upL w (nx A) 7) X 1 8 := fun X => Fr.nwo
    have fxF := fx (fun _ => False)
    have hv1 := hv.fr fxF (fun z => z) (fun j hj z => z)
    have ha1 := ha.fr fxF (fun z => z) (fun j hj z => z)
    have hy1 := hy.fr fxF (fun z => z)
    have vo1 := hv1.o i hi
    have v71 : gf (newo A 34 8 (fun _ => none)) (vO i) 71 = some (.int (S (235 + 3 * i + 2))) := vo1.fs 2 (by decide)
    have y2' : gf (newo A 34 8 (fun _ => none)) y 135 = some (.int (f 2)) := hy1.gs 2 (by decide) (by decide)
    have ft' := hy1.ft
    have f2 : Fr (newo A 34 8 (fun _ => none)) (upL w (nx A) 7) (setf (newo A 34 8 (fun _ => none)) (vO i) 71 (.int (S (235 + 3 * i + 2) + f 2))) (upL w (nx A) 7) (fun l => l = 1000 * b + (40 + i)) 0 0 := Fr.stf vo1.wy
    have hU : ∀ j, j < 1120 → j ≠ 14 → j ≠ 235 + 3 * i + 2 → upd W (235 + 3 * i + 2) (S (235 + 3 * i + 2) + f 2) j = S j := fun j h1 h2 h3 => by rw [upd_ne h3]; exact hW j h1 h2
    have hUb : ∀ j, j < cS S 13 → upd W (235 + 3 * i + 2) (S (235 + 3 * i + 2) + f 2) (1120 + 18 * j) = S (1120 + 18 * j) := fun j hj => by rw [upd_ne (by omega)]; exact hWb j hj
    have ft2 : gf (setf (newo A 34 8 (fun _ => none)) (vO i) 71 (.int (S (235 + 3 * i + 2) + f 2))) y 140 = some (.ref T) := by rw [gf_setf_ne (by decide)]; exact ft'
    have hv2 := hv1.up hi f2 (S' := upd W (235 + 3 * i + 2) (S (235 + 3 * i + 2) + f 2)) ((vo1.set 2 (S (235 + 3 * i + 2) + f 2)).to (fun k hk => by
      rw [vhF_ag (S := S) (z := S (235 + 3 * i + 2) + f 2) (am := vhF S i 5) (hU 12 (by omega) (by omega) (by omega)) (hU _ (by omega) (by omega) (by omega)) (hU _ (by omega) (by omega) (by omega)) (upd_is rfl) (fun j h1 h2 => hU j (by omega) (by omega) (by omega)) (vhF_5ag (hU 13 (by omega) (by omega) (by omega)) hUb) k hk]
      by_cases z : k = 2
      · rw [if_pos z, if_pos z]
      · rw [if_neg z, if_neg z]
        by_cases z5 : k = 5
        · rw [if_pos z5, z5]
        · rw [if_neg z5])) (fun j m hj hne hm => by
      rw [vhF_ag (S := S) (z := vhF S j 2) (am := vhF S j 5) (hU 12 (by omega) (by omega) (by omega)) (hU _ (by omega) (by omega) (by omega)) (hU _ (by omega) (by omega) (by omega)) (by rw [vhF_2]; exact hU _ (by omega) (by omega) (by omega)) (fun j h1 h2 => hU j (by omega) (by omega) (by omega)) (vhF_5ag (hU 13 (by omega) (by omega) (by omega)) hUb) m hm]
      exact ite25)
    have ha2 := (ha1.fr f2 (by omega) (fun j hj => by omega)).sc (S' := upd W (235 + 3 * i + 2) (S (235 + 3 * i + 2) + f 2)) (fun k h1 h2 => hU k (by omega) (by omega) (by omega))
    rw [hac] at y1
    refine ⟨_, _, .null, ?_, ha2, hv2, (((fx _).mono (fun l h => h) (Nat.le_refl _) (Nat.le_refl _)).trans (f2.mono (fun l h => Or.inr (Or.inr h)) (Nat.le_refl _) (Nat.le_refl _))).mono (fun _ h => h) (by decide) (by decide)⟩
    simp (disch := first | omega | (simp (disch := omega) only [nx_setf, nx_seta, nx_newo, nx_newa]; omega)) only [e_270, x_270_0, x_270_1, x_270_4, x_270_5, x_270_8, x_270_11n, x_270_11r, x_270_14, x_270_15, x_270_16, x_270_17, x_270_20, x_270_23, x_270_24, x_270_25, x_270_26, x_270_29n, x_270_29, x_270_32, x_270_35, x_270_37, x_270_38, x_270_39, x_270_42, x_270_43, x_270_46, x_270_47, x_270_50, x_270_51, x_270_54, x_270_56, x_270_57, kv_s, ki_s, kj_s, kd_s, kq_s, kq_n, kq_o, ka_s, kc_r, kc_t, kc0_r, kc0_t, kch_r, kc0h_r, kw_s, kw0_s, kwh_s, kw0h_s, rg_ref, rg_null, rg_rf, ck_t, sel_some, lkn_hd, Option.isSome_some, Bool.true_and, Bool.and_true, okv_i, okv_l, okv_r, okv_n, okv_rf, okv_b, okv_0, okv_1, okv_f, okv_d, c1_i, c1_r, c1_n, c1_rf, c1_f, nI_add, n_mul, n_sub, n_pred, n_eq, n_le, n_lt, n_neN, n_Nne, N_lt, N_le, n_ltN, n_leN, rdI_n, rdJ_n, rdD_n, wrI_n, wrI_z0, wrI_z1, wrI_zb, wrJ_n, wrD_n, aln_s, okn_n, upd_is, upd_ne, Nat.add_zero, Nat.add_sub_cancel, decide_true, decide_false, cond_true, cond_false, if_true, if_false, ite_not, not_true_eq_false, not_false_eq_true, Nat.reduceEqDiff, Nat.reduceAdd, Nat.reduceMul, Nat.reduceSub, Nat.reduceLeDiff, f10, y0, lc, q47, c13, ckT, y1, cp, q268, y2, v71, y2', ft2]
  · have h8 := ha.n8
    have hne : (nI c = nN) = False := n_neN (by omega)
    have hacN : ¬ W (235 + 3 * i + 1) = nN := by rw [e1, hac]; exact of_eq_false hne
    have aN : acN W i = c := by unfold acN; rw [e1, hac]; exact n_cl (by omega)
    have a0 : W (187 + 6 * c) = S (187 + 6 * c) := hW _ (by omega) (by omega)
    have a3 : W (187 + 6 * c + 3) = S (187 + 6 * c + 3) := hW _ (by omega) (by omega)
    have a4 : W (187 + 6 * c + 4) = S (187 + 6 * c + 4) := hW _ (by omega) (by omega)
    have hch : chS W i (f 2) = upd (upd (upd W (187 + 6 * c) (S (187 + 6 * c) + -f 2)) (187 + 6 * c + 3) (S (187 + 6 * c + 3) + nI 1)) (187 + 6 * c + 4) (S (187 + 6 * c + 4) + f 2) := by
      unfold chS
      rw [if_neg hacN, aN, a0, a3, a4]
    rw [hch]
    have q268 := m_268 (d := d + 5) ha o hc
    obtain ⟨ee, he1, he2⟩ := ha.e
    have acc := (he2 c hc).2
    obtain ⟨q421, acc2, f2⟩ := m_421 (d := d + 5) (x := f 2) acc
    have cA := acc.c
    have hU : ∀ j, j < 1120 → j ≠ 14 → j ≠ 187 + 6 * c → j ≠ 187 + 6 * c + 3 → j ≠ 187 + 6 * c + 4 → upd (upd (upd W (187 + 6 * c) (S (187 + 6 * c) + -f 2)) (187 + 6 * c + 3) (S (187 + 6 * c + 3) + nI 1)) (187 + 6 * c + 4) (S (187 + 6 * c + 4) + f 2) j = S j := fun j h1 h2 h3 h4 h5 => by rw [upd_ne h5, upd_ne h4, upd_ne h3]; exact hW j h1 h2
    have hUb : ∀ j, j < cS S 13 → upd (upd (upd W (187 + 6 * c) (S (187 + 6 * c) + -f 2)) (187 + 6 * c + 3) (S (187 + 6 * c + 3) + nI 1)) (187 + 6 * c + 4) (S (187 + 6 * c + 4) + f 2) (1120 + 18 * j) = S (1120 + 18 * j) := fun j hj => by rw [upd_ne (by omega), upd_ne (by omega), upd_ne (by omega)]; exact hWb j hj
    have ha2 := ha.up (S' := upd (upd (upd W (187 + 6 * c) (S (187 + 6 * c) + -f 2)) (187 + 6 * c + 3) (S (187 + 6 * c + 3) + nI 1)) (187 + 6 * c + 4) (S (187 + 6 * c + 4) + f 2)) hc f2 (acc2.to (fun k hk => by
      have hk6 := k6 hk
      unfold acF
      rcases hk6 with e | e | e | e | e | e <;> subst e
      · rw [if_pos rfl, upd_ne (by omega), upd_ne (by omega), upd_is (by omega), Int32.sub_eq_add_neg, show 187 + 6 * c + 0 = 187 + 6 * c from rfl]
      · rw [if_neg (by decide), if_neg (by decide), if_neg (by decide)]; exact hU _ (by omega) (by omega) (by omega) (by omega) (by omega)
      · rw [if_neg (by decide), if_neg (by decide), if_neg (by decide)]; exact hU _ (by omega) (by omega) (by omega) (by omega) (by omega)
      · rw [if_neg (by decide), if_neg (by decide), if_pos rfl, upd_ne (by omega), upd_is rfl]
      · rw [if_neg (by decide), if_pos rfl, upd_is rfl]
      · rw [if_neg (by decide), if_neg (by decide), if_neg (by decide)]; exact hU _ (by omega) (by omega) (by omega) (by omega) (by omega))) (fun j h1 h2 h3 => hU j (by omega) (by omega) (by omega) (by omega) (by omega))
    have hv2 := (hv.fr f2 (by omega) (fun j hj => by omega)).sc (S' := upd (upd (upd W (187 + 6 * c) (S (187 + 6 * c) + -f 2)) (187 + 6 * c + 3) (S (187 + 6 * c + 3) + nI 1)) (187 + 6 * c + 4) (S (187 + 6 * c + 4) + f 2)) (fun j m hj hm => by
      rw [vhF_ag (S := S) (z := vhF S j 2) (am := vhF S j 5) (hU 12 (by omega) (by omega) (by omega) (by omega) (by omega)) (hU _ (by omega) (by omega) (by omega) (by omega) (by omega)) (hU _ (by omega) (by omega) (by omega) (by omega) (by omega)) (by rw [vhF_2]; exact hU _ (by omega) (by omega) (by omega) (by omega) (by omega)) (fun j h1 h2 => hU j (by omega) (by omega) (by omega) (by omega) (by omega)) (vhF_5ag (hU 13 (by omega) (by omega) (by omega) (by omega) (by omega)) hUb) m hm]
      exact ite25)
    have ft2 := (hy.fr f2 (hl.2.1 c (by omega))).ft
    rw [hac] at y1
    refine ⟨_, w, .ref (acO c), ?_, ha2, hv2, f2.mono (fun l h => Or.inr (Or.inl (by omega))) (by decide) (by decide)⟩
    simp (disch := first | omega | (simp (disch := omega) only [nx_setf, nx_seta, nx_newo, nx_newa]; omega)) only [e_270, x_270_0, x_270_1, x_270_4, x_270_5, x_270_8, x_270_11n, x_270_11r, x_270_14, x_270_15, x_270_16, x_270_17, x_270_20, x_270_23, x_270_24, x_270_25, x_270_26, x_270_29n, x_270_29, x_270_32, x_270_35, x_270_37, x_270_38, x_270_39, x_270_42, x_270_43, x_270_46, x_270_47, x_270_50, x_270_51, x_270_54, x_270_56, x_270_57, kv_s, ki_s, kj_s, kd_s, kq_s, kq_n, kq_o, ka_s, kc_r, kc_t, kc0_r, kc0_t, kch_r, kc0h_r, kw_s, kw0_s, kwh_s, kw0h_s, rg_ref, rg_null, rg_rf, ck_t, sel_some, lkn_hd, Option.isSome_some, Bool.true_and, Bool.and_true, okv_i, okv_l, okv_r, okv_n, okv_rf, okv_b, okv_0, okv_1, okv_f, okv_d, c1_i, c1_r, c1_n, c1_rf, c1_f, nI_add, n_mul, n_sub, n_pred, n_eq, n_le, n_lt, n_neN, n_Nne, N_lt, N_le, n_ltN, n_leN, rdI_n, rdJ_n, rdD_n, wrI_n, wrI_z0, wrI_z1, wrI_zb, wrJ_n, wrD_n, aln_s, okn_n, upd_is, upd_ne, Nat.add_zero, Nat.add_sub_cancel, decide_true, decide_false, cond_true, cond_false, if_true, if_false, ite_not, not_true_eq_false, not_false_eq_true, Nat.reduceEqDiff, Nat.reduceAdd, Nat.reduceMul, Nat.reduceSub, Nat.reduceLeDiff, f10, y0, lc, q47, c13, ckT, y1, cp, q268, y2, cA, q421, ft2]
end
