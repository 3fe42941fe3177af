/-! the component's World.close: the reads are billed -/
theorem cN_one {r : Nat} : ∀ (n : Nat), cN (fun i => decide (i = r)) n = if r < n then 1 else 0
  | 0 => by rw [if_neg (Nat.not_lt_zero _)]; rfl
  | n + 1 => by
    rw [cN_s, cN_one n]
    by_cases h : r < n
    · rw [if_pos h, if_pos (show r < n + 1 by omega), decide_eq_false (show ¬ n = r by omega), if_neg (by decide)]
    · rw [if_neg h]
      by_cases h2 : n = r
      · rw [decide_eq_true h2, if_pos rfl, if_pos (show r < n + 1 by omega)]
      · rw [decide_eq_false h2, if_neg (by decide), if_neg (show ¬ r < n + 1 by omega)]
theorem cnt_one {p p' : Nat → Bool} {r n : Nat} (hr : r < n) (h : ∀ i, i < n → p' i = (p i || decide (i = r))) (h2 : p r = false) : cnt p' n = cnt p n + nI 1 := by
  rw [cnt_N, cnt_N, nI_add]
  refine congrArg nI ?_
  rw [cN_congr n h, cN_add n (fun i hi z => by
    have : i = r := of_decide_eq_true z.2
    rw [this, h2] at z
    cases z.1), cN_one, if_pos hr]
theorem cnt_congr {p q : Nat → Bool} {n : Nat} (h : ∀ i, i < n → p i = q i) : cnt p n = cnt q n := by rw [cnt_N, cnt_N, cN_congr n h]
theorem maxI_t {a b : Int32} : (maxI a b).toInt = max a.toInt b.toInt := by
  unfold maxI
  split
  · rename_i h
    have := Int32.lt_iff_toInt_lt.mp h
    omega
  · rename_i h
    have := mt Int32.lt_iff_toInt_lt.mpr h
    omega
theorem maxI_sw {a t x : Int32} : maxI (maxI a t) x = maxI (maxI a x) t := by
  apply Int32.toInt_inj.mp
  rw [maxI_t, maxI_t, maxI_t, maxI_t]
  omega
section
variable {A A' B : Hp} {w w' wB : Lb} {X : Nat → Prop} {y l e b n d c u k T p q s a v r bl mk V C i R Bn x : Nat} {aO vO rO acO bO : Nat → Nat} {t : Tp} {S S' Z f g : Nat → Int32} {sz ac z w0 : Int32}
theorem mkB_5 : mkB Bn x Z (280 + 7 * x + 5) = nI 3 := by unfold mkB; rw [upd_ne (by omega), upd_is rfl]
theorem mkB_6 : mkB Bn x Z (280 + 7 * x + 6) = nI Bn := upd_is rfl
theorem mkB_o {j : Nat} (h : j ≠ 280 + 7 * x + 5) (h2 : j ≠ 280 + 7 * x + 6) : mkB Bn x Z j = Z j := by unfold mkB; rw [upd_ne h2, upd_ne h]
theorem latB_e {z : Int32} {n : Nat} : latB Z z (n + 1) = if Z (280 + 7 * n) = z ∧ Z (280 + 7 * n + 5) = nI 3 then maxI (latB Z z n) (Z (280 + 7 * n + 2)) else latB Z z n := by unfold latB; rw [lpF_end, Nat.zero_add]
theorem latB_0 {z : Int32} : latB Z z 0 = nN := rfl
theorem latB_mk (hv : Z (280 + 7 * x) = nI i) (h5 : ¬ Z (280 + 7 * x + 5) = nI 3) (n : Nat) : latB (mkB Bn x Z) (nI i) n = if x < n then maxI (latB Z (nI i) n) (Z (280 + 7 * x + 2)) else latB Z (nI i) n := by
  induction n with
  | zero =>
    rw [if_neg (Nat.not_lt_zero _), latB_0, latB_0]
  | succ n ih =>
    rw [latB_e, latB_e, ih]
    by_cases h : n = x
    · have e5 : mkB Bn x Z (280 + 7 * n + 5) = nI 3 := by rw [h]; exact mkB_5
      have e0 : mkB Bn x Z (280 + 7 * n) = nI i := by rw [h, mkB_o (by omega) (by omega)]; exact hv
      have e2 : mkB Bn x Z (280 + 7 * n + 2) = Z (280 + 7 * x + 2) := by rw [h]; exact mkB_o (by omega) (by omega)
      have h5' : ¬ (Z (280 + 7 * n) = nI i ∧ Z (280 + 7 * n + 5) = nI 3) := by rw [h]; exact fun z => h5 z.2
      rw [e5, e0, e2, if_pos ⟨rfl, rfl⟩, if_neg (show ¬ x < n by omega), if_pos (show x < n + 1 by omega), if_neg h5']
    · have e5 : mkB Bn x Z (280 + 7 * n + 5) = Z (280 + 7 * n + 5) := mkB_o (by omega) (by omega)
      have e0 : mkB Bn x Z (280 + 7 * n) = Z (280 + 7 * n) := mkB_o (by omega) (by omega)
      have e2 : mkB Bn x Z (280 + 7 * n + 2) = Z (280 + 7 * n + 2) := mkB_o (by omega) (by omega)
      rw [e5, e0, e2]
      by_cases h2 : x < n
      · rw [if_pos h2, if_pos (show x < n + 1 by omega)]
        by_cases hq : Z (280 + 7 * n) = nI i ∧ Z (280 + 7 * n + 5) = nI 3
        · rw [if_pos hq, if_pos hq]
          exact maxI_sw
        · rw [if_neg hq, if_neg hq]
      · rw [if_neg h2, if_neg (show ¬ x < n + 1 by omega)]
theorem latB_mo (hv : ¬ Z (280 + 7 * x) = z) (n : Nat) : latB (mkB Bn x Z) z n = latB Z z n := by
  induction n with
  | zero => rw [latB_0, latB_0]
  | succ n ih =>
    rw [latB_e, latB_e, ih]
    have e0 : mkB Bn x Z (280 + 7 * n) = Z (280 + 7 * n) := mkB_o (by omega) (by omega)
    have e2 : mkB Bn x Z (280 + 7 * n + 2) = Z (280 + 7 * n + 2) := mkB_o (by omega) (by omega)
    by_cases h : n = x
    · have h1 : ¬ Z (280 + 7 * n) = z := by rw [h]; exact hv
      rw [e0, if_neg (fun z => h1 z.1), if_neg (fun z => h1 z.1)]
    · have e5 : mkB Bn x Z (280 + 7 * n + 5) = Z (280 + 7 * n + 5) := mkB_o (by omega) (by omega)
      rw [e0, e2, e5]
/-- what a read billed does to its vehicle -/
theorem vhF_mk (hR : cS Z 12 = R) (hR2 : R ≤ 120) (hx : x < R) (hv : Z (280 + 7 * x) = nI i) (h5 : ¬ Z (280 + 7 * x + 5) = nI 3) (hi : i < 15) : ∀ k, k < 6 → vhF (mkB Bn x Z) i k = if k = 3 then vhF Z i 3 + nI 1 else if k = 4 then maxI (vhF Z i 4) (Z (280 + 7 * x + 2)) else vhF Z i k := by
  intro k hk
  have c12 : cS (mkB Bn x Z) 12 = R := by unfold cS; rw [mkB_o (by omega) (by omega)]; exact hR
  have c13 : cS (mkB Bn x Z) 13 = cS Z 13 := by unfold cS; rw [mkB_o (by omega) (by omega)]
  have : k = 0 ∨ k = 1 ∨ k = 2 ∨ k = 3 ∨ k = 4 ∨ k = 5 := by omega
  rcases this with e | e | e | e | e | e <;> subst e
  · exact mkB_o (by omega) (by omega)
  · exact mkB_o (by omega) (by omega)
  · exact mkB_o (by omega) (by omega)
  · show cnt _ (cS (mkB Bn x Z) 12) = cnt _ (cS Z 12) + nI 1
    rw [c12, hR]
    refine cnt_one hx (fun j hj => ?_) (by rw [decide_eq_false h5, Bool.and_false])
    by_cases h : j = x
    · rw [h, mkB_5, mkB_o (by omega) (by omega), decide_eq_true hv, decide_eq_true rfl, decide_eq_true rfl, Bool.or_true, Bool.and_true]
    · rw [mkB_o (by omega) (by omega), mkB_o (by omega) (by omega), decide_eq_false h, Bool.or_false]
  · show latB _ _ (cS (mkB Bn x Z) 12) = maxI (latB Z (nI i) (cS Z 12)) _
    rw [c12, hR, latB_mk hv h5, if_pos hx]
  · show cnt _ (cS (mkB Bn x Z) 13) = cnt _ (cS Z 13)
    rw [c13]
    exact cnt_congr (fun j hj => by rw [mkB_o (by omega) (by omega)])
theorem vhF_mo (hR : cS Z 12 = R) (hR2 : R ≤ 120) (hx : x < R) (hv : Z (280 + 7 * x) = nI i) (hi : i < 15) (hj : k < 15) (hne : k ≠ i) : ∀ j, j < 6 → vhF (mkB Bn x Z) k j = vhF Z k j := by
  intro j hj2
  have c12 : cS (mkB Bn x Z) 12 = R := by unfold cS; rw [mkB_o (by omega) (by omega)]; exact hR
  have c13 : cS (mkB Bn x Z) 13 = cS Z 13 := by unfold cS; rw [mkB_o (by omega) (by omega)]
  have hvk : ¬ Z (280 + 7 * x) = nI k := by rw [hv]; exact fun z => hne ((nI_eq (by omega) (by omega)).mp z).symm
  have : j = 0 ∨ j = 1 ∨ j = 2 ∨ j = 3 ∨ j = 4 ∨ j = 5 := by omega
  rcases this with e | e | e | e | e | e <;> subst e
  · exact mkB_o (by omega) (by omega)
  · exact mkB_o (by omega) (by omega)
  · exact mkB_o (by omega) (by omega)
  · show cnt _ (cS (mkB Bn x Z) 12) = cnt _ (cS Z 12)
    rw [c12, hR]
    refine cnt_congr (fun j hj => ?_)
    by_cases h : j = x
    · rw [h, mkB_o (by omega) (by omega), decide_eq_false hvk, Bool.false_and, Bool.false_and]
    · rw [mkB_o (by omega) (by omega), mkB_o (by omega) (by omega)]
  · show latB _ _ (cS (mkB Bn x Z) 12) = latB _ _ (cS Z 12)
    rw [c12, hR, latB_mo hvk]
  · show cnt _ (cS (mkB Bn x Z) 13) = cnt _ (cS Z 13)
    rw [c13]
    exact cnt_congr (fun j hj => by rw [mkB_o (by omega) (by omega)])
theorem rdFn_mk {k : Nat} (hk : k < 8) : rdFn (mkB Bn x Z) x k = if k = 7 then nI Bn else if k = 6 then nI 3 else rdFn Z x k := by
  have e0 : mkB Bn x Z (280 + 7 * x) = Z (280 + 7 * x) := mkB_o (by omega) (by omega)
  have e1 : mkB Bn x Z (280 + 7 * x + 1) = Z (280 + 7 * x + 1) := mkB_o (by omega) (by omega)
  have e2 : mkB Bn x Z (280 + 7 * x + 2) = Z (280 + 7 * x + 2) := mkB_o (by omega) (by omega)
  have e3 : mkB Bn x Z (280 + 7 * x + 3) = Z (280 + 7 * x + 3) := mkB_o (by omega) (by omega)
  have e4 : mkB Bn x Z (280 + 7 * x + 4) = Z (280 + 7 * x + 4) := mkB_o (by omega) (by omega)
  have e5 : mkB Bn x Z (280 + 7 * x + 5) = nI 3 := mkB_5
  have e6 : mkB Bn x Z (280 + 7 * x + 6) = nI Bn := mkB_6
  unfold rdFn
  rw [e0, e1, e2, e3, e4, e5, e6]
  generalize Z (280 + 7 * x) = z0
  generalize Z (280 + 7 * x + 1) = z1
  generalize Z (280 + 7 * x + 2) = z2
  generalize Z (280 + 7 * x + 3) = z3
  generalize Z (280 + 7 * x + 4) = z4
  generalize Z (280 + 7 * x + 5) = z5
  generalize Z (280 + 7 * x + 6) = z6
  clear e0 e1 e2 e3 e4 e5 e6
  grind
/-- a read billed -/
theorem WRd.bill (hr : WRd B wB b r R rO Z) (x1 : x < R) (x3 : Z (280 + 7 * x + 5) = nI 1) : WRd (setf (setf B (rO x) 95 (.int (nI 3))) (rO x) 96 (.int (nI Bn))) (upL wB (rO x) 0) b r R rO (mkB Bn x Z) ∧ Fr B wB (setf (setf B (rO x) 95 (.int (nI 3))) (rO x) 96 (.int (nI Bn))) (upL wB (rO x) 0) (fun l => l = 1000 * b + (100 + x)) 0 0 := by
  have n3 : ¬ Z (280 + 7 * x + 5) = nI 3 := by rw [x3]; decide
  have rlx : rlb Z b x = 1000 * b + (100 + x) := if_neg n3
  have io := hr.o x x1
  have wx : wB (rO x) = 1000 * b + (100 + x) := by rw [io.wy, rlx]
  have io2 := (io.set 6 (nI 3)).set 7 (nI Bn)
  have f1 : Fr B wB (setf B (rO x) 95 (.int (nI 3))) wB (fun l => l = 1000 * b + (100 + x)) 0 0 := Fr.stf wx
  have f2 : Fr B wB (setf (setf B (rO x) 95 (.int (nI 3))) (rO x) 96 (.int (nI Bn))) wB (fun l => l = 1000 * b + (100 + x)) 0 0 := f1.trans (Fr.stf wx)
  have f3 : Fr B wB (setf (setf B (rO x) 95 (.int (nI 3))) (rO x) 96 (.int (nI Bn))) (upL wB (rO x) 0) (fun l => l = 1000 * b + (100 + x)) 0 0 := f2.trans (Fr.lab (fun q hq hn => upL_ne (fun z => hn (by rw [z]; exact wx))))
  have e0 : rlb (mkB Bn x Z) b x = 0 := by
    unfold rlb
    rw [mkB_5, if_pos rfl]
  refine ⟨hr.up x1 f3 (by
    rw [e0]
    exact (io2.lab (w' := upL wB (rO x) 0) 0 (upL_is rfl)).to (fun k hk => rdFn_mk hk)) (fun j h1 h2 h3 => mkB_o (by omega) (by omega)), f3⟩
/-- .. and its vehicle -/
theorem WVh.bill (hv : WVh B wB b v V vO Z) (hc : cS Z 12 = R) (hR : R ≤ 120) (hi : i < V) (x1 : x < R) (x2 : Z (280 + 7 * x) = nI i) (x3 : Z (280 + 7 * x + 5) = nI 1) : WVh (setf (setf B (vO i) 73 (.int (maxI (vhF Z i 4) (Z (280 + 7 * x + 2))))) (vO i) 72 (.int (vhF Z i 3 + nI 1))) wB b v V vO (mkB Bn x Z) ∧ Fr B wB (setf (setf B (vO i) 73 (.int (maxI (vhF Z i 4) (Z (280 + 7 * x + 2))))) (vO i) 72 (.int (vhF Z i 3 + nI 1))) wB (fun l => l = 1000 * b + (40 + i)) 0 0 := by
  have V15 := hv.n15
  have n3 : ¬ Z (280 + 7 * x + 5) = nI 3 := by rw [x3]; decide
  have vo := hv.o i hi
  have vo5 := (vo.set 4 (maxI (vhF Z i 4) (Z (280 + 7 * x + 2)))).set 3 (vhF Z i 3 + nI 1)
  have f5 : Fr B wB (setf (setf B (vO i) 73 (.int (maxI (vhF Z i 4) (Z (280 + 7 * x + 2))))) (vO i) 72 (.int (vhF Z i 3 + nI 1))) wB (fun l => l = 1000 * b + (40 + i)) 0 0 := (Fr.stf (X := fun l => l = 1000 * b + (40 + i)) vo.wy).trans (Fr.stf (X := fun l => l = 1000 * b + (40 + i)) vo.wy)
  exact ⟨hv.up hi f5 (vo5.to (fun k hk => by rw [vhF_mk (R := R) hc hR x1 x2 n3 (by omega) k hk])) (fun j m hj hne hm => vhF_mo (R := R) hc hR x1 x2 (by omega) (by omega) hne m hm), f5⟩
/-- one round of the loop over a trip's reads -/
theorem m_270s (hb : 0 < b) (hi : i < V) (hR : R ≤ 120) {j3 j6 : Option Value} {rl kk : Nat} (tc : gf B T 127 = some (.ref rl)) (r2 : RlO B wB rl 0 rO t.rs) (hl : t.rs.length < 1000) (o : WO B wB b p q s a v r bl mk w0) (hv : WVh B wB b v V vO Z) (hr : WRd B wB b r R rO Z) (hbl : WL B wB bl (1000 * b + 8) Bn bO) (hc : cS Z 12 = R) (hk : kk < t.rs.length) (ex : t.rs.getD kk 0 = x) (x1 : x < R) (x2 : Z (280 + 7 * x) = nI i) (x3 : Z (280 + 7 * x + 5) = nI 1) :
    ∃ B' wB', exG TB (d + 6) 270 59 [some (.ref p), some (.ref y), some (.ref (vO i)), j3, some (.ref T), some (.int (nI kk)), j6] [] B = exG TB (d + 6) 270 59 [some (.ref p), some (.ref y), some (.ref (vO i)), j3, some (.ref T), some (.int (nI (kk + 1))), some (.ref (rO x))] [] B' ∧ WVh B' wB' b v V vO (mkB Bn x Z) ∧ WRd B' wB' b r R rO (mkB Bn x Z) ∧ Fr B wB B' wB' (fun l => (1000 * b + 100 ≤ l ∧ l < 1000 * b + 220) ∨ l = 1000 * b + (40 + i)) 0 0 := by
  have V15 := hv.n15
  have q42 := r2.size (d := d + 5)
  have lc := r2.kc
  have q47 := r2.get (d := d + 3) hk
  rw [ex] at q47
  have n3 : ¬ Z (280 + 7 * x + 5) = nI 3 := by rw [x3]; decide
  have rlx : rlb Z b x = 1000 * b + (100 + x) := if_neg n3
  have io := hr.o x x1
  have c17 : cin (gcs B (rO x)) [17] = true := by rw [gcs_d io.c]; rfl
  have wx : wB (rO x) = 1000 * b + (100 + x) := by rw [io.wy, rlx]
  have g95 : gf B (rO x) 95 = some (.int (Z (280 + 7 * x + 5))) := io.fs 6 (by decide)
  have io1 := io.set 6 (nI 3)
  have f1 : Fr B wB (setf B (rO x) 95 (.int (nI 3))) wB (fun l => l = 1000 * b + (100 + x)) 0 0 := Fr.stf wx
  have o1 := o.fr f1 (by omega)
  have bl1 := hbl.fr f1 (by omega)
  have f12 := o1.f12
  have lcb := bl1.kc
  have q42b := bl1.size (d := d + 5)
  have g96 : gf (setf B (rO x) 95 (.int (nI 3))) (rO x) 96 = some (.int (Z (280 + 7 * x + 6))) := io1.fs 7 (by decide)
  obtain ⟨hr3, f3⟩ := hr.bill (Bn := Bn) x1 x3
  have hv3 := hv.fr f3 (by omega) (fun j hj => by omega)
  have r91 : gf (setf (setf B (rO x) 95 (.int (nI 3))) (rO x) 96 (.int (nI Bn))) (rO x) 91 = some (.int (Z (280 + 7 * x + 2))) := by
    rw [gf_setf_ne (by decide), gf_setf_ne (by decide)]
    exact io.fs 2 (by decide)
  obtain ⟨hv5, f5⟩ := hv3.bill (Bn := Bn) hc hR hi x1 x2 x3
  have vo := hv3.o i hi
  have v73 : gf (setf (setf B (rO x) 95 (.int (nI 3))) (rO x) 96 (.int (nI Bn))) (vO i) 73 = some (.int (vhF Z i 4)) := vo.fs 4 (by decide)
  have vo4 := vo.set 4 (maxI (vhF Z i 4) (Z (280 + 7 * x + 2)))
  have v72 : gf (setf (setf (setf B (rO x) 95 (.int (nI 3))) (rO x) 96 (.int (nI Bn))) (vO i) 73 (.int (maxI (vhF Z i 4) (Z (280 + 7 * x + 2))))) (vO i) 72 = some (.int (vhF Z i 3)) := (vo4.fs 3 (by decide)).trans (congrArg (fun z => some (Value.int z)) (if_neg (by decide)))
  have hr5 := hr3.fr f5 (by omega) (by omega) (fun j hj => by omega)
  refine ⟨_, _, ?_, hv5, hr5, (f3.mono (fun l h => Or.inl (by omega)) (Nat.le_refl _) (Nat.le_refl _)).trans (f5.mono (fun l h => Or.inr h) (Nat.le_refl _) (Nat.le_refl _))⟩
  refine x_270_59.trans ?_
  simp (disch := first | omega | (simp (disch := omega) only [nx_setf, nx_seta, nx_newo, nx_newa]; omega)) only [x_270_61, x_270_63, x_270_66, x_270_69, x_270_72, x_270_74, x_270_77, x_270_79, x_270_82n, x_270_82r, x_270_85, x_270_87, x_270_89, x_270_90, x_270_93, x_270_95, x_270_96, x_270_99, x_270_102, x_270_105, x_270_106, x_270_107, x_270_110, x_270_112, x_270_115, x_270_118, x_270_121, x_270_122, x_270_123, x_270_126, x_270_127, x_270_128, x_270_131, x_270_134, kv_s, ki_s, kj_s, kd_s, kq_s, kq_n, kq_o, ka_s, kc_r, kc_t, kc0_r, kc0_t, kch_r, kc0h_r, kw_s, kw0_s, kwh_s, kw0h_s, rg_ref, rg_null, rg_rf, ck_t, sel_some, lkn_hd, Option.isSome_some, Bool.true_and, Bool.and_true, okv_i, okv_l, okv_r, okv_n, okv_rf, okv_b, okv_0, okv_1, okv_f, okv_d, c1_i, c1_r, c1_n, c1_rf, c1_f, nI_add, n_mul, n_sub, n_pred, n_eq, n_le, n_lt, n_neN, n_Nne, N_lt, N_le, n_ltN, n_leN, rdI_n, rdJ_n, rdD_n, wrI_n, wrI_z0, wrI_z1, wrI_zb, wrJ_n, wrD_n, aln_s, okn_n, upd_is, upd_ne, Nat.add_zero, Nat.add_sub_cancel, decide_true, decide_false, cond_true, cond_false, if_true, if_false, ite_not, not_true_eq_false, not_false_eq_true, Nat.reduceEqDiff, Nat.reduceAdd, Nat.reduceMul, Nat.reduceSub, Nat.reduceLeDiff, tc, lc, q42, nle hk, q47, c17, ckT, g95, f12, lcb, q42b, g96, v73, r91, m_6, v72]
/-- the reads of a trip are billed -/
theorem m_270r (hb : 0 < b) (hi : i < V) (hR : R ≤ 120) {j3 : Option Value} : ∀ (re dn : List Nat) (B : Hp) (wB : Lb) (Z : Nat → Int32) (j6 : Option Value), t.rs = dn ++ re → t.rs.length < 1000 → TpO B wB T 0 0 rO sz t → WO B wB b p q s a v r bl mk w0 → WVh B wB b v V vO Z → WRd B wB b r R rO Z → WL B wB bl (1000 * b + 8) Bn bO → cS Z 12 = R → (∀ x, x ∈ re → x < R ∧ Z (280 + 7 * x) = nI i ∧ Z (280 + 7 * x + 5) = nI 1) → re.Nodup →
    ∃ B' wB' j6', exG TB (d + 6) 270 59 [some (.ref p), some (.ref y), some (.ref (vO i)), j3, some (.ref T), some (.int (nI dn.length)), j6] [] B = exG TB (d + 6) 270 137 [some (.ref p), some (.ref y), some (.ref (vO i)), j3, some (.ref T), some (.int (nI t.rs.length)), j6'] [] B' ∧ WVh B' wB' b v V vO (re.foldl (fun S r => mkB Bn r S) Z) ∧ WRd B' wB' b r R rO (re.foldl (fun S r => mkB Bn r S) Z) ∧ Fr B wB B' wB' (fun l => (1000 * b + 100 ≤ l ∧ l < 1000 * b + 220) ∨ l = 1000 * b + (40 + i)) 0 0
  | [], dn, B, wB, Z, j6, hrs, hl, tp, o, hv, hr, hbl, hc, hx, nd => by
    obtain ⟨rl, r1, r2⟩ := tp.rl
    have q42 := r2.size (d := d + 5)
    have lc := r2.kc
    have e : dn.length = t.rs.length := by rw [hrs]; simp
    rw [List.foldl_nil]
    refine ⟨B, wB, j6, ?_, hv, hr, Fr.rf⟩
    rw [e]
    refine x_270_59.trans ?_
    simp (disch := first | omega | (simp (disch := omega) only [nx_setf, nx_seta, nx_newo, nx_newa]; omega)) only [x_270_61, x_270_63, x_270_66, x_270_69, x_270_72, x_270_74, x_270_77, x_270_79, x_270_82n, x_270_82r, x_270_85, x_270_87, x_270_89, x_270_90, x_270_93, x_270_95, x_270_96, x_270_99, x_270_102, x_270_105, x_270_106, x_270_107, x_270_110, x_270_112, x_270_115, x_270_118, x_270_121, x_270_122, x_270_123, x_270_126, x_270_127, x_270_128, x_270_131, x_270_134, kv_s, ki_s, kj_s, kd_s, kq_s, kq_n, kq_o, ka_s, kc_r, kc_t, kc0_r, kc0_t, kch_r, kc0h_r, kw_s, kw0_s, kwh_s, kw0h_s, rg_ref, rg_null, rg_rf, ck_t, sel_some, lkn_hd, Option.isSome_some, Bool.true_and, Bool.and_true, okv_i, okv_l, okv_r, okv_n, okv_rf, okv_b, okv_0, okv_1, okv_f, okv_d, c1_i, c1_r, c1_n, c1_rf, c1_f, nI_add, n_mul, n_sub, n_pred, n_eq, n_le, n_lt, n_neN, n_Nne, N_lt, N_le, n_ltN, n_leN, rdI_n, rdJ_n, rdD_n, wrI_n, wrI_z0, wrI_z1, wrI_zb, wrJ_n, wrD_n, aln_s, okn_n, upd_is, upd_ne, Nat.add_zero, Nat.add_sub_cancel, decide_true, decide_false, cond_true, cond_false, if_true, if_false, ite_not, not_true_eq_false, not_false_eq_true, Nat.reduceEqDiff, Nat.reduceAdd, Nat.reduceMul, Nat.reduceSub, Nat.reduceLeDiff, r1, lc, q42, yle (Nat.le_refl t.rs.length)]
  | x :: re, dn, B, wB, Z, j6, hrs, hl, tp, o, hv, hr, hbl, hc, hx, nd => by
    have V15 := hv.n15
    obtain ⟨rl, r1, r2⟩ := tp.rl
    have hk : dn.length < t.rs.length := by rw [hrs]; simp
    have ex : t.rs.getD dn.length 0 = x := by rw [hrs]; simp
    obtain ⟨x1, x2, x3⟩ := hx x List.mem_cons_self
    obtain ⟨B1, w1, e1, hv1, hr1, f1⟩ := m_270s (d := d) (y := y) (j3 := j3) (j6 := j6) hb hi hR r1 r2 hl o hv hr hbl hc hk ex x1 x2 x3
    have c1 : cS (mkB Bn x Z) 12 = R := by unfold cS; rw [mkB_o (by omega) (by omega)]; exact hc
    obtain ⟨nd1, nd2⟩ := List.nodup_cons.mp nd
    obtain ⟨B', wB', j6', g1, g2, g3, g4⟩ := m_270r hb hi hR (j3 := j3) re (dn ++ [x]) B1 w1 (mkB Bn x Z) (some (.ref (rO x))) (by rw [hrs]; simp) hl (tp.fr f1 (by omega) (by omega) (by omega) (by omega)) (o.fr f1 (by omega)) hv1 hr1 (hbl.fr f1 (by omega)) c1 (fun z hz => by
      obtain ⟨y1, y2, y3⟩ := hx z (List.mem_cons_of_mem _ hz)
      have hne : z ≠ x := fun e => nd1 (e ▸ hz)
      rw [mkB_o (by omega) (by omega), mkB_o (by omega) (by omega)]
      exact ⟨y1, y2, y3⟩) nd2
    have hlen : (dn ++ [x]).length = dn.length + 1 := by simp
    rw [hlen] at g1
    rw [List.foldl_cons]
    exact ⟨B', wB', j6', e1.trans g1, g2, g3, f1.trans g4⟩
end
