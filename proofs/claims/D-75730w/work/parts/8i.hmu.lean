/-! HashMap: put -/
section
variable {nf : Nat → Option Nat} {fl : Nat → Bool} {cap h e : Nat}
theorem hdF_cases (hc : cap = 16 ∨ cap = 32) (hh : h < 24) :
    (hdF nf fl cap (h % cap) = nf h) ∨ ∃ h' q', h' ≠ h ∧ h' < 24 ∧ nf h' = some q' ∧ hdF nf fl cap (h % cap) = some q' ∧ nxF nf fl cap h' = nf h := by
  unfold hdF nxF
  rcases hc with hc | hc
  · subst hc
    by_cases h8 : h < 8
    · have e1 : h % 16 = h := by omega
      rw [e1, if_neg (by decide), if_pos h8]
      cases hf : nf h with
      | none =>
        cases hg : nf (h + 16) with
        | none => refine Or.inl ?_; cases fl h <;> rfl
        | some q => exact Or.inr ⟨h + 16, q, by omega, by omega, hg, by cases fl h <;> rfl, by rw [if_neg (by decide), if_neg (by omega), if_neg (by omega), Nat.add_sub_cancel, hf]; cases fl h <;> rfl⟩
      | some q0 =>
        cases hg : nf (h + 16) with
        | none => refine Or.inl ?_; cases fl h <;> rfl
        | some q =>
          cases hfl : fl h with
          | true => exact Or.inl rfl
          | false => exact Or.inr ⟨h + 16, q, by omega, by omega, hg, rfl, by rw [if_neg (by decide), if_neg (by omega), if_neg (by omega), Nat.add_sub_cancel, hf, hfl]; rfl⟩
    · by_cases h16 : h < 16
      · have e1 : h % 16 = h := by omega
        rw [e1, if_neg (by decide), if_neg h8]
        exact Or.inl rfl
      · have e1 : h % 16 = h - 16 := by omega
        have e2 : h - 16 + 16 = h := by omega
        rw [e1, if_neg (by decide), if_pos (by omega), e2]
        cases hf : nf h with
        | none =>
          cases hg : nf (h - 16) with
          | none => refine Or.inl ?_; cases fl (h - 16) <;> rfl
          | some q => exact Or.inr ⟨h - 16, q, by omega, by omega, hg, by cases fl (h - 16) <;> rfl, by rw [if_neg (by decide), if_pos (by omega), e2, hf]; cases fl (h - 16) <;> rfl⟩
        | some q0 =>
          cases hg : nf (h - 16) with
          | none => refine Or.inl ?_; cases fl (h - 16) <;> rfl
          | some q =>
            cases hfl : fl (h - 16) with
            | false => exact Or.inl rfl
            | true => exact Or.inr ⟨h - 16, q, by omega, by omega, hg, rfl, by rw [if_neg (by decide), if_pos (by omega), e2, hf, hfl]; rfl⟩
  · subst hc
    have e1 : h % 32 = h := by omega
    rw [e1, if_pos rfl]
    exact Or.inl rfl
def nfU (nf : Nat → Option Nat) (h e : Nat) : Nat → Option Nat := fun x => if x = h then some e else nf x
def flU (fl : Nat → Bool) (h : Nat) : Nat → Bool := fun i => if i = h % 16 then decide (16 ≤ h) else fl i
theorem nfU_is : nfU nf h e h = some e := if_pos rfl
theorem nfU_ne {x : Nat} (hx : x ≠ h) : nfU nf h e x = nf x := if_neg hx
theorem hdF_U (hc : cap = 16 ∨ cap = 32) (hh : h < 24) (hn : nf h = none) : ∀ i, i < cap → hdF (nfU nf h e) (flU fl h) cap i = if i = h % cap ∧ hdF nf fl cap i = none then some e else hdF nf fl cap i := by
  intro i hi
  rcases hc with hc | hc <;> subst hc
  · cases e1 : nf i <;> cases e2 : nf (i + 16) <;> by_cases hx : i = h % 16 <;> by_cases h16 : h < 16 <;> grind [hdF, nfU, flU, Option.or]
  · grind [hdF, nfU, flU]
theorem nxF_U (hc : cap = 16 ∨ cap = 32) (hh : h < 24) (hn : nf h = none) : ∀ x q, x < 24 → nf x = some q → nxF (nfU nf h e) (flU fl h) cap x = if x % cap = h % cap then some e else nxF nf fl cap x := by
  intro x q hx hq
  rcases hc with hc | hc <;> subst hc
  · grind [nxF, nfU, flU]
  · grind [nxF, nfU, flU]
theorem nxF_Uh (hc : cap = 16 ∨ cap = 32) (hh : h < 24) (hn : nf h = none) : nxF (nfU nf h e) (flU fl h) cap h = none := by
  rcases hc with hc | hc <;> subst hc
  · grind [nxF, nfU, flU]
  · grind [nxF, nfU, flU]
/-- who stands first, by his place -/
theorem hdF_mem (hc : cap = 16 ∨ cap = 32) {i q : Nat} (hi : i < cap) (hq : hdF nf fl cap i = some q) : ∃ x, x % cap = i ∧ nf x = some q := by
  rcases hc with hc | hc <;> subst hc
  · unfold hdF at hq
    rw [if_neg (by decide)] at hq
    by_cases h8 : i < 8
    · rw [if_pos h8] at hq
      cases hf : nf i with
      | none =>
        rw [hf] at hq
        exact ⟨i + 16, by omega, by cases fl i <;> simpa using hq⟩
      | some q0 =>
        cases hg : nf (i + 16) with
        | none => rw [hf, hg] at hq; exact ⟨i, by omega, by rw [hf]; cases fl i <;> simpa using hq⟩
        | some q1 =>
          rw [hf, hg] at hq
          cases hfl : fl i with
          | true => rw [hfl] at hq; exact ⟨i, by omega, by rw [hf]; simpa using hq⟩
          | false => rw [hfl] at hq; exact ⟨i + 16, by omega, by rw [hg]; simpa using hq⟩
    · rw [if_neg h8] at hq
      exact ⟨i, by omega, hq⟩
  · unfold hdF at hq
    rw [if_pos rfl] at hq
    exact ⟨i, by omega, hq⟩
end
theorem dv28_143 : dv28 143 = some (.int (nI 0)) := rfl
theorem dv28_144 : dv28 144 = some .null := rfl
theorem dv28_145 : dv28 145 = some .null := rfl
theorem dv28_146 : dv28 146 = some .null := rfl
/-- a node laid -/
def hnH (A : Hp) (h : Int32) (k x : Nat) : Hp := setf (setf (setf (setf (newo A 28 4 dv28) (nx A) 143 (.int h)) (nx A) 144 (.ref k)) (nx A) 145 (.ref x)) (nx A) 146 .null
section
variable {A A4 : Hp} {w w4 : Lb} {d p k x h lb cap n c s t : Nat} {tb : Option Nat} {nf : Nat → Option Nat} {fl : Nat → Bool} {kO vO : Nat → Nat} {vv : Nat → Int32} {i v : Int32} {X : Nat → Prop} {ci ck : Nat}
theorem m_35 (hk : Kd A k ck) (hx : Kd A x ci) : evG TB (d + 2) 35 [.ref p, .int i, .ref k, .ref x, .null] A = some (.inl (some (.ref (nx A))), hnH A i k x) := by
  unfold hnH
  have k1 := hk.1
  have x1 := hx.1
  simp (disch := first | omega | (simp (disch := omega) only [nx_setf, nx_seta, nx_newo, nx_newa]; omega)) only [e_35, x_35_0, x_35_3, x_35_4, x_35_5, x_35_6, x_35_7, x_35_9, x_35_12, e_97, x_97_0, x_97_1, x_97_4, x_97_5, x_97_6, x_97_9, x_97_10, x_97_11, x_97_14, x_97_15, x_97_16, x_97_19, x_97_20, x_97_22, x_97_25, e_0, x_0_0, x_0_1, x_0_4, kv_s, ki_s, kj_s, kd_s, kq_s, kq_n, kq_o, ka_s, kc_r, kc_t, kc0_r, kc0_t, kch_r, kc0h_r, kw_s, kw0_s, kwh_s, kw0h_s, rg_ref, rg_null, rg_rf, ck_t, sel_some, lkn_hd, Option.isSome_some, Bool.true_and, Bool.and_true, okv_i, okv_l, okv_r, okv_n, okv_rf, okv_b, okv_0, okv_1, okv_f, okv_d, c1_i, c1_r, c1_n, c1_rf, c1_f, nI_add, n_mul, n_sub, n_pred, n_eq, n_le, n_lt, n_neN, n_Nne, N_lt, N_le, n_ltN, n_leN, rdI_n, rdJ_n, rdD_n, wrI_n, wrI_z0, wrI_z1, wrI_zb, wrJ_n, wrD_n, aln_s, okn_n, upd_is, upd_ne, Nat.add_zero, Nat.add_sub_cancel, decide_true, decide_false, cond_true, cond_false, if_true, if_false, ite_not, not_true_eq_false, not_false_eq_true, Nat.reduceEqDiff, Nat.reduceAdd, Nat.reduceMul, Nat.reduceSub, Nat.reduceLeDiff, gf_setf_ne, gf_setf_p, gf_setf_is, va_rf_s, va_rf_n, gf_seta, ga_setf, gc_setf, gc_seta, ga_seta_ne, ga_seta_eq, gf_new, gc_new, gf_newo_o, gc_newo_o, ga_newo_o, ga_new, gf_newa_o, gc_newa_o, ga_newa_o, nx_setf, nx_seta, nx_newo, nx_newa, su_setf, su_seta, su_newo, su_newa, sg_setf, sg_seta, sg_newo, sg_newa, okq_n, dv28_143, dv28_144, dv28_145, dv28_146]
theorem hnH_fr : Fr A w (hnH A i k x) (upL w (nx A) lb) (fun l => l = lb) 1 4 := by
  have f1 : Fr A w (newo A 28 4 dv28) (upL w (nx A) lb) (fun l => l = lb) 1 4 := Fr.nwo
  have hl : upL w (nx A) lb (nx A) = lb := upL_is rfl
  exact ((((f1.trans (Fr.stf hl)).trans (Fr.stf hl)).trans (Fr.stf hl)).trans (Fr.stf hl)).mono (fun _ h => h) (Nat.le_refl _) (Nat.le_refl _)
theorem hnH_nx : nx (hnH A i k x) = nx A + 1 := rfl
theorem hnH_o {q f : Nat} (hq : q < nx A) : gf (hnH A i k x) q f = gf A q f := by
  unfold hnH
  simp (disch := first | omega | (simp (disch := omega) only [nx_setf, nx_seta, nx_newo, nx_newa]; omega)) only [gf_setf_ne, gf_setf_p, gf_setf_is, va_rf_s, va_rf_n, gf_seta, ga_setf, gc_setf, gc_seta, ga_seta_ne, ga_seta_eq, gf_new, gc_new, gf_newo_o, gc_newo_o, ga_newo_o, ga_new, gf_newa_o, gc_newa_o, ga_newa_o, nx_setf, nx_seta, nx_newo, nx_newa, su_setf, su_seta, su_newo, su_newa, sg_setf, sg_seta, sg_newo, sg_newa, okq_n]
theorem hnH_ga {q : Nat} (hq : q < nx A) : ga (hnH A i k x) q = ga A q := by
  unfold hnH
  simp (disch := first | omega | (simp (disch := omega) only [nx_setf, nx_seta, nx_newo, nx_newa]; omega)) only [gf_setf_ne, gf_setf_p, gf_setf_is, va_rf_s, va_rf_n, gf_seta, ga_setf, gc_setf, gc_seta, ga_seta_ne, ga_seta_eq, gf_new, gc_new, gf_newo_o, gc_newo_o, ga_newo_o, ga_new, gf_newa_o, gc_newa_o, ga_newa_o, nx_setf, nx_seta, nx_newo, nx_newa, su_setf, su_seta, su_newo, su_newa, sg_setf, sg_seta, sg_newo, sg_newa, okq_n]
theorem hnH_c : gc (hnH A i k x) (nx A) = some 28 := by
  unfold hnH
  simp (disch := first | omega | (simp (disch := omega) only [nx_setf, nx_seta, nx_newo, nx_newa]; omega)) only [gf_setf_ne, gf_setf_p, gf_setf_is, va_rf_s, va_rf_n, gf_seta, ga_setf, gc_setf, gc_seta, ga_seta_ne, ga_seta_eq, gf_new, gc_new, gf_newo_o, gc_newo_o, ga_newo_o, ga_new, gf_newa_o, gc_newa_o, ga_newa_o, nx_setf, nx_seta, nx_newo, nx_newa, su_setf, su_seta, su_newo, su_newa, sg_setf, sg_seta, sg_newo, sg_newa, okq_n]
theorem hnH_1 : gf (hnH A i k x) (nx A) 143 = some (.int i) := by
  unfold hnH
  simp (disch := first | omega | (simp (disch := omega) only [nx_setf, nx_seta, nx_newo, nx_newa]; omega)) only [gf_setf_ne, gf_setf_p, gf_setf_is, va_rf_s, va_rf_n, gf_seta, ga_setf, gc_setf, gc_seta, ga_seta_ne, ga_seta_eq, gf_new, gc_new, gf_newo_o, gc_newo_o, ga_newo_o, ga_new, gf_newa_o, gc_newa_o, ga_newa_o, nx_setf, nx_seta, nx_newo, nx_newa, su_setf, su_seta, su_newo, su_newa, sg_setf, sg_seta, sg_newo, sg_newa, okq_n]
theorem hnH_2 : gf (hnH A i k x) (nx A) 144 = some (.ref k) := by
  unfold hnH
  simp (disch := first | omega | (simp (disch := omega) only [nx_setf, nx_seta, nx_newo, nx_newa]; omega)) only [gf_setf_ne, gf_setf_p, gf_setf_is, va_rf_s, va_rf_n, gf_seta, ga_setf, gc_setf, gc_seta, ga_seta_ne, ga_seta_eq, gf_new, gc_new, gf_newo_o, gc_newo_o, ga_newo_o, ga_new, gf_newa_o, gc_newa_o, ga_newa_o, nx_setf, nx_seta, nx_newo, nx_newa, su_setf, su_seta, su_newo, su_newa, sg_setf, sg_seta, sg_newo, sg_newa, okq_n]
theorem hnH_3 : gf (hnH A i k x) (nx A) 145 = some (.ref x) := by
  unfold hnH
  simp (disch := first | omega | (simp (disch := omega) only [nx_setf, nx_seta, nx_newo, nx_newa]; omega)) only [gf_setf_ne, gf_setf_p, gf_setf_is, va_rf_s, va_rf_n, gf_seta, ga_setf, gc_setf, gc_seta, ga_seta_ne, ga_seta_eq, gf_new, gc_new, gf_newo_o, gc_newo_o, ga_newo_o, ga_new, gf_newa_o, gc_newa_o, ga_newa_o, nx_setf, nx_seta, nx_newo, nx_newa, su_setf, su_seta, su_newo, su_newa, sg_setf, sg_seta, sg_newo, sg_newa, okq_n]
theorem hnH_4 : gf (hnH A i k x) (nx A) 146 = some .null := by
  unfold hnH
  simp (disch := first | omega | (simp (disch := omega) only [nx_setf, nx_seta, nx_newo, nx_newa]; omega)) only [gf_setf_ne, gf_setf_p, gf_setf_is, va_rf_s, va_rf_n, gf_seta, ga_setf, gc_setf, gc_seta, ga_seta_ne, ga_seta_eq, gf_new, gc_new, gf_newo_o, gc_newo_o, ga_newo_o, ga_new, gf_newa_o, gc_newa_o, ga_newa_o, nx_setf, nx_seta, nx_newo, nx_newa, su_setf, su_seta, su_newo, su_newa, sg_setf, sg_seta, sg_newo, sg_newa, okq_n]
def updI (vv : Nat → Int32) (h : Nat) (v : Int32) : Nat → Int32 := fun i => if i = h then v else vv i
theorem updI_is : updI vv h v h = v := if_pos rfl
theorem updI_ne {q : Nat} (hq : q ≠ h) : updI vv h v q = vv q := if_neg hq
/-- a node more -/
theorem HMs.ins (m : HMs A w p lb cap (some t) nf fl kO vO vv n) (hc : cap = 16 ∨ cap = 32) (hh : h < 24) (hn : nf h = none) (hk : MkO A k h) (wk : w k = 0) (hx : InS A x v) (wx : w x = 0) (f : Fr A w A4 w4 (fun l => l = lb) c s) (wn : w4 (nx A) = lb) (h32 : ∀ v, gf A p 32 = some v → gf A4 p 32 = some v) (hes : ∀ y v, gf A y 147 = some v → w y = lb → gf A4 y 147 = some v ∧ w4 y = lb) (h31 : gf A4 p 31 = some (.ref t)) (h33 : gf A4 p 33 = some (.int (nI (n + 1)))) (h34 : ∃ z, gf A4 p 34 = some (.int z)) (h35 : gf A4 p 35 = some (.int (nI (cap * 3 / 4))))
    (hwt : w4 t = lb) (hwp : w4 p = lb) (hwn : ∀ x q, nf x = some q → w4 q = lb)
    (hga : ∃ e, ga A4 t = some (tbA e cap) ∧ ∀ i, i < cap → e i = if i = h % cap ∧ hdF nf fl cap i = none then some (nx A) else hdF nf fl cap i)
    (hno : ∀ x q g v, nf x = some q → g ≠ 146 → gf A q g = some v → gf A4 q g = some v) (hnn : ∀ x q, nf x = some q → gf A4 q 146 = some (va_rf (if x % cap = h % cap then some (nx A) else nxF nf fl cap x)))
    (e1 : gc A4 (nx A) = some 28) (e2 : gf A4 (nx A) 143 = some (.int (nI h))) (e3 : gf A4 (nx A) 144 = some (.ref k)) (e4 : gf A4 (nx A) 145 = some (.ref x)) (e5 : gf A4 (nx A) 146 = some .null) :
    HMs A4 w4 p lb cap (some t) (nfU nf h (nx A)) (flU fl h) (updN kO h k) (updN vO h x) (updI vv h v) (n + 1) := by
  obtain ⟨c1, wp, tt, ⟨z, es, es2⟩, sz, md, th, cp, nd, ij, cn, l0, le⟩ := m
  have l0' : ¬ (0 = lb) := fun e => l0 e.symm
  obtain ⟨e, g1, g2⟩ := hga
  refine ⟨f.cc c1, hwp, h31, ⟨z, h32 _ es, fun y hy => (by obtain ⟨u1, u2, u3⟩ := es2 y hy; have u := hes y _ u3 u1; exact ⟨u.2, f.cc u2, u.1⟩)⟩, h33, h34, h35, Or.inr ⟨hc, t, e, rfl, hwt, g1, fun i hi => (g2 i hi).trans (hdF_U hc hh hn i hi).symm⟩, fun y q hq => ?_, fun y y' q hy hy' => ?_, ?_, l0, fun e => by omega⟩
  · by_cases hy : y = h
    · subst hy
      rw [nfU_is] at hq
      cases hq
      rw [updN_is rfl, updN_is rfl, updI_is]
      have ck := gc_lt hk.c
      exact ⟨hh, wn, e1, e2, e3, hk.fr f (by rw [wk]; exact l0'), by rw [f.lb (by rw [wk]; exact l0') ck]; exact wk, e4, hx.fr f (by rw [wx]; exact l0'), by rw [f.lb (by rw [wx]; exact l0') hx.k1.1]; exact wx, by rw [nxF_Uh hc hh hn]; exact e5⟩
    · rw [nfU_ne hy] at hq
      rw [updN_ne hy, updN_ne hy, updI_ne hy]
      obtain ⟨n0, n1, n2, n3, n4, n5, n6, n7, n8, n9, n10⟩ := nd y q hq
      have ck := gc_lt n5.c
      exact ⟨n0, hwn y q hq, f.cc n2, hno y q _ _ hq (by decide) n3, hno y q _ _ hq (by decide) n4, n5.fr f (by rw [n6]; exact l0'), by rw [f.lb (by rw [n6]; exact l0') ck]; exact n6, hno y q _ _ hq (by decide) n7, n8.fr f (by rw [n9]; exact l0'), by rw [f.lb (by rw [n9]; exact l0') n8.k1.1]; exact n9, by rw [hnn y q hq, nxF_U hc hh hn y q n0 hq]⟩
  · have hlt : ∀ y q, nf y = some q → q < nx A := fun y q hq => gc_lt (nd y q hq).2.2.1
    by_cases h1 : y = h
    · by_cases h2 : y' = h
      · rw [h1, h2]
      · rw [h1, nfU_is] at hy
        rw [nfU_ne h2] at hy'
        cases hy
        exact absurd (hlt _ _ hy') (Nat.lt_irrefl _)
    · rw [nfU_ne h1] at hy
      by_cases h2 : y' = h
      · rw [h2, nfU_is] at hy'
        cases hy'
        exact absurd (hlt _ _ hy) (Nat.lt_irrefl _)
      · rw [nfU_ne h2] at hy'
        exact ij y y' q hy hy'
  · have := nC_upd (e := nx A) hn (k := 24)
    rw [if_pos hh, ← cn] at this
    exact this.symm
theorem tbRd {e : Nat → Option Nat} {i : Nat} (hi : i < cap) (hc : cap ≤ 1000) : rdQ (some (tbA e cap)) (nI i) = some (e i) := rdQ_n (by omega) hi (by omega)
theorem capand (hc : cap = 16 ∨ cap = 32) (hh : h < 24) : nI (cap - 1) &&& nI h = nI (h % cap) := by
  rcases hc with hc | hc <;> subst hc
  · exact and_15 (by omega)
  · exact and_31 (by omega)
/-- at the table: a new mark -/
theorem m_33_new (m : HMs A w p lb cap (some t) nf fl kO vO vv n) (hc : cap = 16 ∨ cap = 32) (hh : h < 24) (hn : nf h = none) (hle : n ≤ cap * 3 / 4) (hk : MkO A k h) (wk : w k = 0) (hx : InS A x v) (wx : w x = 0) : ∃ A' w' cap' t', exG TB (d + 3) 33 29 [some (.ref p), some (.int (nI h)), some (.ref k), some (.ref x), some (.int (nI 0)), some (.int (nI 1)), some (.ref t), none, some (.int (nI cap)), none, none, none, none] [] A = some (.inl (some .null), A') ∧ HMs A' w' p lb cap' (some t') (nfU nf h (nx A)) (flU fl h) (updN kO h k) (updN vO h x) (updI vv h v) (n + 1) ∧ n + 1 ≤ cap' * 3 / 4 ∧ Fr A w A' w' (fun l => l = lb) 2 36 := by
  have m0 := m
  have hc1 : 1 ≤ cap := by rcases hc with h | h <;> rw [h] <;> decide
  have hcap : cap ≤ 1000 := by rcases hc with h | h <;> rw [h] <;> decide
  obtain ⟨c1, wp, tt, ⟨zs, es, es2⟩, sz, ⟨z, md⟩, th, cp, nd, ij, cn, l0, le⟩ := m
  obtain ⟨e, t2, t3, t4⟩ : ∃ e, w t = lb ∧ ga A t = some (tbA e cap) ∧ ∀ i, i < cap → e i = hdF nf fl cap i := by
    rcases cp with cp | ⟨_, t', e, g1, g2⟩
    · cases cp.2
    · cases g1; exact ⟨e, g2⟩
  rw [va_rf_s] at tt
  have hp := gc_lt c1
  have ht := ga_lt t3
  have lk := gc_lt hk.c
  have lx := hx.k1.1
  have hi : h % cap < cap := Nat.mod_lt _ (by omega)
  have rd := tbRd (e := e) hi hcap
  rw [t4 _ hi] at rd
  have an := capand (h := h) hc hh
  have q35 := m_35 (d := d + 1) (p := p) (i := nI h) (Kd.of hk.c) hx.k1
  have q37 : ∀ B, evG TB (d + 3) 37 [.ref p, .int (nI 1)] B = some (.inl none, B) := fun B => by simp only [e_37, x_37_0, kv_s, ki_s, kj_s, kd_s, kq_s, kq_n, kq_o, ka_s, kc_r, kc_t, kc0_r, kc0_t, kch_r, kc0h_r, kw_s, kw0_s, kwh_s, kw0h_s, rg_ref, rg_null, rg_rf, ck_t, sel_some, lkn_hd, Option.isSome_some, Bool.true_and, Bool.and_true, okv_i, okv_l, okv_r, okv_n, okv_rf, okv_b, okv_0, okv_1, okv_f, okv_d, c1_i, c1_r, c1_n, c1_rf, c1_f, nI_add, n_mul, n_sub, n_pred, n_eq, n_le, n_lt, n_neN, n_Nne, N_lt, N_le, n_ltN, n_leN, rdI_n, rdJ_n, rdD_n, wrI_n, wrI_z0, wrI_z1, wrI_zb, wrJ_n, wrD_n, aln_s, okn_n, upd_is, upd_ne, Nat.add_zero, Nat.add_sub_cancel, decide_true, decide_false, cond_true, cond_false, if_true, if_false, ite_not, not_true_eq_false, not_false_eq_true, Nat.reduceEqDiff, Nat.reduceAdd, Nat.reduceMul, Nat.reduceSub, Nat.reduceLeDiff]
  have c36 : ∀ B, gc B p = some 6 → cin (gcs B p) [6] = true := fun B hB => by rw [gcs_d hB]; rfl
  -- what comes after the node
  have fin : ∀ (A2 : Hp) (i7 i9 i10 i11 i12 : Option Value), (∃ y, i10 = some y ∧ y = .null ∨ True) → gf A2 p 34 = some (.int z) → gf A2 p 33 = some (.int (nI n)) → gf A2 p 35 = some (.int (nI (cap * 3 / 4))) → gc A2 p = some 6 →
      HMs (setf (setf A2 p 34 (.int (z + nI 1))) p 33 (.int (nI (n + 1)))) (upL w (nx A) lb) p lb cap (some t) (nfU nf h (nx A)) (flU fl h) (updN kO h k) (updN vO h x) (updI vv h v) (n + 1) → Fr A w A2 (upL w (nx A) lb) (fun l => l = lb) 1 4 →
      ∃ A' w' cap' t', exG TB (d + 3) 33 259 [some (.ref p), some (.int (nI h)), some (.ref k), some (.ref x), some (.int (nI 0)), some (.int (nI 1)), some (.ref t), i7, some (.int (nI cap)), i9, i10, i11, i12] [] A2 = some (.inl (some .null), A') ∧ HMs A' w' p lb cap' (some t') (nfU nf h (nx A)) (flU fl h) (updN kO h k) (updN vO h x) (updI vv h v) (n + 1) ∧ n + 1 ≤ cap' * 3 / 4 ∧ Fr A w A' w' (fun l => l = lb) 2 36 := by
    intro A2 i7 i9 i10 i11 i12 _ k34 k33 k35 kc hm f
    have wp' : upL w (nx A) lb p = lb := by rw [upL_ne (Nat.ne_of_lt hp)]; exact wp
    have lp := gc_lt kc
    have f2 := (f.trans (Fr.stf (f := 34) (v := .int (z + nI 1)) (A := A2) wp')).trans (Fr.stf (f := 33) (v := .int (nI (n + 1))) wp')
    rcases Nat.lt_or_ge n (cap * 3 / 4) with hl | hl
    · refine ⟨_, _, cap, t, ?_, hm, hl, f2.mono (fun _ h => h) (by omega) (by omega)⟩
      simp (disch := first | omega | (simp (disch := omega) only [nx_setf, nx_seta, nx_newo, nx_newa]; omega)) only [x_33_0, x_33_1, x_33_4, x_33_5, x_33_7n, x_33_7r, x_33_10, x_33_12, x_33_13, x_33_14, x_33_16, x_33_19, x_33_20, x_33_23, x_33_24, x_33_26, x_33_27, x_33_29, x_33_31, x_33_33, x_33_34, x_33_35, x_33_36, x_33_37, x_33_38, x_33_40, x_33_41, x_33_42, x_33_44n, x_33_44r, x_33_47, x_33_49, x_33_51, x_33_52, x_33_53, x_33_54, x_33_55, x_33_56, x_33_59r, x_33_59n, x_33_60, x_33_63, x_33_65, x_33_68, x_33_69, x_33_72, x_33_74, x_33_77, x_33_78, x_33_80, x_33_81, x_33_81rn, x_33_81nr, x_33_81nn, x_33_84, x_33_85n, x_33_85r, x_33_88, x_33_89, x_33_91, x_33_94, x_33_97, x_33_99, x_33_101, x_33_104, x_33_106n, x_33_106o, x_33_109, x_33_112, x_33_117, x_33_118, x_33_120, x_33_121, x_33_122, x_33_126, x_33_128, x_33_131, x_33_132, x_33_136, x_33_139, x_33_140, x_33_142n, x_33_142r, x_33_145, x_33_147, x_33_148, x_33_149, x_33_150, x_33_151, x_33_152, x_33_155, x_33_158, x_33_160, x_33_162, x_33_165, x_33_166, x_33_168, x_33_172, x_33_175, x_33_177, x_33_180, x_33_181, x_33_184, x_33_186, x_33_189, x_33_190, x_33_192, x_33_193, x_33_193rn, x_33_193nr, x_33_193nn, x_33_196, x_33_197n, x_33_197r, x_33_200, x_33_201, x_33_203, x_33_206, x_33_209, x_33_212, x_33_214, x_33_216, x_33_219, x_33_222, x_33_224n, x_33_224r, x_33_227, x_33_229, x_33_232, x_33_234, x_33_236, x_33_239, x_33_241n, x_33_241r, x_33_244, x_33_246, x_33_247, x_33_250, x_33_251, x_33_253, x_33_256, x_33_258, x_33_259, x_33_260, x_33_261, x_33_264, x_33_265, x_33_266, x_33_269, x_33_270, x_33_271, x_33_274, x_33_275, x_33_276, x_33_277, x_33_280, x_33_281, x_33_284, x_33_287, x_33_288, x_33_291, x_33_292, x_33_293, x_33_295, x_33_298, x_33_299, kv_s, ki_s, kj_s, kd_s, kq_s, kq_n, kq_o, ka_s, kc_r, kc_t, kc0_r, kc0_t, kch_r, kc0h_r, kw_s, kw0_s, kwh_s, kw0h_s, rg_ref, rg_null, rg_rf, ck_t, sel_some, lkn_hd, Option.isSome_some, Bool.true_and, Bool.and_true, okv_i, okv_l, okv_r, okv_n, okv_rf, okv_b, okv_0, okv_1, okv_f, okv_d, c1_i, c1_r, c1_n, c1_rf, c1_f, nI_add, n_mul, n_sub, n_pred, n_eq, n_le, n_lt, n_neN, n_Nne, N_lt, N_le, n_ltN, n_leN, rdI_n, rdJ_n, rdD_n, wrI_n, wrI_z0, wrI_z1, wrI_zb, wrJ_n, wrD_n, aln_s, okn_n, upd_is, upd_ne, Nat.add_zero, Nat.add_sub_cancel, decide_true, decide_false, cond_true, cond_false, if_true, if_false, ite_not, not_true_eq_false, not_false_eq_true, Nat.reduceEqDiff, Nat.reduceAdd, Nat.reduceMul, Nat.reduceSub, Nat.reduceLeDiff, gf_setf_ne, gf_setf_p, gf_setf_is, va_rf_s, va_rf_n, gf_seta, ga_setf, gc_setf, gc_seta, ga_seta_ne, ga_seta_eq, gf_new, gc_new, gf_newo_o, gc_newo_o, ga_newo_o, ga_new, gf_newa_o, gc_newa_o, ga_newa_o, nx_setf, nx_seta, nx_newo, nx_newa, su_setf, su_seta, su_newo, su_newa, sg_setf, sg_seta, sg_newo, sg_newa, okq_n, k34, k33, k35, kc, q37, yle (show n + 1 ≤ cap * 3 / 4 from hl)]
    · have h16 : cap = 16 := by
        rcases hc with hc | hc
        · exact hc
        · have : n ≤ 23 := by
            have := nC_upd (e := nx A) hn (k := 24)
            rw [if_pos hh, ← cn] at this
            have l24 := nC_le (nf := fun x => if x = h then some (nx A) else nf x) (k := 24)
            omega
          omega
      subst h16
      obtain ⟨A', e1, e2, e3⟩ := m_34_16 (d := d + 2) hm
      refine ⟨A', _, 32, _, ?_, e2, by omega, (f2.trans e3).mono (fun _ h => h) (by omega) (by omega)⟩
      have hn12 : n = 12 := by omega
      simp (disch := first | omega | (simp (disch := omega) only [nx_setf, nx_seta, nx_newo, nx_newa]; omega)) only [x_33_0, x_33_1, x_33_4, x_33_5, x_33_7n, x_33_7r, x_33_10, x_33_12, x_33_13, x_33_14, x_33_16, x_33_19, x_33_20, x_33_23, x_33_24, x_33_26, x_33_27, x_33_29, x_33_31, x_33_33, x_33_34, x_33_35, x_33_36, x_33_37, x_33_38, x_33_40, x_33_41, x_33_42, x_33_44n, x_33_44r, x_33_47, x_33_49, x_33_51, x_33_52, x_33_53, x_33_54, x_33_55, x_33_56, x_33_59r, x_33_59n, x_33_60, x_33_63, x_33_65, x_33_68, x_33_69, x_33_72, x_33_74, x_33_77, x_33_78, x_33_80, x_33_81, x_33_81rn, x_33_81nr, x_33_81nn, x_33_84, x_33_85n, x_33_85r, x_33_88, x_33_89, x_33_91, x_33_94, x_33_97, x_33_99, x_33_101, x_33_104, x_33_106n, x_33_106o, x_33_109, x_33_112, x_33_117, x_33_118, x_33_120, x_33_121, x_33_122, x_33_126, x_33_128, x_33_131, x_33_132, x_33_136, x_33_139, x_33_140, x_33_142n, x_33_142r, x_33_145, x_33_147, x_33_148, x_33_149, x_33_150, x_33_151, x_33_152, x_33_155, x_33_158, x_33_160, x_33_162, x_33_165, x_33_166, x_33_168, x_33_172, x_33_175, x_33_177, x_33_180, x_33_181, x_33_184, x_33_186, x_33_189, x_33_190, x_33_192, x_33_193, x_33_193rn, x_33_193nr, x_33_193nn, x_33_196, x_33_197n, x_33_197r, x_33_200, x_33_201, x_33_203, x_33_206, x_33_209, x_33_212, x_33_214, x_33_216, x_33_219, x_33_222, x_33_224n, x_33_224r, x_33_227, x_33_229, x_33_232, x_33_234, x_33_236, x_33_239, x_33_241n, x_33_241r, x_33_244, x_33_246, x_33_247, x_33_250, x_33_251, x_33_253, x_33_256, x_33_258, x_33_259, x_33_260, x_33_261, x_33_264, x_33_265, x_33_266, x_33_269, x_33_270, x_33_271, x_33_274, x_33_275, x_33_276, x_33_277, x_33_280, x_33_281, x_33_284, x_33_287, x_33_288, x_33_291, x_33_292, x_33_293, x_33_295, x_33_298, x_33_299, kv_s, ki_s, kj_s, kd_s, kq_s, kq_n, kq_o, ka_s, kc_r, kc_t, kc0_r, kc0_t, kch_r, kc0h_r, kw_s, kw0_s, kwh_s, kw0h_s, rg_ref, rg_null, rg_rf, ck_t, sel_some, lkn_hd, Option.isSome_some, Bool.true_and, Bool.and_true, okv_i, okv_l, okv_r, okv_n, okv_rf, okv_b, okv_0, okv_1, okv_f, okv_d, c1_i, c1_r, c1_n, c1_rf, c1_f, nI_add, n_mul, n_sub, n_pred, n_eq, n_le, n_lt, n_neN, n_Nne, N_lt, N_le, n_ltN, n_leN, rdI_n, rdJ_n, rdD_n, wrI_n, wrI_z0, wrI_z1, wrI_zb, wrJ_n, wrD_n, aln_s, okn_n, upd_is, upd_ne, Nat.add_zero, Nat.add_sub_cancel, decide_true, decide_false, cond_true, cond_false, if_true, if_false, ite_not, not_true_eq_false, not_false_eq_true, Nat.reduceEqDiff, Nat.reduceAdd, Nat.reduceMul, Nat.reduceSub, Nat.reduceLeDiff, gf_setf_ne, gf_setf_p, gf_setf_is, va_rf_s, va_rf_n, gf_seta, ga_setf, gc_setf, gc_seta, ga_seta_ne, ga_seta_eq, gf_new, gc_new, gf_newo_o, gc_newo_o, ga_newo_o, ga_new, gf_newa_o, gc_newa_o, ga_newa_o, nx_setf, nx_seta, nx_newo, nx_newa, su_setf, su_seta, su_newo, su_newa, sg_setf, sg_seta, sg_newo, sg_newa, okq_n, k34, k33, k35, kc, q37, nle (show 16 * 3 / 4 < n + 1 by omega), e1, e2.c]
  rcases hdF_cases (nf := nf) (fl := fl) hc hh with hb | ⟨h', q', hne, hh', hq', hd, hx'⟩
  · -- an empty place
    rw [hn] at hb
    rw [hb] at rd
    have wr := wrQ_9 (e := e) (cap := cap) (n := h % cap) (o := some (nx A)) hi (by omega)
    have f1 : Fr A w (hnH A (nI h) k x) (upL w (nx A) lb) (fun l => l = lb) 1 4 := hnH_fr
    have f2 := (f1.trans (Fr.sta (p := t) (x := tbA (va_up e (h % cap) (some (nx A))) cap) (by rw [upL_ne (Nat.ne_of_lt ht)]; exact t2))).mono (fun _ h => h) (Nat.le_refl _) (Nat.le_refl _)
    have lt1 : t < nx (hnH A (nI h) k x) := by rw [hnH_nx]; omega
    have pn : p ≠ nx A := Nat.ne_of_lt hp
    have wp' : upL w (nx A) lb p = lb := by rw [upL_ne pn]; exact wp
    have k34 : gf (seta (hnH A (nI h) k x) t (tbA (va_up e (h % cap) (some (nx A))) cap)) p 34 = some (.int z) := by rw [gf_seta, hnH_o hp]; exact md
    have k33 : gf (seta (hnH A (nI h) k x) t (tbA (va_up e (h % cap) (some (nx A))) cap)) p 33 = some (.int (nI n)) := by rw [gf_seta, hnH_o hp]; exact sz
    have k35 : gf (seta (hnH A (nI h) k x) t (tbA (va_up e (h % cap) (some (nx A))) cap)) p 35 = some (.int (nI (cap * 3 / 4))) := by rw [gf_seta, hnH_o hp]; exact th
    have lp2 : p < nx (seta (hnH A (nI h) k x) t (tbA (va_up e (h % cap) (some (nx A))) cap)) := by show p < nx A + 1; omega
    have nn : nx A < nx (hnH A (nI h) k x) := by rw [hnH_nx]; omega
    have hm := m0.ins (A4 := setf (setf (seta (hnH A (nI h) k x) t (tbA (va_up e (h % cap) (some (nx A))) cap)) p 34 (.int (z + nI 1))) p 33 (.int (nI (n + 1)))) (w4 := upL w (nx A) lb) hc hh hn hk wk hx wx ((f2.trans (Fr.stf wp')).trans (Fr.stf wp')) (upL_is rfl)
      (fun v hv => by simp (disch := first | omega | (simp (disch := omega) only [nx_setf, nx_seta, nx_newo, nx_newa]; omega)) only [gf_setf_ne, gf_setf_p, gf_setf_is, va_rf_s, va_rf_n, gf_seta, ga_setf, gc_setf, gc_seta, ga_seta_ne, ga_seta_eq, gf_new, gc_new, gf_newo_o, gc_newo_o, ga_newo_o, ga_new, gf_newa_o, gc_newa_o, ga_newa_o, nx_setf, nx_seta, nx_newo, nx_newa, su_setf, su_seta, su_newo, su_newa, sg_setf, sg_seta, sg_newo, sg_newa, okq_n, hnH_o hp, hv]) (fun y v hv hy => by
        have ly := (gf_spec hv).1
        exact ⟨by simp (disch := first | omega | (simp (disch := omega) only [nx_setf, nx_seta, nx_newo, nx_newa]; omega)) only [gf_setf_ne, gf_setf_p, gf_setf_is, va_rf_s, va_rf_n, gf_seta, ga_setf, gc_setf, gc_seta, ga_seta_ne, ga_seta_eq, gf_new, gc_new, gf_newo_o, gc_newo_o, ga_newo_o, ga_new, gf_newa_o, gc_newa_o, ga_newa_o, nx_setf, nx_seta, nx_newo, nx_newa, su_setf, su_seta, su_newo, su_newa, sg_setf, sg_seta, sg_newo, sg_newa, okq_n, hnH_o ly, hv], by rw [upL_ne (Nat.ne_of_lt ly)]; exact hy⟩) (by simp (disch := first | omega | (simp (disch := omega) only [nx_setf, nx_seta, nx_newo, nx_newa]; omega)) only [gf_setf_ne, gf_setf_p, gf_setf_is, va_rf_s, va_rf_n, gf_seta, ga_setf, gc_setf, gc_seta, ga_seta_ne, ga_seta_eq, gf_new, gc_new, gf_newo_o, gc_newo_o, ga_newo_o, ga_new, gf_newa_o, gc_newa_o, ga_newa_o, nx_setf, nx_seta, nx_newo, nx_newa, su_setf, su_seta, su_newo, su_newa, sg_setf, sg_seta, sg_newo, sg_newa, okq_n, hnH_o hp, tt]) (by simp (disch := first | omega | (simp (disch := omega) only [nx_setf, nx_seta, nx_newo, nx_newa]; omega)) only [gf_setf_ne, gf_setf_p, gf_setf_is, va_rf_s, va_rf_n, gf_seta, ga_setf, gc_setf, gc_seta, ga_seta_ne, ga_seta_eq, gf_new, gc_new, gf_newo_o, gc_newo_o, ga_newo_o, ga_new, gf_newa_o, gc_newa_o, ga_newa_o, nx_setf, nx_seta, nx_newo, nx_newa, su_setf, su_seta, su_newo, su_newa, sg_setf, sg_seta, sg_newo, sg_newa, okq_n]) ⟨z + nI 1, by simp (disch := first | omega | (simp (disch := omega) only [nx_setf, nx_seta, nx_newo, nx_newa]; omega)) only [gf_setf_ne, gf_setf_p, gf_setf_is, va_rf_s, va_rf_n, gf_seta, ga_setf, gc_setf, gc_seta, ga_seta_ne, ga_seta_eq, gf_new, gc_new, gf_newo_o, gc_newo_o, ga_newo_o, ga_new, gf_newa_o, gc_newa_o, ga_newa_o, nx_setf, nx_seta, nx_newo, nx_newa, su_setf, su_seta, su_newo, su_newa, sg_setf, sg_seta, sg_newo, sg_newa, okq_n]⟩ (by simp (disch := first | omega | (simp (disch := omega) only [nx_setf, nx_seta, nx_newo, nx_newa]; omega)) only [gf_setf_ne, gf_setf_p, gf_setf_is, va_rf_s, va_rf_n, gf_seta, ga_setf, gc_setf, gc_seta, ga_seta_ne, ga_seta_eq, gf_new, gc_new, gf_newo_o, gc_newo_o, ga_newo_o, ga_new, gf_newa_o, gc_newa_o, ga_newa_o, nx_setf, nx_seta, nx_newo, nx_newa, su_setf, su_seta, su_newo, su_newa, sg_setf, sg_seta, sg_newo, sg_newa, okq_n, k35])
      (by rw [upL_ne (Nat.ne_of_lt ht)]; exact t2) wp' (fun y q hq => by rw [upL_ne (Nat.ne_of_lt (gc_lt (nd y q hq).2.2.1))]; exact (nd y q hq).2.1)
      ⟨va_up e (h % cap) (some (nx A)), by rw [ga_setf, ga_setf]; exact ga_seta_eq (by rw [hnH_ga ht]; exact t3), fun i hi2 => by
        by_cases z2 : i = h % cap
        · rw [if_pos ⟨z2, by rw [z2]; exact hb⟩]; exact if_pos z2
        · rw [if_neg (fun z => z2 z.1)]; exact (if_neg z2).trans (t4 i hi2)⟩
      (fun y q g v hq hg hv => by
        have lq := (gf_spec hv).1
        have qp : q ≠ p := fun e => by have := (nd y q hq).2.2.1; rw [e, c1] at this; cases this
        simp (disch := first | omega | (simp (disch := omega) only [nx_setf, nx_seta, nx_newo, nx_newa]; omega)) only [gf_setf_ne, gf_setf_p, gf_setf_is, va_rf_s, va_rf_n, gf_seta, ga_setf, gc_setf, gc_seta, ga_seta_ne, ga_seta_eq, gf_new, gc_new, gf_newo_o, gc_newo_o, ga_newo_o, ga_new, gf_newa_o, gc_newa_o, ga_newa_o, nx_setf, nx_seta, nx_newo, nx_newa, su_setf, su_seta, su_newo, su_newa, sg_setf, sg_seta, sg_newo, sg_newa, okq_n, hnH_o lq, hv])
      (fun y q hq => by
        obtain ⟨n0, n1, n2, n3, n4, n5, n6, n7, n8, n9, n10⟩ := nd y q hq
        have lq := gc_lt n2
        have qp : q ≠ p := fun e => by rw [e, c1] at n2; cases n2
        simp (disch := first | omega | (simp (disch := omega) only [nx_setf, nx_seta, nx_newo, nx_newa]; omega)) only [gf_setf_ne, gf_setf_p, gf_setf_is, va_rf_s, va_rf_n, gf_seta, ga_setf, gc_setf, gc_seta, ga_seta_ne, ga_seta_eq, gf_new, gc_new, gf_newo_o, gc_newo_o, ga_newo_o, ga_new, gf_newa_o, gc_newa_o, ga_newa_o, nx_setf, nx_seta, nx_newo, nx_newa, su_setf, su_seta, su_newo, su_newa, sg_setf, sg_seta, sg_newo, sg_newa, okq_n, hnH_o lq, n10]
        rw [if_neg (fun z2 => by
          have hd0 : hdF nf fl cap (y % cap) = nf y ∨ _ := hdF_cases hc n0
          rw [z2, hb, hq] at hd0
          rcases hd0 with hd0 | ⟨_, _, _, _, _, hd0, _⟩
          · cases hd0
          · cases hd0)])
      (by simp (disch := first | omega | (simp (disch := omega) only [nx_setf, nx_seta, nx_newo, nx_newa]; omega)) only [gf_setf_ne, gf_setf_p, gf_setf_is, va_rf_s, va_rf_n, gf_seta, ga_setf, gc_setf, gc_seta, ga_seta_ne, ga_seta_eq, gf_new, gc_new, gf_newo_o, gc_newo_o, ga_newo_o, ga_new, gf_newa_o, gc_newa_o, ga_newa_o, nx_setf, nx_seta, nx_newo, nx_newa, su_setf, su_seta, su_newo, su_newa, sg_setf, sg_seta, sg_newo, sg_newa, okq_n, hnH_c]) (by simp (disch := first | omega | (simp (disch := omega) only [nx_setf, nx_seta, nx_newo, nx_newa]; omega)) only [gf_setf_ne, gf_setf_p, gf_setf_is, va_rf_s, va_rf_n, gf_seta, ga_setf, gc_setf, gc_seta, ga_seta_ne, ga_seta_eq, gf_new, gc_new, gf_newo_o, gc_newo_o, ga_newo_o, ga_new, gf_newa_o, gc_newa_o, ga_newa_o, nx_setf, nx_seta, nx_newo, nx_newa, su_setf, su_seta, su_newo, su_newa, sg_setf, sg_seta, sg_newo, sg_newa, okq_n, hnH_1]) (by simp (disch := first | omega | (simp (disch := omega) only [nx_setf, nx_seta, nx_newo, nx_newa]; omega)) only [gf_setf_ne, gf_setf_p, gf_setf_is, va_rf_s, va_rf_n, gf_seta, ga_setf, gc_setf, gc_seta, ga_seta_ne, ga_seta_eq, gf_new, gc_new, gf_newo_o, gc_newo_o, ga_newo_o, ga_new, gf_newa_o, gc_newa_o, ga_newa_o, nx_setf, nx_seta, nx_newo, nx_newa, su_setf, su_seta, su_newo, su_newa, sg_setf, sg_seta, sg_newo, sg_newa, okq_n, hnH_2]) (by simp (disch := first | omega | (simp (disch := omega) only [nx_setf, nx_seta, nx_newo, nx_newa]; omega)) only [gf_setf_ne, gf_setf_p, gf_setf_is, va_rf_s, va_rf_n, gf_seta, ga_setf, gc_setf, gc_seta, ga_seta_ne, ga_seta_eq, gf_new, gc_new, gf_newo_o, gc_newo_o, ga_newo_o, ga_new, gf_newa_o, gc_newa_o, ga_newa_o, nx_setf, nx_seta, nx_newo, nx_newa, su_setf, su_seta, su_newo, su_newa, sg_setf, sg_seta, sg_newo, sg_newa, okq_n, hnH_3]) (by simp (disch := first | omega | (simp (disch := omega) only [nx_setf, nx_seta, nx_newo, nx_newa]; omega)) only [gf_setf_ne, gf_setf_p, gf_setf_is, va_rf_s, va_rf_n, gf_seta, ga_setf, gc_setf, gc_seta, ga_seta_ne, ga_seta_eq, gf_new, gc_new, gf_newo_o, gc_newo_o, ga_newo_o, ga_new, gf_newa_o, gc_newa_o, ga_newa_o, nx_setf, nx_seta, nx_newo, nx_newa, su_setf, su_seta, su_newo, su_newa, sg_setf, sg_seta, sg_newo, sg_newa, okq_n, hnH_4])
    obtain ⟨A', w', cap', t', r1, r2⟩ := fin _ (some .null) (some (.int (nI (h % cap)))) none none none ⟨.null, Or.inr trivial⟩ k34 k33 k35 (f2.cc c1) hm f2
    refine ⟨A', w', cap', t', (Eq.trans ?_ r1), r2⟩
    have ok : okq (hnH A (nI h) k x) [28] (.ref (nx A)) = true := by show cin (gcs _ _) _ = true; rw [gcs_d hnH_c]; rfl
    have at9 : atag (some (tbA e cap)) 9 = true := rfl
    have e1 : ga (hnH A (nI h) k x) t = some (tbA e cap) := (hnH_ga ht).trans t3
    simp (disch := first | omega | (simp (disch := omega) only [nx_setf, nx_seta, nx_newo, nx_newa]; omega)) only [x_33_29, x_33_31, x_33_33, x_33_34, x_33_35, x_33_36, x_33_37, x_33_38, x_33_40, x_33_41, x_33_42, x_33_44n, x_33_44r, x_33_47, x_33_49, x_33_51, x_33_52, x_33_53, x_33_54, x_33_55, x_33_56, x_33_59r, x_33_59n, x_33_60, kv_s, ki_s, kj_s, kd_s, kq_s, kq_n, kq_o, ka_s, kc_r, kc_t, kc0_r, kc0_t, kch_r, kc0h_r, kw_s, kw0_s, kwh_s, kw0h_s, rg_ref, rg_null, rg_rf, ck_t, sel_some, lkn_hd, Option.isSome_some, Bool.true_and, Bool.and_true, okv_i, okv_l, okv_r, okv_n, okv_rf, okv_b, okv_0, okv_1, okv_f, okv_d, c1_i, c1_r, c1_n, c1_rf, c1_f, nI_add, n_mul, n_sub, n_pred, n_eq, n_le, n_lt, n_neN, n_Nne, N_lt, N_le, n_ltN, n_leN, rdI_n, rdJ_n, rdD_n, wrI_n, wrI_z0, wrI_z1, wrI_zb, wrJ_n, wrD_n, aln_s, okn_n, upd_is, upd_ne, Nat.add_zero, Nat.add_sub_cancel, decide_true, decide_false, cond_true, cond_false, if_true, if_false, ite_not, not_true_eq_false, not_false_eq_true, Nat.reduceEqDiff, Nat.reduceAdd, Nat.reduceMul, Nat.reduceSub, Nat.reduceLeDiff, gf_setf_ne, gf_setf_p, gf_setf_is, va_rf_s, va_rf_n, gf_seta, ga_setf, gc_setf, gc_seta, ga_seta_ne, ga_seta_eq, gf_new, gc_new, gf_newo_o, gc_newo_o, ga_newo_o, ga_new, gf_newa_o, gc_newa_o, ga_newa_o, nx_setf, nx_seta, nx_newo, nx_newa, su_setf, su_seta, su_newo, su_newa, sg_setf, sg_seta, sg_newo, sg_newa, okq_n, c1, t3, rd, an, q35, e1, wr, ok, at9, Bool.true_and, ckT]
  · -- another stands there
    rw [hd] at rd
    rw [hn] at hx'
    have hz : h' % cap = h % cap := by
      obtain ⟨y, y1, y2⟩ := hdF_mem hc hi hd
      rw [ij h' y q' hq' y2]; exact y1
    obtain ⟨o0, o1, o2, o3, o4, o5, o6, o7, o8, o9, o10⟩ := nd h' q' hq'
    rw [hx', va_rf_n] at o10
    have lq' := gc_lt o2
    have hne2 : (h' = h) = False := eq_false hne
    have f1 : Fr A w (hnH A (nI h) k x) (upL w (nx A) lb) (fun l => l = lb) 1 4 := hnH_fr
    have pn : p ≠ nx A := Nat.ne_of_lt hp
    have q'n : q' ≠ nx A := Nat.ne_of_lt lq'
    have wq' : upL w (nx A) lb q' = lb := by rw [upL_ne q'n]; exact o1
    have q'p : p ≠ q' := fun e => by rw [← e, c1] at o2; cases o2
    have f2 := (f1.trans (Fr.stf (p := q') (f := 146) (v := .ref (nx A)) wq')).mono (fun _ h => h) (Nat.le_refl _) (Nat.le_refl _)
    have wp' : upL w (nx A) lb p = lb := by rw [upL_ne pn]; exact wp
    have lq2 : q' < nx (hnH A (nI h) k x) := by rw [hnH_nx]; omega
    have nn : nx A < nx (hnH A (nI h) k x) := by rw [hnH_nx]; omega
    have lp2 : p < nx (hnH A (nI h) k x) := by rw [hnH_nx]; omega
    have k34 : gf (setf (hnH A (nI h) k x) q' 146 (.ref (nx A))) p 34 = some (.int z) := by simp (disch := first | omega | (simp (disch := omega) only [nx_setf, nx_seta, nx_newo, nx_newa]; omega)) only [gf_setf_ne, gf_setf_p, gf_setf_is, va_rf_s, va_rf_n, gf_seta, ga_setf, gc_setf, gc_seta, ga_seta_ne, ga_seta_eq, gf_new, gc_new, gf_newo_o, gc_newo_o, ga_newo_o, ga_new, gf_newa_o, gc_newa_o, ga_newa_o, nx_setf, nx_seta, nx_newo, nx_newa, su_setf, su_seta, su_newo, su_newa, sg_setf, sg_seta, sg_newo, sg_newa, okq_n, hnH_o hp, md]
    have k33 : gf (setf (hnH A (nI h) k x) q' 146 (.ref (nx A))) p 33 = some (.int (nI n)) := by simp (disch := first | omega | (simp (disch := omega) only [nx_setf, nx_seta, nx_newo, nx_newa]; omega)) only [gf_setf_ne, gf_setf_p, gf_setf_is, va_rf_s, va_rf_n, gf_seta, ga_setf, gc_setf, gc_seta, ga_seta_ne, ga_seta_eq, gf_new, gc_new, gf_newo_o, gc_newo_o, ga_newo_o, ga_new, gf_newa_o, gc_newa_o, ga_newa_o, nx_setf, nx_seta, nx_newo, nx_newa, su_setf, su_seta, su_newo, su_newa, sg_setf, sg_seta, sg_newo, sg_newa, okq_n, hnH_o hp, sz]
    have k35 : gf (setf (hnH A (nI h) k x) q' 146 (.ref (nx A))) p 35 = some (.int (nI (cap * 3 / 4))) := by simp (disch := first | omega | (simp (disch := omega) only [nx_setf, nx_seta, nx_newo, nx_newa]; omega)) only [gf_setf_ne, gf_setf_p, gf_setf_is, va_rf_s, va_rf_n, gf_seta, ga_setf, gc_setf, gc_seta, ga_seta_ne, ga_seta_eq, gf_new, gc_new, gf_newo_o, gc_newo_o, ga_newo_o, ga_new, gf_newa_o, gc_newa_o, ga_newa_o, nx_setf, nx_seta, nx_newo, nx_newa, su_setf, su_seta, su_newo, su_newa, sg_setf, sg_seta, sg_newo, sg_newa, okq_n, hnH_o hp, th]
    have hm := m0.ins (A4 := setf (setf (setf (hnH A (nI h) k x) q' 146 (.ref (nx A))) p 34 (.int (z + nI 1))) p 33 (.int (nI (n + 1)))) (w4 := upL w (nx A) lb) hc hh hn hk wk hx wx ((f2.trans (Fr.stf wp')).trans (Fr.stf wp')) (upL_is rfl)
      (fun v hv => by simp (disch := first | omega | (simp (disch := omega) only [nx_setf, nx_seta, nx_newo, nx_newa]; omega)) only [gf_setf_ne, gf_setf_p, gf_setf_is, va_rf_s, va_rf_n, gf_seta, ga_setf, gc_setf, gc_seta, ga_seta_ne, ga_seta_eq, gf_new, gc_new, gf_newo_o, gc_newo_o, ga_newo_o, ga_new, gf_newa_o, gc_newa_o, ga_newa_o, nx_setf, nx_seta, nx_newo, nx_newa, su_setf, su_seta, su_newo, su_newa, sg_setf, sg_seta, sg_newo, sg_newa, okq_n, hnH_o hp, hv]) (fun y v hv hy => by
        have ly := (gf_spec hv).1
        exact ⟨by simp (disch := first | omega | (simp (disch := omega) only [nx_setf, nx_seta, nx_newo, nx_newa]; omega)) only [gf_setf_ne, gf_setf_p, gf_setf_is, va_rf_s, va_rf_n, gf_seta, ga_setf, gc_setf, gc_seta, ga_seta_ne, ga_seta_eq, gf_new, gc_new, gf_newo_o, gc_newo_o, ga_newo_o, ga_new, gf_newa_o, gc_newa_o, ga_newa_o, nx_setf, nx_seta, nx_newo, nx_newa, su_setf, su_seta, su_newo, su_newa, sg_setf, sg_seta, sg_newo, sg_newa, okq_n, hnH_o ly, hv], by rw [upL_ne (Nat.ne_of_lt ly)]; exact hy⟩) (by simp (disch := first | omega | (simp (disch := omega) only [nx_setf, nx_seta, nx_newo, nx_newa]; omega)) only [gf_setf_ne, gf_setf_p, gf_setf_is, va_rf_s, va_rf_n, gf_seta, ga_setf, gc_setf, gc_seta, ga_seta_ne, ga_seta_eq, gf_new, gc_new, gf_newo_o, gc_newo_o, ga_newo_o, ga_new, gf_newa_o, gc_newa_o, ga_newa_o, nx_setf, nx_seta, nx_newo, nx_newa, su_setf, su_seta, su_newo, su_newa, sg_setf, sg_seta, sg_newo, sg_newa, okq_n, hnH_o hp, tt]) (by simp (disch := first | omega | (simp (disch := omega) only [nx_setf, nx_seta, nx_newo, nx_newa]; omega)) only [gf_setf_ne, gf_setf_p, gf_setf_is, va_rf_s, va_rf_n, gf_seta, ga_setf, gc_setf, gc_seta, ga_seta_ne, ga_seta_eq, gf_new, gc_new, gf_newo_o, gc_newo_o, ga_newo_o, ga_new, gf_newa_o, gc_newa_o, ga_newa_o, nx_setf, nx_seta, nx_newo, nx_newa, su_setf, su_seta, su_newo, su_newa, sg_setf, sg_seta, sg_newo, sg_newa, okq_n]) ⟨z + nI 1, by simp (disch := first | omega | (simp (disch := omega) only [nx_setf, nx_seta, nx_newo, nx_newa]; omega)) only [gf_setf_ne, gf_setf_p, gf_setf_is, va_rf_s, va_rf_n, gf_seta, ga_setf, gc_setf, gc_seta, ga_seta_ne, ga_seta_eq, gf_new, gc_new, gf_newo_o, gc_newo_o, ga_newo_o, ga_new, gf_newa_o, gc_newa_o, ga_newa_o, nx_setf, nx_seta, nx_newo, nx_newa, su_setf, su_seta, su_newo, su_newa, sg_setf, sg_seta, sg_newo, sg_newa, okq_n]⟩ (by simp (disch := first | omega | (simp (disch := omega) only [nx_setf, nx_seta, nx_newo, nx_newa]; omega)) only [gf_setf_ne, gf_setf_p, gf_setf_is, va_rf_s, va_rf_n, gf_seta, ga_setf, gc_setf, gc_seta, ga_seta_ne, ga_seta_eq, gf_new, gc_new, gf_newo_o, gc_newo_o, ga_newo_o, ga_new, gf_newa_o, gc_newa_o, ga_newa_o, nx_setf, nx_seta, nx_newo, nx_newa, su_setf, su_seta, su_newo, su_newa, sg_setf, sg_seta, sg_newo, sg_newa, okq_n, k35])
      (by rw [upL_ne (Nat.ne_of_lt ht)]; exact t2) wp' (fun y q hq => by rw [upL_ne (Nat.ne_of_lt (gc_lt (nd y q hq).2.2.1))]; exact (nd y q hq).2.1)
      ⟨e, by rw [ga_setf, ga_setf, ga_setf, hnH_ga ht]; exact t3, fun i hi2 => by
        rw [if_neg (fun z => by rw [z.1, hd] at z; cases z.2)]; exact t4 i hi2⟩
      (fun y q g v hq hg hv => by
        have lq := (gf_spec hv).1
        have qp : q ≠ p := fun e => by have := (nd y q hq).2.2.1; rw [e, c1] at this; cases this
        rw [gf_setf_p qp, gf_setf_p qp, gf_setf_ne hg, hnH_o lq, hv])
      (fun y q hq => by
        obtain ⟨n0, n1, n2, n3, n4, n5, n6, n7, n8, n9, n10⟩ := nd y q hq
        have lq := gc_lt n2
        have qp : q ≠ p := fun e => by rw [e, c1] at n2; cases n2
        rw [gf_setf_p qp, gf_setf_p qp]
        by_cases hy : y = h'
        · subst hy
          rw [hq'] at hq; cases hq
          rw [if_pos hz]
          exact gf_setf_is lq2
        · have qq : q ≠ q' := fun e => hy (ij y h' q hq (by rw [e]; exact hq'))
          rw [gf_setf_p qq, hnH_o lq, n10, if_neg (fun z2 => ?_)]
          have hyh : y ≠ h := fun e => by rw [e, hn] at hq; cases hq
          rcases hc with hc | hc <;> rw [hc] at z2 hz <;> omega)
      (by simp (disch := first | omega | (simp (disch := omega) only [nx_setf, nx_seta, nx_newo, nx_newa]; omega)) only [gf_setf_ne, gf_setf_p, gf_setf_is, va_rf_s, va_rf_n, gf_seta, ga_setf, gc_setf, gc_seta, ga_seta_ne, ga_seta_eq, gf_new, gc_new, gf_newo_o, gc_newo_o, ga_newo_o, ga_new, gf_newa_o, gc_newa_o, ga_newa_o, nx_setf, nx_seta, nx_newo, nx_newa, su_setf, su_seta, su_newo, su_newa, sg_setf, sg_seta, sg_newo, sg_newa, okq_n, hnH_c]) (by simp (disch := first | omega | (simp (disch := omega) only [nx_setf, nx_seta, nx_newo, nx_newa]; omega)) only [gf_setf_ne, gf_setf_p, gf_setf_is, va_rf_s, va_rf_n, gf_seta, ga_setf, gc_setf, gc_seta, ga_seta_ne, ga_seta_eq, gf_new, gc_new, gf_newo_o, gc_newo_o, ga_newo_o, ga_new, gf_newa_o, gc_newa_o, ga_newa_o, nx_setf, nx_seta, nx_newo, nx_newa, su_setf, su_seta, su_newo, su_newa, sg_setf, sg_seta, sg_newo, sg_newa, okq_n, hnH_1]) (by simp (disch := first | omega | (simp (disch := omega) only [nx_setf, nx_seta, nx_newo, nx_newa]; omega)) only [gf_setf_ne, gf_setf_p, gf_setf_is, va_rf_s, va_rf_n, gf_seta, ga_setf, gc_setf, gc_seta, ga_seta_ne, ga_seta_eq, gf_new, gc_new, gf_newo_o, gc_newo_o, ga_newo_o, ga_new, gf_newa_o, gc_newa_o, ga_newa_o, nx_setf, nx_seta, nx_newo, nx_newa, su_setf, su_seta, su_newo, su_newa, sg_setf, sg_seta, sg_newo, sg_newa, okq_n, hnH_2]) (by simp (disch := first | omega | (simp (disch := omega) only [nx_setf, nx_seta, nx_newo, nx_newa]; omega)) only [gf_setf_ne, gf_setf_p, gf_setf_is, va_rf_s, va_rf_n, gf_seta, ga_setf, gc_setf, gc_seta, ga_seta_ne, ga_seta_eq, gf_new, gc_new, gf_newo_o, gc_newo_o, ga_newo_o, ga_new, gf_newa_o, gc_newa_o, ga_newa_o, nx_setf, nx_seta, nx_newo, nx_newa, su_setf, su_seta, su_newo, su_newa, sg_setf, sg_seta, sg_newo, sg_newa, okq_n, hnH_3]) (by simp (disch := first | omega | (simp (disch := omega) only [nx_setf, nx_seta, nx_newo, nx_newa]; omega)) only [gf_setf_ne, gf_setf_p, gf_setf_is, va_rf_s, va_rf_n, gf_seta, ga_setf, gc_setf, gc_seta, ga_seta_ne, ga_seta_eq, gf_new, gc_new, gf_newo_o, gc_newo_o, ga_newo_o, ga_new, gf_newa_o, gc_newa_o, ga_newa_o, nx_setf, nx_seta, nx_newo, nx_newa, su_setf, su_seta, su_newo, su_newa, sg_setf, sg_seta, sg_newo, sg_newa, okq_n, hnH_4])
    obtain ⟨A', w', cap', t', r1, r2⟩ := fin _ (some (.ref q')) (some (.int (nI (h % cap)))) (some .null) none (some (.int (nI 0))) ⟨.null, Or.inr trivial⟩ k34 k33 k35 (f2.cc c1) hm f2
    refine ⟨A', w', cap', t', (Eq.trans ?_ r1), r2⟩
    have c28 : cin (gcs A q') [28] = true := by rw [gcs_d o2]; rfl
    simp (disch := first | omega | exact c28 | (simp (disch := omega) only [nx_setf, nx_seta, nx_newo, nx_newa]; omega)) only [x_33_29, x_33_31, x_33_33, x_33_34, x_33_35, x_33_36, x_33_37, x_33_38, x_33_40, x_33_41, x_33_42, x_33_44n, x_33_44r, x_33_47, x_33_49, x_33_51, x_33_52, x_33_53, x_33_54, x_33_55, x_33_56, x_33_59r, x_33_59n, x_33_60, x_33_63, x_33_65, x_33_68, x_33_69, x_33_72, x_33_74, x_33_77, x_33_78, x_33_80, x_33_81, x_33_81rn, x_33_81nr, x_33_81nn, x_33_84, x_33_85n, x_33_85r, x_33_88, x_33_89, x_33_91, x_33_94, x_33_97, x_33_99, x_33_101, x_33_104, x_33_106n, x_33_106o, x_33_109, x_33_112, x_33_117, x_33_118, x_33_120, x_33_121, x_33_122, x_33_126, x_33_128, x_33_131, x_33_132, x_33_136, x_33_139, x_33_140, x_33_142n, x_33_142r, x_33_145, x_33_147, x_33_148, x_33_149, x_33_150, x_33_151, x_33_152, x_33_155, x_33_158, x_33_160, x_33_162, x_33_165, x_33_166, x_33_168, x_33_172, x_33_175, x_33_177, x_33_180, x_33_181, x_33_184, x_33_186, x_33_189, x_33_190, x_33_192, x_33_193, x_33_193rn, x_33_193nr, x_33_193nn, x_33_196, x_33_197n, x_33_197r, x_33_200, x_33_201, x_33_203, x_33_206, x_33_209, x_33_212, x_33_214, x_33_216, x_33_219, x_33_222, x_33_224n, x_33_224r, x_33_134, kv_s, ki_s, kj_s, kd_s, kq_s, kq_n, kq_o, ka_s, kc_r, kc_t, kc0_r, kc0_t, kch_r, kc0h_r, kw_s, kw0_s, kwh_s, kw0h_s, rg_ref, rg_null, rg_rf, ck_t, sel_some, lkn_hd, Option.isSome_some, Bool.true_and, Bool.and_true, okv_i, okv_l, okv_r, okv_n, okv_rf, okv_b, okv_0, okv_1, okv_f, okv_d, c1_i, c1_r, c1_n, c1_rf, c1_f, nI_add, n_mul, n_sub, n_pred, n_eq, n_le, n_lt, n_neN, n_Nne, N_lt, N_le, n_ltN, n_leN, rdI_n, rdJ_n, rdD_n, wrI_n, wrI_z0, wrI_z1, wrI_zb, wrJ_n, wrD_n, aln_s, okn_n, upd_is, upd_ne, Nat.add_zero, Nat.add_sub_cancel, decide_true, decide_false, cond_true, cond_false, if_true, if_false, ite_not, not_true_eq_false, not_false_eq_true, Nat.reduceEqDiff, Nat.reduceAdd, Nat.reduceMul, Nat.reduceSub, Nat.reduceLeDiff, gf_setf_ne, gf_setf_p, gf_setf_is, va_rf_s, va_rf_n, gf_seta, ga_setf, gc_setf, gc_seta, ga_seta_ne, ga_seta_eq, gf_new, gc_new, gf_newo_o, gc_newo_o, ga_newo_o, ga_new, gf_newa_o, gc_newa_o, ga_newa_o, nx_setf, nx_seta, nx_newo, nx_newa, su_setf, su_seta, su_newo, su_newa, sg_setf, sg_seta, sg_newo, sg_newa, okq_n, c1, t3, rd, an, q35, o2, o3, o10, hne2, hnH_o lq', ylt (show 0 < 7 by omega)]
/-- at the table: a mark that is there -/
theorem m_33_old {q : Nat} (m : HMs A w p lb cap (some t) nf fl kO vO vv n) (hc : cap = 16 ∨ cap = 32) (hh : h < 24) (hn : nf h = some q) (hk : MkO A k h) : exG TB (d + 3) 33 29 [some (.ref p), some (.int (nI h)), some (.ref k), some (.ref x), some (.int (nI 0)), some (.int (nI 1)), some (.ref t), none, some (.int (nI cap)), none, none, none, none] [] A = some (.inl (some (.ref (vO h))), setf A q 145 (.ref x)) := by
  have hc1 : 1 ≤ cap := by rcases hc with h | h <;> rw [h] <;> decide
  have hcap : cap ≤ 1000 := by rcases hc with h | h <;> rw [h] <;> decide
  obtain ⟨c1, wp, tt, ⟨zs, es, es2⟩, sz, ⟨z, md⟩, th, cp, nd, ij, cn, l0, le⟩ := m
  obtain ⟨e, t2, t3, t4⟩ : ∃ e, w t = lb ∧ ga A t = some (tbA e cap) ∧ ∀ i, i < cap → e i = hdF nf fl cap i := by
    rcases cp with cp | ⟨_, t', e, g1, g2⟩
    · cases cp.2
    · cases g1; exact ⟨e, g2⟩
  have hi : h % cap < cap := Nat.mod_lt _ (by omega)
  have rd := tbRd (e := e) hi hcap
  rw [t4 _ hi] at rd
  have an := capand (h := h) hc hh
  obtain ⟨n0, n1, n2, n3, n4, n5, n6, n7, n8, n9, n10⟩ := nd h q hn
  have c28 : cin (gcs A q) [28] = true := by rw [gcs_d n2]; rfl
  have lq := gc_lt n2
  have q281 : evG TB (d + 3) 281 [.ref k, .ref (kO h)] A = some (.inl (some (.int (nI 1))), A) := m_281 (d := d + 2) hk n5 hh
  have k8 := hk.c
  rcases hdF_cases (nf := nf) (fl := fl) hc hh with hb | ⟨h', q', hne, hh', hq', hd, hx'⟩
  · rw [hb, hn] at rd
    rcases pc (kO h = k) with ek | ek <;> simp (disch := first | omega | exact c28 | (simp (disch := omega) only [nx_setf, nx_seta, nx_newo, nx_newa]; omega)) only [x_33_29, x_33_31, x_33_33, x_33_34, x_33_35, x_33_36, x_33_37, x_33_38, x_33_40, x_33_41, x_33_42, x_33_44n, x_33_44r, x_33_47, x_33_49, x_33_51, x_33_52, x_33_53, x_33_54, x_33_55, x_33_56, x_33_59r, x_33_59n, x_33_60, x_33_63, x_33_65, x_33_68, x_33_69, x_33_72, x_33_74, x_33_77, x_33_78, x_33_80, x_33_81, x_33_81rn, x_33_81nr, x_33_81nn, x_33_84, x_33_85n, x_33_85r, x_33_88, x_33_89, x_33_91, x_33_94, x_33_97, x_33_99, x_33_101, x_33_104, x_33_106n, x_33_106o, x_33_109, x_33_112, x_33_117, x_33_118, x_33_120, x_33_121, x_33_122, x_33_126, x_33_128, x_33_131, x_33_132, x_33_136, x_33_139, x_33_140, x_33_142n, x_33_142r, x_33_145, x_33_147, x_33_148, x_33_149, x_33_150, x_33_151, x_33_152, x_33_155, x_33_158, x_33_160, x_33_162, x_33_165, x_33_166, x_33_168, x_33_172, x_33_175, x_33_177, x_33_180, x_33_181, x_33_184, x_33_186, x_33_189, x_33_190, x_33_192, x_33_193, x_33_193rn, x_33_193nr, x_33_193nn, x_33_196, x_33_197n, x_33_197r, x_33_200, x_33_201, x_33_203, x_33_206, x_33_209, x_33_212, x_33_214, x_33_216, x_33_219, x_33_222, x_33_224n, x_33_224r, x_33_227, x_33_229, x_33_232, x_33_234, x_33_236, x_33_239, x_33_241n, x_33_241r, x_33_244, x_33_246, x_33_247, x_33_250, x_33_251, x_33_253, x_33_256, x_33_258, x_33_259, x_33_260, x_33_261, x_33_264, x_33_265, x_33_266, x_33_269, x_33_270, x_33_271, x_33_274, x_33_275, x_33_276, x_33_277, x_33_280, x_33_281, x_33_284, x_33_287, x_33_288, x_33_291, x_33_292, x_33_293, x_33_295, x_33_298, x_33_299, e_36, x_36_0, kv_s, ki_s, kj_s, kd_s, kq_s, kq_n, kq_o, ka_s, kc_r, kc_t, kc0_r, kc0_t, kch_r, kc0h_r, kw_s, kw0_s, kwh_s, kw0h_s, rg_ref, rg_null, rg_rf, ck_t, sel_some, lkn_hd, Option.isSome_some, Bool.true_and, Bool.and_true, okv_i, okv_l, okv_r, okv_n, okv_rf, okv_b, okv_0, okv_1, okv_f, okv_d, c1_i, c1_r, c1_n, c1_rf, c1_f, nI_add, n_mul, n_sub, n_pred, n_eq, n_le, n_lt, n_neN, n_Nne, N_lt, N_le, n_ltN, n_leN, rdI_n, rdJ_n, rdD_n, wrI_n, wrI_z0, wrI_z1, wrI_zb, wrJ_n, wrD_n, aln_s, okn_n, upd_is, upd_ne, Nat.add_zero, Nat.add_sub_cancel, decide_true, decide_false, cond_true, cond_false, if_true, if_false, ite_not, not_true_eq_false, not_false_eq_true, Nat.reduceEqDiff, Nat.reduceAdd, Nat.reduceMul, Nat.reduceSub, Nat.reduceLeDiff, gf_setf_ne, gf_setf_p, gf_setf_is, va_rf_s, va_rf_n, gf_seta, ga_setf, gc_setf, gc_seta, ga_seta_ne, ga_seta_eq, gf_new, gc_new, gf_newo_o, gc_newo_o, ga_newo_o, ga_new, gf_newa_o, gc_newa_o, ga_newa_o, nx_setf, nx_seta, nx_newo, nx_newa, su_setf, su_seta, su_newo, su_newa, sg_setf, sg_seta, sg_newo, sg_newa, okq_n, c1, t3, rd, an, n2, n3, n4, n7, k8, q281, ek, eq_self]
  · rw [hd] at rd
    obtain ⟨o0, o1, o2, o3, o4, o5, o6, o7, o8, o9, o10⟩ := nd h' q' hq'
    rw [hx', hn, va_rf_s] at o10
    have c28' : cin (gcs A q') [28] = true := by rw [gcs_d o2]; rfl
    have hne2 : (h' = h) = False := eq_false hne
    rcases pc (kO h = k) with ek | ek <;> simp (disch := first | omega | exact c28 | exact c28' | (simp (disch := omega) only [nx_setf, nx_seta, nx_newo, nx_newa]; omega)) only [x_33_29, x_33_31, x_33_33, x_33_34, x_33_35, x_33_36, x_33_37, x_33_38, x_33_40, x_33_41, x_33_42, x_33_44n, x_33_44r, x_33_47, x_33_49, x_33_51, x_33_52, x_33_53, x_33_54, x_33_55, x_33_56, x_33_59r, x_33_59n, x_33_60, x_33_63, x_33_65, x_33_68, x_33_69, x_33_72, x_33_74, x_33_77, x_33_78, x_33_80, x_33_81, x_33_81rn, x_33_81nr, x_33_81nn, x_33_84, x_33_85n, x_33_85r, x_33_88, x_33_89, x_33_91, x_33_94, x_33_97, x_33_99, x_33_101, x_33_104, x_33_106n, x_33_106o, x_33_109, x_33_112, x_33_117, x_33_118, x_33_120, x_33_121, x_33_122, x_33_126, x_33_128, x_33_131, x_33_132, x_33_136, x_33_139, x_33_140, x_33_142n, x_33_142r, x_33_145, x_33_147, x_33_148, x_33_149, x_33_150, x_33_151, x_33_152, x_33_155, x_33_158, x_33_160, x_33_162, x_33_165, x_33_166, x_33_168, x_33_172, x_33_175, x_33_177, x_33_180, x_33_181, x_33_184, x_33_186, x_33_189, x_33_190, x_33_192, x_33_193, x_33_193rn, x_33_193nr, x_33_193nn, x_33_196, x_33_197n, x_33_197r, x_33_200, x_33_201, x_33_203, x_33_206, x_33_209, x_33_212, x_33_214, x_33_216, x_33_219, x_33_222, x_33_224n, x_33_224r, x_33_227, x_33_229, x_33_232, x_33_234, x_33_236, x_33_239, x_33_241n, x_33_241r, x_33_244, x_33_246, x_33_247, x_33_250, x_33_251, x_33_253, x_33_256, x_33_258, x_33_259, x_33_260, x_33_261, x_33_264, x_33_265, x_33_266, x_33_269, x_33_270, x_33_271, x_33_274, x_33_275, x_33_276, x_33_277, x_33_280, x_33_281, x_33_284, x_33_287, x_33_288, x_33_291, x_33_292, x_33_293, x_33_295, x_33_298, x_33_299, x_33_134, e_36, x_36_0, kv_s, ki_s, kj_s, kd_s, kq_s, kq_n, kq_o, ka_s, kc_r, kc_t, kc0_r, kc0_t, kch_r, kc0h_r, kw_s, kw0_s, kwh_s, kw0h_s, rg_ref, rg_null, rg_rf, ck_t, sel_some, lkn_hd, Option.isSome_some, Bool.true_and, Bool.and_true, okv_i, okv_l, okv_r, okv_n, okv_rf, okv_b, okv_0, okv_1, okv_f, okv_d, c1_i, c1_r, c1_n, c1_rf, c1_f, nI_add, n_mul, n_sub, n_pred, n_eq, n_le, n_lt, n_neN, n_Nne, N_lt, N_le, n_ltN, n_leN, rdI_n, rdJ_n, rdD_n, wrI_n, wrI_z0, wrI_z1, wrI_zb, wrJ_n, wrD_n, aln_s, okn_n, upd_is, upd_ne, Nat.add_zero, Nat.add_sub_cancel, decide_true, decide_false, cond_true, cond_false, if_true, if_false, ite_not, not_true_eq_false, not_false_eq_true, Nat.reduceEqDiff, Nat.reduceAdd, Nat.reduceMul, Nat.reduceSub, Nat.reduceLeDiff, gf_setf_ne, gf_setf_p, gf_setf_is, va_rf_s, va_rf_n, gf_seta, ga_setf, gc_setf, gc_seta, ga_seta_ne, ga_seta_eq, gf_new, gc_new, gf_newo_o, gc_newo_o, ga_newo_o, ga_new, gf_newa_o, gc_newa_o, ga_newa_o, nx_setf, nx_seta, nx_newo, nx_newa, su_setf, su_seta, su_newo, su_newa, sg_setf, sg_seta, sg_newo, sg_newa, okq_n, c1, t3, rd, an, n2, n3, n4, n7, o2, o3, o10, hne2, k8, q281, ek, eq_self]
theorem HMs.put {q : Nat} (m : HMs A w p lb cap tb nf fl kO vO vv n) (hn : nf h = some q) (hx : InS A x v) (wx : w x = 0) : HMs (setf A q 145 (.ref x)) w p lb cap tb nf fl kO (updN vO h x) (updI vv h v) n ∧ Fr A w (setf A q 145 (.ref x)) w (fun l => l = lb) 0 0 := by
  obtain ⟨c1, wp, tt, ⟨zs, es, es2⟩, sz, ⟨z, md⟩, th, cp, nd, ij, cn, l0, le⟩ := m
  have f : Fr A w (setf A q 145 (.ref x)) w (fun l => l = lb) 0 0 := Fr.stf (nd h q hn).2.1
  have l0' : ¬ (0 = lb) := fun e => l0 e.symm
  refine ⟨⟨c1, wp, by simp (disch := first | omega | (simp (disch := omega) only [nx_setf, nx_seta, nx_newo, nx_newa]; omega)) only [gf_setf_ne, gf_setf_p, gf_setf_is, va_rf_s, va_rf_n, gf_seta, ga_setf, gc_setf, gc_seta, ga_seta_ne, ga_seta_eq, gf_new, gc_new, gf_newo_o, gc_newo_o, ga_newo_o, ga_new, gf_newa_o, gc_newa_o, ga_newa_o, nx_setf, nx_seta, nx_newo, nx_newa, su_setf, su_seta, su_newo, su_newa, sg_setf, sg_seta, sg_newo, sg_newa, okq_n, tt], ⟨zs, by simp (disch := first | omega | (simp (disch := omega) only [nx_setf, nx_seta, nx_newo, nx_newa]; omega)) only [gf_setf_ne, gf_setf_p, gf_setf_is, va_rf_s, va_rf_n, gf_seta, ga_setf, gc_setf, gc_seta, ga_seta_ne, ga_seta_eq, gf_new, gc_new, gf_newo_o, gc_newo_o, ga_newo_o, ga_new, gf_newa_o, gc_newa_o, ga_newa_o, nx_setf, nx_seta, nx_newo, nx_newa, su_setf, su_seta, su_newo, su_newa, sg_setf, sg_seta, sg_newo, sg_newa, okq_n, es], fun y hy => (by obtain ⟨u1, u2, u3⟩ := es2 y hy; exact ⟨u1, u2, by simp (disch := first | omega | (simp (disch := omega) only [nx_setf, nx_seta, nx_newo, nx_newa]; omega)) only [gf_setf_ne, gf_setf_p, gf_setf_is, va_rf_s, va_rf_n, gf_seta, ga_setf, gc_setf, gc_seta, ga_seta_ne, ga_seta_eq, gf_new, gc_new, gf_newo_o, gc_newo_o, ga_newo_o, ga_new, gf_newa_o, gc_newa_o, ga_newa_o, nx_setf, nx_seta, nx_newo, nx_newa, su_setf, su_seta, su_newo, su_newa, sg_setf, sg_seta, sg_newo, sg_newa, okq_n, u3]⟩)⟩, by simp (disch := first | omega | (simp (disch := omega) only [nx_setf, nx_seta, nx_newo, nx_newa]; omega)) only [gf_setf_ne, gf_setf_p, gf_setf_is, va_rf_s, va_rf_n, gf_seta, ga_setf, gc_setf, gc_seta, ga_seta_ne, ga_seta_eq, gf_new, gc_new, gf_newo_o, gc_newo_o, ga_newo_o, ga_new, gf_newa_o, gc_newa_o, ga_newa_o, nx_setf, nx_seta, nx_newo, nx_newa, su_setf, su_seta, su_newo, su_newa, sg_setf, sg_seta, sg_newo, sg_newa, okq_n, sz], ⟨z, by simp (disch := first | omega | (simp (disch := omega) only [nx_setf, nx_seta, nx_newo, nx_newa]; omega)) only [gf_setf_ne, gf_setf_p, gf_setf_is, va_rf_s, va_rf_n, gf_seta, ga_setf, gc_setf, gc_seta, ga_seta_ne, ga_seta_eq, gf_new, gc_new, gf_newo_o, gc_newo_o, ga_newo_o, ga_new, gf_newa_o, gc_newa_o, ga_newa_o, nx_setf, nx_seta, nx_newo, nx_newa, su_setf, su_seta, su_newo, su_newa, sg_setf, sg_seta, sg_newo, sg_newa, okq_n, md]⟩, by simp (disch := first | omega | (simp (disch := omega) only [nx_setf, nx_seta, nx_newo, nx_newa]; omega)) only [gf_setf_ne, gf_setf_p, gf_setf_is, va_rf_s, va_rf_n, gf_seta, ga_setf, gc_setf, gc_seta, ga_seta_ne, ga_seta_eq, gf_new, gc_new, gf_newo_o, gc_newo_o, ga_newo_o, ga_new, gf_newa_o, gc_newa_o, ga_newa_o, nx_setf, nx_seta, nx_newo, nx_newa, su_setf, su_seta, su_newo, su_newa, sg_setf, sg_seta, sg_newo, sg_newa, okq_n, th], cp, fun y q2 hq2 => ?_, ij, cn, l0, le⟩, f⟩
  obtain ⟨n0, n1, n2, n3, n4, n5, n6, n7, n8, n9, n10⟩ := nd y q2 hq2
  have lq := gc_lt n2
  by_cases hy : y = h
  · subst hy
    rw [hn] at hq2
    cases hq2
    rw [updN_is rfl, updI_is]
    exact ⟨n0, n1, n2, by simp (disch := first | omega | (simp (disch := omega) only [nx_setf, nx_seta, nx_newo, nx_newa]; omega)) only [gf_setf_ne, gf_setf_p, gf_setf_is, va_rf_s, va_rf_n, gf_seta, ga_setf, gc_setf, gc_seta, ga_seta_ne, ga_seta_eq, gf_new, gc_new, gf_newo_o, gc_newo_o, ga_newo_o, ga_new, gf_newa_o, gc_newa_o, ga_newa_o, nx_setf, nx_seta, nx_newo, nx_newa, su_setf, su_seta, su_newo, su_newa, sg_setf, sg_seta, sg_newo, sg_newa, okq_n, n3], by simp (disch := first | omega | (simp (disch := omega) only [nx_setf, nx_seta, nx_newo, nx_newa]; omega)) only [gf_setf_ne, gf_setf_p, gf_setf_is, va_rf_s, va_rf_n, gf_seta, ga_setf, gc_setf, gc_seta, ga_seta_ne, ga_seta_eq, gf_new, gc_new, gf_newo_o, gc_newo_o, ga_newo_o, ga_new, gf_newa_o, gc_newa_o, ga_newa_o, nx_setf, nx_seta, nx_newo, nx_newa, su_setf, su_seta, su_newo, su_newa, sg_setf, sg_seta, sg_newo, sg_newa, okq_n, n4], n5.fr f (by rw [n6]; exact l0'), n6, gf_setf_is lq, hx.fr f (by rw [wx]; exact l0'), wx, by simp (disch := first | omega | (simp (disch := omega) only [nx_setf, nx_seta, nx_newo, nx_newa]; omega)) only [gf_setf_ne, gf_setf_p, gf_setf_is, va_rf_s, va_rf_n, gf_seta, ga_setf, gc_setf, gc_seta, ga_seta_ne, ga_seta_eq, gf_new, gc_new, gf_newo_o, gc_newo_o, ga_newo_o, ga_new, gf_newa_o, gc_newa_o, ga_newa_o, nx_setf, nx_seta, nx_newo, nx_newa, su_setf, su_seta, su_newo, su_newa, sg_setf, sg_seta, sg_newo, sg_newa, okq_n, n10]⟩
  · have qq : q2 ≠ q := fun e => hy (ij y h q2 hq2 (by rw [e]; exact hn))
    rw [updN_ne hy, updI_ne hy]
    exact ⟨n0, n1, n2, by simp (disch := first | omega | (simp (disch := omega) only [nx_setf, nx_seta, nx_newo, nx_newa]; omega)) only [gf_setf_ne, gf_setf_p, gf_setf_is, va_rf_s, va_rf_n, gf_seta, ga_setf, gc_setf, gc_seta, ga_seta_ne, ga_seta_eq, gf_new, gc_new, gf_newo_o, gc_newo_o, ga_newo_o, ga_new, gf_newa_o, gc_newa_o, ga_newa_o, nx_setf, nx_seta, nx_newo, nx_newa, su_setf, su_seta, su_newo, su_newa, sg_setf, sg_seta, sg_newo, sg_newa, okq_n, n3], by simp (disch := first | omega | (simp (disch := omega) only [nx_setf, nx_seta, nx_newo, nx_newa]; omega)) only [gf_setf_ne, gf_setf_p, gf_setf_is, va_rf_s, va_rf_n, gf_seta, ga_setf, gc_setf, gc_seta, ga_seta_ne, ga_seta_eq, gf_new, gc_new, gf_newo_o, gc_newo_o, ga_newo_o, ga_new, gf_newa_o, gc_newa_o, ga_newa_o, nx_setf, nx_seta, nx_newo, nx_newa, su_setf, su_seta, su_newo, su_newa, sg_setf, sg_seta, sg_newo, sg_newa, okq_n, n4], n5.fr f (by rw [n6]; exact l0'), n6, by rw [gf_setf_p qq]; exact n7, n8.fr f (by rw [n9]; exact l0'), n9, by simp (disch := first | omega | (simp (disch := omega) only [nx_setf, nx_seta, nx_newo, nx_newa]; omega)) only [gf_setf_ne, gf_setf_p, gf_setf_is, va_rf_s, va_rf_n, gf_seta, ga_setf, gc_setf, gc_seta, ga_seta_ne, ga_seta_eq, gf_new, gc_new, gf_newo_o, gc_newo_o, ga_newo_o, ga_new, gf_newa_o, gc_newa_o, ga_newa_o, nx_setf, nx_seta, nx_newo, nx_newa, su_setf, su_seta, su_newo, su_newa, sg_setf, sg_seta, sg_newo, sg_newa, okq_n, n10]⟩
end
/-- what a map of marks holds -/
def HMz (A : Hp) (w : Lb) (p lb : Nat) (f : Nat → Option Int32) : Prop := ∃ cap tb nf fl kO vO vv n, HMs A w p lb cap tb nf fl kO vO vv n ∧ n ≤ cap * 3 / 4 ∧ ∀ h, h < 24 → f h = (match nf h with
  | none => none
  | some _ => some (vv h))
def updF (f : Nat → Option Int32) (h : Nat) (v : Int32) : Nat → Option Int32 := fun i => if i = h then some v else f i
section
variable {A A' : Hp} {w w' : Lb} {d p k x h lb c s : Nat} {f : Nat → Option Int32} {v : Int32} {X : Nat → Prop}
theorem HMz.fr (m : HMz A w p lb f) (g : Fr A w A' w' X c s) (hX : ¬ X lb) (h0 : ¬ X 0) : HMz A' w' p lb f := by
  obtain ⟨cap, tb, nf, fl, kO, vO, vv, n, m1, m2, m3⟩ := m
  exact ⟨cap, tb, nf, fl, kO, vO, vv, n, m1.fr g hX h0, m2, m3⟩
theorem m_32 (m : HMz A w p lb f) (hh : h < 24) (hk : MkO A k h) (wk : w k = 0) (hx : InS A x v) (wx : w x = 0) : ∃ A' w' r, evG TB (d + 5) 32 [.ref p, .ref k, .ref x] A = some (.inl (some r), A') ∧ okv 0 r = true ∧ HMz A' w' p lb (updF f h v) ∧ Fr A w A' w' (fun l => l = lb) 3 52 := by
  obtain ⟨cap, tb, nf, fl, kO, vO, vv, n, m1, m2, m3⟩ := m
  have c1 := m1.c
  have q31 : evG TB (d + 4) 31 [.ref k] A = some (.inl (some (.int (nI h))), A) := m_31 (d := d + 2) hk hh
  have l0' : ¬ (0 = lb) := fun e => m1.l0 e.symm
  have lk := gc_lt hk.c
  have lx := hx.k1.1
  -- at a table
  have at29 : ∀ (A : Hp) (w : Lb) (cap t : Nat) (nf : Nat → Option Nat), HMs A w p lb cap (some t) nf fl kO vO vv n → (cap = 16 ∨ cap = 32) → n ≤ cap * 3 / 4 → (∀ h, h < 24 → f h = (match nf h with
      | none => none
      | some _ => some (vv h))) → MkO A k h → w k = 0 → InS A x v → w x = 0 → ∃ A' w' r, exG TB (d + 3) 33 29 [some (.ref p), some (.int (nI h)), some (.ref k), some (.ref x), some (.int (nI 0)), some (.int (nI 1)), some (.ref t), none, some (.int (nI cap)), none, none, none, none] [] A = some (.inl (some r), A') ∧ okv 0 r = true ∧ HMz A' w' p lb (updF f h v) ∧ Fr A w A' w' (fun l => l = lb) 2 36 := by
    intro A w cap t nf m1 hc m2 m3 hk wk hx wx
    cases hn : nf h with
    | none =>
      obtain ⟨A', w', cap', t', e1, e2, e3, e4⟩ := m_33_new (d := d) m1 hc hh hn m2 hk wk hx wx
      refine ⟨A', w', _, e1, rfl, ⟨_, _, _, _, _, _, _, _, e2, e3, fun y hy => ?_⟩, e4⟩
      by_cases z : y = h
      · subst z
        rw [nfU_is, updI_is]
        exact if_pos rfl
      · rw [nfU_ne z, updI_ne z]
        exact (if_neg z).trans (m3 y hy)
    | some q =>
      obtain ⟨p1, p2⟩ := m1.put hn hx wx
      refine ⟨_, w, _, m_33_old (d := d) m1 hc hh hn hk, rfl, ⟨_, _, _, _, _, _, _, _, p1, m2, fun y hy => ?_⟩, p2.mono (fun _ h => h) (by omega) (by omega)⟩
      by_cases z : y = h
      · subst z
        rw [hn, updI_is]
        exact if_pos rfl
      · rw [updI_ne z]
        exact (if_neg z).trans (m3 y hy)
  have tt := m1.tt
  rcases m1.cp with ⟨e0, et⟩ | ⟨hc, t, e, t1, t2, t3, t4⟩
  · subst e0
    rw [et, va_rf_n] at tt
    obtain ⟨A1, e1, e2, e3⟩ := m_34_0 (d := d + 2) m1
    have n0 := m1.le rfl
    obtain ⟨A', w', r, r1, ro, r2, r3⟩ := at29 A1 _ 16 _ nf e2 (Or.inl rfl) (by omega) m3 (hk.fr e3 (by rw [wk]; exact l0')) (by rw [e3.lb (by rw [wk]; exact l0') lk]; exact wk) (hx.fr e3 (by rw [wx]; exact l0')) (by rw [e3.lb (by rw [wx]; exact l0') lx]; exact wx)
    refine ⟨A', w', r, ?_, ro, r2, (e3.trans r3).mono (fun _ h => h) (Nat.le_refl _) (Nat.le_refl _)⟩
    obtain ⟨g1, g2, g3⟩ : ∃ e, ga A1 (nx A) = some (tbA e 16) ∧ True := by
      rcases e2.cp with cp | ⟨_, t', e, g1, g2, g3, _⟩
      · cases cp.2
      · cases g1; exact ⟨e, g3, trivial⟩
    simp (disch := first | omega | (simp (disch := omega) only [nx_setf, nx_seta, nx_newo, nx_newa]; omega)) only [e_32, x_32_0, x_32_1, x_32_2, x_32_5, x_32_6, x_32_7, x_32_8, x_32_9, x_32_12, e_33, x_33_0, x_33_1, x_33_4, x_33_5, x_33_7n, x_33_7r, x_33_10, x_33_12, x_33_13, x_33_14, x_33_16, x_33_19, x_33_20, x_33_23, x_33_24, x_33_26, x_33_27, kv_s, ki_s, kj_s, kd_s, kq_s, kq_n, kq_o, ka_s, kc_r, kc_t, kc0_r, kc0_t, kch_r, kc0h_r, kw_s, kw0_s, kwh_s, kw0h_s, rg_ref, rg_null, rg_rf, ck_t, sel_some, lkn_hd, Option.isSome_some, Bool.true_and, Bool.and_true, okv_i, okv_l, okv_r, okv_n, okv_rf, okv_b, okv_0, okv_1, okv_f, okv_d, c1_i, c1_r, c1_n, c1_rf, c1_f, nI_add, n_mul, n_sub, n_pred, n_eq, n_le, n_lt, n_neN, n_Nne, N_lt, N_le, n_ltN, n_leN, rdI_n, rdJ_n, rdD_n, wrI_n, wrI_z0, wrI_z1, wrI_zb, wrJ_n, wrD_n, aln_s, okn_n, upd_is, upd_ne, Nat.add_zero, Nat.add_sub_cancel, decide_true, decide_false, cond_true, cond_false, if_true, if_false, ite_not, not_true_eq_false, not_false_eq_true, Nat.reduceEqDiff, Nat.reduceAdd, Nat.reduceMul, Nat.reduceSub, Nat.reduceLeDiff, gf_setf_ne, gf_setf_p, gf_setf_is, va_rf_s, va_rf_n, gf_seta, ga_setf, gc_setf, gc_seta, ga_seta_ne, ga_seta_eq, gf_new, gc_new, gf_newo_o, gc_newo_o, ga_newo_o, ga_new, gf_newa_o, gc_newa_o, ga_newa_o, nx_setf, nx_seta, nx_newo, nx_newa, su_setf, su_seta, su_newo, su_newa, sg_setf, sg_seta, sg_newo, sg_newa, okq_n, c1, q31, tt, e1, g2, r1, ro, ckT]
  · subst t1
    rw [va_rf_s] at tt
    obtain ⟨A', w', r, r1, ro, r2, r3⟩ := at29 A w cap t nf m1 hc m2 m3 hk wk hx wx
    refine ⟨A', w', r, ?_, ro, r2, r3.mono (fun _ h => h) (by omega) (by omega)⟩
    have hc0 : (cap = 0) = False := eq_false (by rcases hc with h | h <;> rw [h] <;> decide)
    have hc3 : cap < 1000 := by rcases hc with h | h <;> rw [h] <;> decide
    simp (disch := first | omega | (simp (disch := omega) only [nx_setf, nx_seta, nx_newo, nx_newa]; omega)) only [e_32, x_32_0, x_32_1, x_32_2, x_32_5, x_32_6, x_32_7, x_32_8, x_32_9, x_32_12, e_33, x_33_0, x_33_1, x_33_4, x_33_5, x_33_7n, x_33_7r, x_33_10, x_33_12, x_33_13, x_33_14, x_33_16, x_33_19, x_33_20, x_33_23, x_33_24, x_33_26, x_33_27, kv_s, ki_s, kj_s, kd_s, kq_s, kq_n, kq_o, ka_s, kc_r, kc_t, kc0_r, kc0_t, kch_r, kc0h_r, kw_s, kw0_s, kwh_s, kw0h_s, rg_ref, rg_null, rg_rf, ck_t, sel_some, lkn_hd, Option.isSome_some, Bool.true_and, Bool.and_true, okv_i, okv_l, okv_r, okv_n, okv_rf, okv_b, okv_0, okv_1, okv_f, okv_d, c1_i, c1_r, c1_n, c1_rf, c1_f, nI_add, n_mul, n_sub, n_pred, n_eq, n_le, n_lt, n_neN, n_Nne, N_lt, N_le, n_ltN, n_leN, rdI_n, rdJ_n, rdD_n, wrI_n, wrI_z0, wrI_z1, wrI_zb, wrJ_n, wrD_n, aln_s, okn_n, upd_is, upd_ne, Nat.add_zero, Nat.add_sub_cancel, decide_true, decide_false, cond_true, cond_false, if_true, if_false, ite_not, not_true_eq_false, not_false_eq_true, Nat.reduceEqDiff, Nat.reduceAdd, Nat.reduceMul, Nat.reduceSub, Nat.reduceLeDiff, gf_setf_ne, gf_setf_p, gf_setf_is, va_rf_s, va_rf_n, gf_seta, ga_setf, gc_setf, gc_seta, ga_seta_ne, ga_seta_eq, gf_new, gc_new, gf_newo_o, gc_newo_o, ga_newo_o, ga_new, gf_newa_o, gc_newa_o, ga_newa_o, nx_setf, nx_seta, nx_newo, nx_newa, su_setf, su_seta, su_newo, su_newa, sg_setf, sg_seta, sg_newo, sg_newa, okq_n, c1, q31, tt, t3, hc0, r1, ro, ckT]
end
