/-! HashMap's iterator -/
def bkL (nf : Nat → Option Nat) (fl : Nat → Bool) (cap i : Nat) : List Nat := (if cap = 32 then [i] else if i < 8 then (if fl i = true then [i, i + 16] else [i + 16, i]) else [i]).filter (fun h => (nf h).isSome)
def flt (nf : Nat → Option Nat) (fl : Nat → Bool) (cap : Nat) : Nat → List Nat
  | 0 => []
  | k + 1 => bkL nf fl cap (cap - (k + 1)) ++ flt nf fl cap k
/-- where an iterator stands: the node it will give, the bucket it looks at next, the marks to come -/
def PosI (nf : Nat → Option Nat) (fl : Nat → Bool) (cap : Nat) (o : Option Nat) (idx : Nat) : List Nat → Prop
  | [] => o = none
  | h :: t => o = nf h ∧ (nf h).isSome = true ∧ h < 24 ∧ ((nxF nf fl cap h = none ∧ t = flt nf fl cap (cap - idx)) ∨ ∃ h', nxF nf fl cap h = nf h' ∧ (nf h').isSome = true ∧ h' < 24 ∧ nxF nf fl cap h' = none ∧ t = h' :: flt nf fl cap (cap - idx))
abbrev HIs (A : Hp) (it p : Nat) (nf : Nat → Option Nat) (fl : Nat → Bool) (cap : Nat) (l : List Nat) : Prop := (gc A it = some 24) ∧ (gf A it 121 = some (.ref p)) ∧ (∃ z, gf A p 34 = some (.int z) ∧ gf A it 119 = some (.int z)) ∧ ((gf A it 118).isSome = true) ∧ (∃ o idx, gf A it 117 = some (va_rf o) ∧ gf A it 120 = some (.int (nI idx)) ∧ idx ≤ cap ∧ PosI nf fl cap o idx l)
theorem HIs.c {A : Hp} {it p : Nat} {nf : Nat → Option Nat} {fl : Nat → Bool} {cap : Nat} {l : List Nat} (hse1f : HIs A it p nf fl cap l) : gc A it = some 24 := hse1f.1
theorem HIs.t {A : Hp} {it p : Nat} {nf : Nat → Option Nat} {fl : Nat → Bool} {cap : Nat} {l : List Nat} (hse1f : HIs A it p nf fl cap l) : gf A it 121 = some (.ref p) := hse1f.2.1
theorem HIs.e {A : Hp} {it p : Nat} {nf : Nat → Option Nat} {fl : Nat → Bool} {cap : Nat} {l : List Nat} (hse1f : HIs A it p nf fl cap l) : ∃ z, gf A p 34 = some (.int z) ∧ gf A it 119 = some (.int z) := hse1f.2.2.1
theorem HIs.cu {A : Hp} {it p : Nat} {nf : Nat → Option Nat} {fl : Nat → Bool} {cap : Nat} {l : List Nat} (hse1f : HIs A it p nf fl cap l) : (gf A it 118).isSome = true := hse1f.2.2.2.1
theorem HIs.st {A : Hp} {it p : Nat} {nf : Nat → Option Nat} {fl : Nat → Bool} {cap : Nat} {l : List Nat} (hse1f : HIs A it p nf fl cap l) : ∃ o idx, gf A it 117 = some (va_rf o) ∧ gf A it 120 = some (.int (nI idx)) ∧ idx ≤ cap ∧ PosI nf fl cap o idx l := hse1f.2.2.2.2
def itH (A : Hp) (it : Nat) (o : Option Nat) (idx : Nat) : Hp :=
  (fun f q => if q = it ∧ f = 117 then some (va_rf o) else if q = it ∧ f = 120 then some (.int (nI idx)) else A.1 f q, A.2)
section
variable {nf : Nat → Option Nat} {fl : Nat → Bool} {cap i q h : Nat} {A : Hp} {it f : Nat} {o o' : Option Nat} {idx idx' : Nat}
theorem bkL_none (hc : cap = 16 ∨ cap = 32) (hn : hdF nf fl cap i = none) : bkL nf fl cap i = [] := by
  rcases hc with hc | hc <;> subst hc
  · unfold hdF at hn
    unfold bkL
    cases e1 : nf i <;> cases e2 : nf (i + 16) <;> cases e3 : fl i <;> by_cases h8 : i < 8 <;> grind [List.filter, Option.or]
  · unfold hdF at hn
    unfold bkL
    cases e1 : nf i <;> grind [List.filter]
theorem bkL_some (hc : cap = 16 ∨ cap = 32) (hi : i < cap) (h24 : ∀ h q, nf h = some q → h < 24) (hn : hdF nf fl cap i = some q) : ∃ h, h < 24 ∧ nf h = some q ∧ ((bkL nf fl cap i = [h] ∧ nxF nf fl cap h = none) ∨ ∃ h', bkL nf fl cap i = [h, h'] ∧ nxF nf fl cap h = nf h' ∧ (nf h').isSome = true ∧ h' < 24 ∧ nxF nf fl cap h' = none) := by
  rcases hc with hc | hc <;> subst hc
  · unfold hdF at hn
    unfold bkL nxF
    cases e1 : nf i <;> cases e2 : nf (i + 16) <;> cases e3 : fl i <;> by_cases h8 : i < 8 <;> grind [List.filter, Option.or]
  · unfold hdF at hn
    unfold bkL nxF
    cases e1 : nf i <;> grind [List.filter]
theorem mem_bkL (hc : cap = 16 ∨ cap = 32) (hh : h < 24) : h ∈ bkL nf fl cap (h % cap) ↔ (nf h).isSome = true := by
  rcases hc with hc | hc <;> subst hc
  · unfold bkL
    rw [List.mem_filter]
    grind
  · unfold bkL
    rw [List.mem_filter]
    grind
theorem mem_flt : ∀ (k : Nat), k ≤ cap → (h ∈ flt nf fl cap k ↔ ∃ i, cap - k ≤ i ∧ i < cap ∧ h ∈ bkL nf fl cap i)
  | 0, hk => by
    constructor
    · intro h; cases h
    · rintro ⟨i, h1, h2, _⟩; omega
  | k + 1, hk => by
    show h ∈ bkL nf fl cap (cap - (k + 1)) ++ flt nf fl cap k ↔ _
    rw [List.mem_append, mem_flt k (by omega)]
    constructor
    · rintro (h1 | ⟨i, h1, h2, h3⟩)
      · exact ⟨cap - (k + 1), Nat.le_refl _, by omega, h1⟩
      · exact ⟨i, by omega, h2, h3⟩
    · rintro ⟨i, h1, h2, h3⟩
      by_cases z : i = cap - (k + 1)
      · rw [z] at h3; exact Or.inl h3
      · exact Or.inr ⟨i, by omega, h2, h3⟩
theorem mem_fltA (hc : cap = 16 ∨ cap = 32) (hh : h < 24) (hs : (nf h).isSome = true) : h ∈ flt nf fl cap cap :=
  (mem_flt cap (Nat.le_refl _)).mpr ⟨h % cap, by omega, Nat.mod_lt _ (by omega), (mem_bkL hc hh).mpr hs⟩
theorem itH_nx : nx (itH A it o idx) = nx A := rfl
theorem itH_gc : gc (itH A it o idx) q = gc A q := rfl
theorem itH_ga : ga (itH A it o idx) q = ga A q := rfl
theorem itH_117 (h : it < nx A) : gf (itH A it o idx) it 117 = some (va_rf o) := gf_i (A := itH A it o idx) h (if_pos ⟨rfl, rfl⟩)
theorem itH_120 (h : it < nx A) : gf (itH A it o idx) it 120 = some (.int (nI idx)) := gf_i (A := itH A it o idx) h ((if_neg (fun e => absurd e.2 (by decide))).trans (if_pos ⟨rfl, rfl⟩))
theorem itH_o (h1 : f ≠ 117) (h2 : f ≠ 120) : gf (itH A it o idx) q f = gf A q f := by
  unfold gf
  rw [itH_nx]
  congr 1
  exact (if_neg (fun e => h1 e.2)).trans (if_neg (fun e => h2 e.2))
theorem itH_s1 : setf (itH A it o idx) it 117 (va_rf o') = itH A it o' idx := by
  unfold setf itH
  refine Prod.ext ?_ rfl
  funext g y
  dsimp only
  grind
theorem itH_s2 : setf (itH A it o idx) it 120 (.int (nI idx')) = itH A it o idx' := by
  unfold setf itH
  refine Prod.ext ?_ rfl
  funext g y
  dsimp only
  grind
theorem itH_in (h : gf A it 120 = some (.int (nI idx))) : setf A it 117 (va_rf o) = itH A it o idx := by
  have := (gf_spec h).2
  unfold setf itH
  refine Prod.ext ?_ rfl
  funext g y
  dsimp only
  grind
theorem itH_fr {w : Lb} {X : Nat → Prop} (hX : X (w it)) : Fr A w (itH A it o idx) w X 0 0 := ⟨rfl, Nat.le_refl _, Nat.le_refl _, Nat.le_refl _, Nat.le_refl _, fun _ _ => rfl, fun q _ h => ⟨rfl, fun f => by
  have hq : q ≠ it := fun e => h (by rw [e]; exact hX)
  show (if q = it ∧ f = 117 then _ else if q = it ∧ f = 120 then _ else _) = _
  rw [if_neg (fun e => hq e.1), if_neg (fun e => hq e.1)], rfl⟩⟩
theorem m_87_lp (hc : cap = 16 ∨ cap = 32) (h24 : ∀ h q, nf h = some q → h < 24) {e : Nat → Option Nat} {t d : Nat} (ht : ga A t = some (tbA e cap)) (he : ∀ i, i < cap → e i = hdF nf fl cap i) (hit : it < nx A) (v2 : Option Value) : ∀ (k idx : Nat), idx + k = cap → ∃ o' idx', exG TB d 87 68 [some (.ref it), some (.ref t), v2] [] (itH A it none idx) = exG TB d 87 98 [some (.ref it), some (.ref t), v2] [] (itH A it o' idx') ∧ idx' ≤ cap ∧ PosI nf fl cap o' idx' (flt nf fl cap k)
  | 0, idx, hk => by
    have : idx = cap := by omega
    subst this
    have hcap : idx ≤ 1000 := by omega
    refine ⟨none, idx, x_87_68.trans ?_, Nat.le_refl _, rfl⟩
    simp (disch := first | omega | (simp (disch := omega) only [nx_setf, nx_seta, nx_newo, nx_newa]; omega)) only [x_87_69, x_87_72, x_87_73, x_87_74, x_87_77, x_87_78, x_87_79, x_87_80, x_87_81, x_87_84, x_87_85, x_87_86, x_87_87, x_87_90, x_87_91, x_87_92, x_87_95n, x_87_95r, kv_s, ki_s, kj_s, kd_s, kq_s, kq_n, kq_o, ka_s, kc_r, kc_t, kc0_r, kc0_t, kch_r, kc0h_r, kw_s, kw0_s, kwh_s, kw0h_s, rg_ref, rg_null, rg_rf, ck_t, sel_some, lkn_hd, Option.isSome_some, Bool.true_and, Bool.and_true, okv_i, okv_l, okv_r, okv_n, okv_rf, okv_b, okv_0, okv_1, okv_f, okv_d, c1_i, c1_r, c1_n, c1_rf, c1_f, nI_add, n_mul, n_sub, n_pred, n_eq, n_le, n_lt, n_neN, n_Nne, N_lt, N_le, n_ltN, n_leN, rdI_n, rdJ_n, rdD_n, wrI_n, wrI_z0, wrI_z1, wrI_zb, wrJ_n, wrD_n, aln_s, okn_n, upd_is, upd_ne, Nat.add_zero, Nat.add_sub_cancel, decide_true, decide_false, cond_true, cond_false, if_true, if_false, ite_not, not_true_eq_false, not_false_eq_true, Nat.reduceEqDiff, Nat.reduceAdd, Nat.reduceMul, Nat.reduceSub, Nat.reduceLeDiff, itH_120 hit, itH_ga, ht, yle (Nat.le_refl idx)]
  | k + 1, idx, hk => by
    have hcap : cap ≤ 1000 := by omega
    have hi : idx < cap := by omega
    have rd := tbRd (e := e) hi hcap
    rw [he idx hi] at rd
    have ek : cap - (k + 1) = idx := by omega
    cases hd : hdF nf fl cap idx with
    | none =>
      rw [hd] at rd
      obtain ⟨o', idx', e1, e2, e3⟩ := m_87_lp hc h24 ht he hit v2 k (idx + 1) (by omega)
      refine ⟨o', idx', x_87_68.trans ?_, e2, ?_⟩
      · rw [← e1]
        simp (disch := first | omega | (simp (disch := omega) only [nx_setf, nx_seta, nx_newo, nx_newa]; omega)) only [x_87_69, x_87_72, x_87_73, x_87_74, x_87_77, x_87_78, x_87_79, x_87_80, x_87_81, x_87_84, x_87_85, x_87_86, x_87_87, x_87_90, x_87_91, x_87_92, x_87_95n, x_87_95r, kv_s, ki_s, kj_s, kd_s, kq_s, kq_n, kq_o, ka_s, kc_r, kc_t, kc0_r, kc0_t, kch_r, kc0h_r, kw_s, kw0_s, kwh_s, kw0h_s, rg_ref, rg_null, rg_rf, ck_t, sel_some, lkn_hd, Option.isSome_some, Bool.true_and, Bool.and_true, okv_i, okv_l, okv_r, okv_n, okv_rf, okv_b, okv_0, okv_1, okv_f, okv_d, c1_i, c1_r, c1_n, c1_rf, c1_f, nI_add, n_mul, n_sub, n_pred, n_eq, n_le, n_lt, n_neN, n_Nne, N_lt, N_le, n_ltN, n_leN, rdI_n, rdJ_n, rdD_n, wrI_n, wrI_z0, wrI_z1, wrI_zb, wrJ_n, wrD_n, aln_s, okn_n, upd_is, upd_ne, Nat.add_zero, Nat.add_sub_cancel, decide_true, decide_false, cond_true, cond_false, if_true, if_false, ite_not, not_true_eq_false, not_false_eq_true, Nat.reduceEqDiff, Nat.reduceAdd, Nat.reduceMul, Nat.reduceSub, Nat.reduceLeDiff, itH_120 hit, itH_117 hit, itH_ga, ht, nle hi, rd, itH_s2, Option.isSome_some, va_rf_n]
        have := itH_s1 (A := A) (it := it) (o := none) (o' := none) (idx := idx + 1)
        rw [va_rf_n] at this
        rw [this]
      · show PosI nf fl cap o' idx' (bkL nf fl cap (cap - (k + 1)) ++ flt nf fl cap k)
        rw [ek, bkL_none hc hd]
        exact e3
    | some q =>
      rw [hd] at rd
      obtain ⟨h, h1, h2, h3⟩ := bkL_some hc hi h24 hd
      refine ⟨some q, idx + 1, x_87_68.trans ?_, hi, ?_⟩
      · simp (disch := first | omega | (simp (disch := omega) only [nx_setf, nx_seta, nx_newo, nx_newa]; omega)) only [x_87_69, x_87_72, x_87_73, x_87_74, x_87_77, x_87_78, x_87_79, x_87_80, x_87_81, x_87_84, x_87_85, x_87_86, x_87_87, x_87_90, x_87_91, x_87_92, x_87_95n, x_87_95r, kv_s, ki_s, kj_s, kd_s, kq_s, kq_n, kq_o, ka_s, kc_r, kc_t, kc0_r, kc0_t, kch_r, kc0h_r, kw_s, kw0_s, kwh_s, kw0h_s, rg_ref, rg_null, rg_rf, ck_t, sel_some, lkn_hd, Option.isSome_some, Bool.true_and, Bool.and_true, okv_i, okv_l, okv_r, okv_n, okv_rf, okv_b, okv_0, okv_1, okv_f, okv_d, c1_i, c1_r, c1_n, c1_rf, c1_f, nI_add, n_mul, n_sub, n_pred, n_eq, n_le, n_lt, n_neN, n_Nne, N_lt, N_le, n_ltN, n_leN, rdI_n, rdJ_n, rdD_n, wrI_n, wrI_z0, wrI_z1, wrI_zb, wrJ_n, wrD_n, aln_s, okn_n, upd_is, upd_ne, Nat.add_zero, Nat.add_sub_cancel, decide_true, decide_false, cond_true, cond_false, if_true, if_false, ite_not, not_true_eq_false, not_false_eq_true, Nat.reduceEqDiff, Nat.reduceAdd, Nat.reduceMul, Nat.reduceSub, Nat.reduceLeDiff, itH_120 hit, itH_117 hit, itH_ga, ht, nle hi, rd, itH_s2, Option.isSome_some, va_rf_s]
        have := itH_s1 (A := A) (it := it) (o := none) (o' := some q) (idx := idx + 1)
        rw [va_rf_s] at this
        rw [this]
      · show PosI nf fl cap (some q) (idx + 1) (bkL nf fl cap (cap - (k + 1)) ++ flt nf fl cap k)
        have ek2 : cap - (idx + 1) = k := by omega
        rw [ek]
        rcases h3 with ⟨h3, h4⟩ | ⟨h', h3, h4, h5, h6, h7⟩
        · rw [h3]
          exact ⟨h2.symm, by rw [h2]; rfl, h1, Or.inl ⟨h4, by rw [ek2]; rfl⟩⟩
        · rw [h3]
          exact ⟨h2.symm, by rw [h2]; rfl, h1, Or.inr ⟨h', h4, h5, h6, h7, by rw [ek2]; rfl⟩⟩
theorem m_88_lp (hc : cap = 16 ∨ cap = 32) (h24 : ∀ h q, nf h = some q → h < 24) {e : Nat → Option Nat} {t d p : Nat} (ht : ga A t = some (tbA e cap)) (he : ∀ i, i < cap → e i = hdF nf fl cap i) (hit : it < nx A)  : ∀ (k idx : Nat), idx + k = cap → ∃ o' idx', exG TB d 88 48 [some (.ref it), some (.ref p), some (.ref t)] [] (itH A it none idx) = exG TB d 88 78 [some (.ref it), some (.ref p), some (.ref t)] [] (itH A it o' idx') ∧ idx' ≤ cap ∧ PosI nf fl cap o' idx' (flt nf fl cap k)
  | 0, idx, hk => by
    have : idx = cap := by omega
    subst this
    have hcap : idx ≤ 1000 := by omega
    refine ⟨none, idx, x_88_48.trans ?_, Nat.le_refl _, rfl⟩
    simp (disch := first | omega | (simp (disch := omega) only [nx_setf, nx_seta, nx_newo, nx_newa]; omega)) only [x_88_49, x_88_52, x_88_53, x_88_54, x_88_57, x_88_58, x_88_59, x_88_60, x_88_61, x_88_64, x_88_65, x_88_66, x_88_67, x_88_70, x_88_71, x_88_72, x_88_75n, x_88_75r, kv_s, ki_s, kj_s, kd_s, kq_s, kq_n, kq_o, ka_s, kc_r, kc_t, kc0_r, kc0_t, kch_r, kc0h_r, kw_s, kw0_s, kwh_s, kw0h_s, rg_ref, rg_null, rg_rf, ck_t, sel_some, lkn_hd, Option.isSome_some, Bool.true_and, Bool.and_true, okv_i, okv_l, okv_r, okv_n, okv_rf, okv_b, okv_0, okv_1, okv_f, okv_d, c1_i, c1_r, c1_n, c1_rf, c1_f, nI_add, n_mul, n_sub, n_pred, n_eq, n_le, n_lt, n_neN, n_Nne, N_lt, N_le, n_ltN, n_leN, rdI_n, rdJ_n, rdD_n, wrI_n, wrI_z0, wrI_z1, wrI_zb, wrJ_n, wrD_n, aln_s, okn_n, upd_is, upd_ne, Nat.add_zero, Nat.add_sub_cancel, decide_true, decide_false, cond_true, cond_false, if_true, if_false, ite_not, not_true_eq_false, not_false_eq_true, Nat.reduceEqDiff, Nat.reduceAdd, Nat.reduceMul, Nat.reduceSub, Nat.reduceLeDiff, itH_120 hit, itH_ga, ht, yle (Nat.le_refl idx)]
  | k + 1, idx, hk => by
    have hcap : cap ≤ 1000 := by omega
    have hi : idx < cap := by omega
    have rd := tbRd (e := e) hi hcap
    rw [he idx hi] at rd
    have ek : cap - (k + 1) = idx := by omega
    cases hd : hdF nf fl cap idx with
    | none =>
      rw [hd] at rd
      obtain ⟨o', idx', e1, e2, e3⟩ := m_88_lp hc h24 ht he hit k (idx + 1) (by omega)
      refine ⟨o', idx', x_88_48.trans ?_, e2, ?_⟩
      · rw [← e1]
        simp (disch := first | omega | (simp (disch := omega) only [nx_setf, nx_seta, nx_newo, nx_newa]; omega)) only [x_88_49, x_88_52, x_88_53, x_88_54, x_88_57, x_88_58, x_88_59, x_88_60, x_88_61, x_88_64, x_88_65, x_88_66, x_88_67, x_88_70, x_88_71, x_88_72, x_88_75n, x_88_75r, kv_s, ki_s, kj_s, kd_s, kq_s, kq_n, kq_o, ka_s, kc_r, kc_t, kc0_r, kc0_t, kch_r, kc0h_r, kw_s, kw0_s, kwh_s, kw0h_s, rg_ref, rg_null, rg_rf, ck_t, sel_some, lkn_hd, Option.isSome_some, Bool.true_and, Bool.and_true, okv_i, okv_l, okv_r, okv_n, okv_rf, okv_b, okv_0, okv_1, okv_f, okv_d, c1_i, c1_r, c1_n, c1_rf, c1_f, nI_add, n_mul, n_sub, n_pred, n_eq, n_le, n_lt, n_neN, n_Nne, N_lt, N_le, n_ltN, n_leN, rdI_n, rdJ_n, rdD_n, wrI_n, wrI_z0, wrI_z1, wrI_zb, wrJ_n, wrD_n, aln_s, okn_n, upd_is, upd_ne, Nat.add_zero, Nat.add_sub_cancel, decide_true, decide_false, cond_true, cond_false, if_true, if_false, ite_not, not_true_eq_false, not_false_eq_true, Nat.reduceEqDiff, Nat.reduceAdd, Nat.reduceMul, Nat.reduceSub, Nat.reduceLeDiff, itH_120 hit, itH_117 hit, itH_ga, ht, nle hi, rd, itH_s2, Option.isSome_some, va_rf_n]
        have := itH_s1 (A := A) (it := it) (o := none) (o' := none) (idx := idx + 1)
        rw [va_rf_n] at this
        rw [this]
      · show PosI nf fl cap o' idx' (bkL nf fl cap (cap - (k + 1)) ++ flt nf fl cap k)
        rw [ek, bkL_none hc hd]
        exact e3
    | some q =>
      rw [hd] at rd
      obtain ⟨h, h1, h2, h3⟩ := bkL_some hc hi h24 hd
      refine ⟨some q, idx + 1, x_88_48.trans ?_, hi, ?_⟩
      · simp (disch := first | omega | (simp (disch := omega) only [nx_setf, nx_seta, nx_newo, nx_newa]; omega)) only [x_88_49, x_88_52, x_88_53, x_88_54, x_88_57, x_88_58, x_88_59, x_88_60, x_88_61, x_88_64, x_88_65, x_88_66, x_88_67, x_88_70, x_88_71, x_88_72, x_88_75n, x_88_75r, kv_s, ki_s, kj_s, kd_s, kq_s, kq_n, kq_o, ka_s, kc_r, kc_t, kc0_r, kc0_t, kch_r, kc0h_r, kw_s, kw0_s, kwh_s, kw0h_s, rg_ref, rg_null, rg_rf, ck_t, sel_some, lkn_hd, Option.isSome_some, Bool.true_and, Bool.and_true, okv_i, okv_l, okv_r, okv_n, okv_rf, okv_b, okv_0, okv_1, okv_f, okv_d, c1_i, c1_r, c1_n, c1_rf, c1_f, nI_add, n_mul, n_sub, n_pred, n_eq, n_le, n_lt, n_neN, n_Nne, N_lt, N_le, n_ltN, n_leN, rdI_n, rdJ_n, rdD_n, wrI_n, wrI_z0, wrI_z1, wrI_zb, wrJ_n, wrD_n, aln_s, okn_n, upd_is, upd_ne, Nat.add_zero, Nat.add_sub_cancel, decide_true, decide_false, cond_true, cond_false, if_true, if_false, ite_not, not_true_eq_false, not_false_eq_true, Nat.reduceEqDiff, Nat.reduceAdd, Nat.reduceMul, Nat.reduceSub, Nat.reduceLeDiff, itH_120 hit, itH_117 hit, itH_ga, ht, nle hi, rd, itH_s2, Option.isSome_some, va_rf_s]
        have := itH_s1 (A := A) (it := it) (o := none) (o' := some q) (idx := idx + 1)
        rw [va_rf_s] at this
        rw [this]
      · show PosI nf fl cap (some q) (idx + 1) (bkL nf fl cap (cap - (k + 1)) ++ flt nf fl cap k)
        have ek2 : cap - (idx + 1) = k := by omega
        rw [ek]
        rcases h3 with ⟨h3, h4⟩ | ⟨h', h3, h4, h5, h6, h7⟩
        · rw [h3]
          exact ⟨h2.symm, by rw [h2]; rfl, h1, Or.inl ⟨h4, by rw [ek2]; rfl⟩⟩
        · rw [h3]
          exact ⟨h2.symm, by rw [h2]; rfl, h1, Or.inr ⟨h', h4, h5, h6, h7, by rw [ek2]; rfl⟩⟩
end
theorem dv24_117 : dv24 117 = some .null := rfl
theorem dv24_118 : dv24 118 = some .null := rfl
theorem dv24_119 : dv24 119 = some (.int (nI 0)) := rfl
theorem dv24_120 : dv24 120 = some (.int (nI 0)) := rfl
theorem dv24_121 : dv24 121 = some .null := rfl
theorem dv29_147 : dv29 147 = some .null := rfl
theorem dv6_29 : dv6 29 = some .null := rfl
theorem dv6_30 : dv6 30 = some .null := rfl
theorem dv6_31 : dv6 31 = some .null := rfl
theorem dv6_32 : dv6 32 = some .null := rfl
theorem dv6_33 : dv6 33 = some (.int (nI 0)) := rfl
theorem dv6_34 : dv6 34 = some (.int (nI 0)) := rfl
theorem dv6_35 : dv6 35 = some (.int (nI 0)) := rfl
section
variable {A A' : Hp} {w w' : Lb} {d p lb cap n h it q c s : Nat} {tb : Option Nat} {nf : Nat → Option Nat} {fl : Nat → Bool} {kO vO : Nat → Nat} {vv : Nat → Int32} {l : List Nat} {X : Nat → Prop}
theorem m_98 {k : Nat} (hk : gf A q 144 = some (.ref k)) : evG TB (d + 1) 98 [.ref q] A = some (.inl (some (.ref k)), A) := by
  simp (disch := first | omega | (simp (disch := omega) only [nx_setf, nx_seta, nx_newo, nx_newa]; omega)) only [e_98, x_98_0, x_98_1, x_98_4, kv_s, ki_s, kj_s, kd_s, kq_s, kq_n, kq_o, ka_s, kc_r, kc_t, kc0_r, kc0_t, kch_r, kc0h_r, kw_s, kw0_s, kwh_s, kw0h_s, rg_ref, rg_null, rg_rf, ck_t, sel_some, lkn_hd, Option.isSome_some, Bool.true_and, Bool.and_true, okv_i, okv_l, okv_r, okv_n, okv_rf, okv_b, okv_0, okv_1, okv_f, okv_d, c1_i, c1_r, c1_n, c1_rf, c1_f, nI_add, n_mul, n_sub, n_pred, n_eq, n_le, n_lt, n_neN, n_Nne, N_lt, N_le, n_ltN, n_leN, rdI_n, rdJ_n, rdD_n, wrI_n, wrI_z0, wrI_z1, wrI_zb, wrJ_n, wrD_n, aln_s, okn_n, upd_is, upd_ne, Nat.add_zero, Nat.add_sub_cancel, decide_true, decide_false, cond_true, cond_false, if_true, if_false, ite_not, not_true_eq_false, not_false_eq_true, Nat.reduceEqDiff, Nat.reduceAdd, Nat.reduceMul, Nat.reduceSub, Nat.reduceLeDiff, hk]
theorem m_99 {k : Nat} (hk : gf A q 145 = some (.ref k)) : evG TB (d + 1) 99 [.ref q] A = some (.inl (some (.ref k)), A) := by
  simp (disch := first | omega | (simp (disch := omega) only [nx_setf, nx_seta, nx_newo, nx_newa]; omega)) only [e_99, x_99_0, x_99_1, x_99_4, kv_s, ki_s, kj_s, kd_s, kq_s, kq_n, kq_o, ka_s, kc_r, kc_t, kc0_r, kc0_t, kch_r, kc0h_r, kw_s, kw0_s, kwh_s, kw0h_s, rg_ref, rg_null, rg_rf, ck_t, sel_some, lkn_hd, Option.isSome_some, Bool.true_and, Bool.and_true, okv_i, okv_l, okv_r, okv_n, okv_rf, okv_b, okv_0, okv_1, okv_f, okv_d, c1_i, c1_r, c1_n, c1_rf, c1_f, nI_add, n_mul, n_sub, n_pred, n_eq, n_le, n_lt, n_neN, n_Nne, N_lt, N_le, n_ltN, n_leN, rdI_n, rdJ_n, rdD_n, wrI_n, wrI_z0, wrI_z1, wrI_zb, wrJ_n, wrD_n, aln_s, okn_n, upd_is, upd_ne, Nat.add_zero, Nat.add_sub_cancel, decide_true, decide_false, cond_true, cond_false, if_true, if_false, ite_not, not_true_eq_false, not_false_eq_true, Nat.reduceEqDiff, Nat.reduceAdd, Nat.reduceMul, Nat.reduceSub, Nat.reduceLeDiff, hk]
theorem m_86 (hi : HIs A it p nf fl cap l) : evG TB (d + 1) 86 [.ref it] A = some (.inl (some (.int (bI (decide (l ≠ []))))), A) := by
  obtain ⟨c1, t1, e1, cu, o, idx, s1, s2, s3, s4⟩ := hi
  cases l with
  | nil =>
    have : o = none := s4
    rw [this, va_rf_n] at s1
    rw [decide_eq_false (fun z => z rfl), bI_f]
    simp (disch := first | omega | (simp (disch := omega) only [nx_setf, nx_seta, nx_newo, nx_newa]; omega)) only [e_86, x_86_0, x_86_1, x_86_4n, x_86_4r, x_86_7, x_86_8, x_86_11, x_86_12, kv_s, ki_s, kj_s, kd_s, kq_s, kq_n, kq_o, ka_s, kc_r, kc_t, kc0_r, kc0_t, kch_r, kc0h_r, kw_s, kw0_s, kwh_s, kw0h_s, rg_ref, rg_null, rg_rf, ck_t, sel_some, lkn_hd, Option.isSome_some, Bool.true_and, Bool.and_true, okv_i, okv_l, okv_r, okv_n, okv_rf, okv_b, okv_0, okv_1, okv_f, okv_d, c1_i, c1_r, c1_n, c1_rf, c1_f, nI_add, n_mul, n_sub, n_pred, n_eq, n_le, n_lt, n_neN, n_Nne, N_lt, N_le, n_ltN, n_leN, rdI_n, rdJ_n, rdD_n, wrI_n, wrI_z0, wrI_z1, wrI_zb, wrJ_n, wrD_n, aln_s, okn_n, upd_is, upd_ne, Nat.add_zero, Nat.add_sub_cancel, decide_true, decide_false, cond_true, cond_false, if_true, if_false, ite_not, not_true_eq_false, not_false_eq_true, Nat.reduceEqDiff, Nat.reduceAdd, Nat.reduceMul, Nat.reduceSub, Nat.reduceLeDiff, s1]
  | cons h t =>
    obtain ⟨g1, g2, _⟩ := s4
    cases hn : nf h with
    | none => rw [hn] at g2; cases g2
    | some q =>
      rw [g1, hn, va_rf_s] at s1
      rw [decide_eq_true (fun z => by cases z), bI_t]
      simp (disch := first | omega | (simp (disch := omega) only [nx_setf, nx_seta, nx_newo, nx_newa]; omega)) only [e_86, x_86_0, x_86_1, x_86_4n, x_86_4r, x_86_7, x_86_8, x_86_11, x_86_12, kv_s, ki_s, kj_s, kd_s, kq_s, kq_n, kq_o, ka_s, kc_r, kc_t, kc0_r, kc0_t, kch_r, kc0h_r, kw_s, kw0_s, kwh_s, kw0h_s, rg_ref, rg_null, rg_rf, ck_t, sel_some, lkn_hd, Option.isSome_some, Bool.true_and, Bool.and_true, okv_i, okv_l, okv_r, okv_n, okv_rf, okv_b, okv_0, okv_1, okv_f, okv_d, c1_i, c1_r, c1_n, c1_rf, c1_f, nI_add, n_mul, n_sub, n_pred, n_eq, n_le, n_lt, n_neN, n_Nne, N_lt, N_le, n_ltN, n_leN, rdI_n, rdJ_n, rdD_n, wrI_n, wrI_z0, wrI_z1, wrI_zb, wrJ_n, wrD_n, aln_s, okn_n, upd_is, upd_ne, Nat.add_zero, Nat.add_sub_cancel, decide_true, decide_false, cond_true, cond_false, if_true, if_false, ite_not, not_true_eq_false, not_false_eq_true, Nat.reduceEqDiff, Nat.reduceAdd, Nat.reduceMul, Nat.reduceSub, Nat.reduceLeDiff, s1]
theorem HIs.fr (hi : HIs A it p nf fl cap l) (f : Fr A w A' w' X c s) (h1 : ¬ X (w it)) (h2 : ¬ X (w p)) : HIs A' it p nf fl cap l := by
  obtain ⟨c1, t1, ⟨z, e1, e2⟩, cu, o, idx, s1, s2, s3, s4⟩ := hi
  refine ⟨f.cc c1, f.fd h1 t1, ⟨z, f.fd h2 e1, f.fd h1 e2⟩, ?_, o, idx, f.fd h1 s1, f.fd h1 s2, s3, s4⟩
  obtain ⟨v, hv⟩ := Option.isSome_iff_exists.mp cu
  rw [f.fd h1 hv]; rfl
theorem HMs.tbl (m : HMs A w p lb cap (some q) nf fl kO vO vv n) : (cap = 16 ∨ cap = 32) ∧ w q = lb ∧ ∃ e, ga A q = some (tbA e cap) ∧ ∀ i, i < cap → e i = hdF nf fl cap i := by
  rcases m.cp with ⟨_, e⟩ | ⟨hc, t', e, g1, g2, g3, g4⟩
  · cases e
  · cases g1; exact ⟨hc, g2, e, g3, g4⟩
/-- the next node -/
theorem m_87 (m : HMs A w p lb cap tb nf fl kO vO vv n) (hi : HIs A it p nf fl cap (h :: l)) (hw : w it ≠ lb) {X : Nat → Prop} (hX : X (w it)) : ∃ A' q, evG TB (d + 1) 87 [.ref it] A = some (.inl (some (.ref q)), A') ∧ nf h = some q ∧ HIs A' it p nf fl cap l ∧ Fr A w A' w X 0 0 := by
  obtain ⟨c1, t1, ⟨z, e1, e2⟩, cu, o, idx, s1, s2, s3, g1, g2, g3, g4⟩ := hi
  cases hn : nf h with
  | none => rw [hn] at g2; cases g2
  | some q =>
    rw [g1, hn, va_rf_s] at s1
    obtain ⟨n0, n1, n2, n3, n4, n5, n6, n7, n8, n9, n10⟩ := m.nd h q hn
    have hit := gc_lt c1
    have hq := gc_lt n2
    have hp := gc_lt m.c
    have qit : q ≠ it := fun e => by rw [e, c1] at n2; cases n2
    have pit : p ≠ it := fun e => by have := m.c; rw [e, c1] at this; cases this
    have s2' : gf (setf A it 118 (.ref q)) it 120 = some (.int (nI idx)) := by simp (disch := first | omega | (simp (disch := omega) only [nx_setf, nx_seta, nx_newo, nx_newa]; omega)) only [gf_setf_ne, gf_setf_p, gf_setf_is, va_rf_s, va_rf_n, gf_seta, ga_setf, gc_setf, gc_seta, ga_seta_ne, ga_seta_eq, gf_new, gc_new, gf_newo_o, gc_newo_o, ga_newo_o, ga_new, gf_newa_o, gc_newa_o, ga_newa_o, nx_setf, nx_seta, nx_newo, nx_newa, su_setf, su_seta, su_newo, su_newa, sg_setf, sg_seta, sg_newo, sg_newa, okq_n, s2]
    have f1 : Fr A w (setf A it 118 (.ref q)) w X 0 0 := Fr.stf hX
    have cu' : ∀ o i, (gf (itH (setf A it 118 (.ref q)) it o i) it 118).isSome = true := fun o i => by
      rw [itH_o (by decide) (by decide), gf_setf_is hit]; rfl
    have his : ∀ o' idx' l', idx' ≤ cap → PosI nf fl cap o' idx' l' → HIs (itH (setf A it 118 (.ref q)) it o' idx') it p nf fl cap l' := fun o' idx' l' h1 h2 => ⟨c1, by rw [itH_o (by decide) (by decide)]; simp (disch := first | omega | (simp (disch := omega) only [nx_setf, nx_seta, nx_newo, nx_newa]; omega)) only [gf_setf_ne, gf_setf_p, gf_setf_is, va_rf_s, va_rf_n, gf_seta, ga_setf, gc_setf, gc_seta, ga_seta_ne, ga_seta_eq, gf_new, gc_new, gf_newo_o, gc_newo_o, ga_newo_o, ga_new, gf_newa_o, gc_newa_o, ga_newa_o, nx_setf, nx_seta, nx_newo, nx_newa, su_setf, su_seta, su_newo, su_newa, sg_setf, sg_seta, sg_newo, sg_newa, okq_n, t1], ⟨z, by rw [itH_o (by decide) (by decide)]; simp (disch := first | omega | (simp (disch := omega) only [nx_setf, nx_seta, nx_newo, nx_newa]; omega)) only [gf_setf_ne, gf_setf_p, gf_setf_is, va_rf_s, va_rf_n, gf_seta, ga_setf, gc_setf, gc_seta, ga_seta_ne, ga_seta_eq, gf_new, gc_new, gf_newo_o, gc_newo_o, ga_newo_o, ga_new, gf_newa_o, gc_newa_o, ga_newa_o, nx_setf, nx_seta, nx_newo, nx_newa, su_setf, su_seta, su_newo, su_newa, sg_setf, sg_seta, sg_newo, sg_newa, okq_n, e1], by rw [itH_o (by decide) (by decide)]; simp (disch := first | omega | (simp (disch := omega) only [nx_setf, nx_seta, nx_newo, nx_newa]; omega)) only [gf_setf_ne, gf_setf_p, gf_setf_is, va_rf_s, va_rf_n, gf_seta, ga_setf, gc_setf, gc_seta, ga_seta_ne, ga_seta_eq, gf_new, gc_new, gf_newo_o, gc_newo_o, ga_newo_o, ga_new, gf_newa_o, gc_newa_o, ga_newa_o, nx_setf, nx_seta, nx_newo, nx_newa, su_setf, su_seta, su_newo, su_newa, sg_setf, sg_seta, sg_newo, sg_newa, okq_n, e2]⟩, cu' _ _, o', idx', itH_117 hit, itH_120 hit, h1, h2⟩
    have fr2 : ∀ o' idx', Fr A w (itH (setf A it 118 (.ref q)) it o' idx') w X 0 0 := fun o' idx' => f1.trans (itH_fr hX)
    obtain ⟨tt, hc⟩ : ∃ t, tb = some t := by
      cases tb with
      | none =>
        rcases m.cp with ⟨e, _⟩ | ⟨_, t', e, g1, _⟩
        · have n0' := m.le e
          have := nC_0 (nf := nf) (k := 24) (by rw [← m.cn, n0']) h n0
          rw [this] at hn; cases hn
        · cases g1
      | some t => exact ⟨t, rfl⟩
    subst hc
    obtain ⟨hc, tw, e, h3, h4⟩ := m.tbl
    have h31 := m.tt
    rw [va_rf_s] at h31
    rcases g4 with ⟨g4, g5⟩ | ⟨h', g4, g5, g6, g7, g8⟩
    · rw [g4, va_rf_n] at n10
      obtain ⟨o', idx', k1, k2, k3⟩ := m_87_lp (d := d) (A := setf A it 118 (.ref q)) (it := it) hc (fun h q hq => (m.nd h q hq).1) (t := tt) (e := e) (by rw [ga_setf]; exact h3) h4 hit (some (.ref q)) (cap - idx) idx (by omega)
      have i1 := itH_in (o := none) s2'
      rw [va_rf_n] at i1
      refine ⟨_, q, ?_, rfl, his o' idx' l k2 (by rw [g5]; exact k3), fr2 _ _⟩
      simp (disch := first | omega | (simp (disch := omega) only [nx_setf, nx_seta, nx_newo, nx_newa]; omega)) only [e_87, x_87_0, x_87_1, x_87_4, x_87_5, x_87_6, x_87_9, x_87_12, x_87_13, x_87_16, x_87_22, x_87_27, x_87_28n, x_87_28r, x_87_34, x_87_39, x_87_40, x_87_41, x_87_42, x_87_43, x_87_46, x_87_49, x_87_50, x_87_53n, x_87_53r, x_87_56, x_87_57, x_87_60, x_87_63, x_87_64, x_87_65n, x_87_65r, x_87_98, x_87_99, kv_s, ki_s, kj_s, kd_s, kq_s, kq_n, kq_o, ka_s, kc_r, kc_t, kc0_r, kc0_t, kch_r, kc0h_r, kw_s, kw0_s, kwh_s, kw0h_s, rg_ref, rg_null, rg_rf, ck_t, sel_some, lkn_hd, Option.isSome_some, Bool.true_and, Bool.and_true, okv_i, okv_l, okv_r, okv_n, okv_rf, okv_b, okv_0, okv_1, okv_f, okv_d, c1_i, c1_r, c1_n, c1_rf, c1_f, nI_add, n_mul, n_sub, n_pred, n_eq, n_le, n_lt, n_neN, n_Nne, N_lt, N_le, n_ltN, n_leN, rdI_n, rdJ_n, rdD_n, wrI_n, wrI_z0, wrI_z1, wrI_zb, wrJ_n, wrD_n, aln_s, okn_n, upd_is, upd_ne, Nat.add_zero, Nat.add_sub_cancel, decide_true, decide_false, cond_true, cond_false, if_true, if_false, ite_not, not_true_eq_false, not_false_eq_true, Nat.reduceEqDiff, Nat.reduceAdd, Nat.reduceMul, Nat.reduceSub, Nat.reduceLeDiff, gf_setf_ne, gf_setf_p, gf_setf_is, va_rf_s, va_rf_n, gf_seta, ga_setf, gc_setf, gc_seta, ga_seta_ne, ga_seta_eq, gf_new, gc_new, gf_newo_o, gc_newo_o, ga_newo_o, ga_new, gf_newa_o, gc_newa_o, ga_newa_o, nx_setf, nx_seta, nx_newo, nx_newa, su_setf, su_seta, su_newo, su_newa, sg_setf, sg_seta, sg_newo, sg_newa, okq_n, s1, t1, e1, e2, eq_self, cu, n10, itH_o, i1, h31, k1]
    · rw [g4] at n10
      cases hn' : nf h' with
      | none => rw [hn'] at g5; cases g5
      | some q2 =>
        rw [hn', va_rf_s] at n10
        have i1 := itH_in (o := some q2) s2'
        rw [va_rf_s] at i1
        refine ⟨_, q, ?_, rfl, his (some q2) idx l s3 ?_, fr2 _ _⟩
        · simp (disch := first | omega | (simp (disch := omega) only [nx_setf, nx_seta, nx_newo, nx_newa]; omega)) only [e_87, x_87_0, x_87_1, x_87_4, x_87_5, x_87_6, x_87_9, x_87_12, x_87_13, x_87_16, x_87_22, x_87_27, x_87_28n, x_87_28r, x_87_34, x_87_39, x_87_40, x_87_41, x_87_42, x_87_43, x_87_46, x_87_49, x_87_50, x_87_53n, x_87_53r, x_87_56, x_87_57, x_87_60, x_87_63, x_87_64, x_87_65n, x_87_65r, x_87_98, x_87_99, kv_s, ki_s, kj_s, kd_s, kq_s, kq_n, kq_o, ka_s, kc_r, kc_t, kc0_r, kc0_t, kch_r, kc0h_r, kw_s, kw0_s, kwh_s, kw0h_s, rg_ref, rg_null, rg_rf, ck_t, sel_some, lkn_hd, Option.isSome_some, Bool.true_and, Bool.and_true, okv_i, okv_l, okv_r, okv_n, okv_rf, okv_b, okv_0, okv_1, okv_f, okv_d, c1_i, c1_r, c1_n, c1_rf, c1_f, nI_add, n_mul, n_sub, n_pred, n_eq, n_le, n_lt, n_neN, n_Nne, N_lt, N_le, n_ltN, n_leN, rdI_n, rdJ_n, rdD_n, wrI_n, wrI_z0, wrI_z1, wrI_zb, wrJ_n, wrD_n, aln_s, okn_n, upd_is, upd_ne, Nat.add_zero, Nat.add_sub_cancel, decide_true, decide_false, cond_true, cond_false, if_true, if_false, ite_not, not_true_eq_false, not_false_eq_true, Nat.reduceEqDiff, Nat.reduceAdd, Nat.reduceMul, Nat.reduceSub, Nat.reduceLeDiff, gf_setf_ne, gf_setf_p, gf_setf_is, va_rf_s, va_rf_n, gf_seta, ga_setf, gc_setf, gc_seta, ga_seta_ne, ga_seta_eq, gf_new, gc_new, gf_newo_o, gc_newo_o, ga_newo_o, ga_new, gf_newa_o, gc_newa_o, ga_newa_o, nx_setf, nx_seta, nx_newo, nx_newa, su_setf, su_seta, su_newo, su_newa, sg_setf, sg_seta, sg_newo, sg_newa, okq_n, s1, t1, e1, e2, eq_self, cu, n10, i1]
        · rw [g8]
          exact ⟨hn'.symm, g5, g6, Or.inl ⟨g7, rfl⟩⟩
theorem m_89 (m : HMs A w p lb cap tb nf fl kO vO vv n) (hi : HIs A it p nf fl cap (h :: l)) (hw : w it ≠ lb) {X : Nat → Prop} (hX : X (w it)) : ∃ A' q, evG TB (d + 3) 89 [.ref it] A = some (.inl (some (.ref q)), A') ∧ nf h = some q ∧ HIs A' it p nf fl cap l ∧ Fr A w A' w X 0 0 := by
  obtain ⟨A', q, e1, e2⟩ := m_87 (d := d) m hi hw hX
  refine ⟨A', q, ?_, e2⟩
  simp (disch := first | omega | (simp (disch := omega) only [nx_setf, nx_seta, nx_newo, nx_newa]; omega)) only [e_89, x_89_0, x_89_1, x_89_4, e_90, x_90_0, x_90_1, x_90_4, kv_s, ki_s, kj_s, kd_s, kq_s, kq_n, kq_o, ka_s, kc_r, kc_t, kc0_r, kc0_t, kch_r, kc0h_r, kw_s, kw0_s, kwh_s, kw0h_s, rg_ref, rg_null, rg_rf, ck_t, sel_some, lkn_hd, Option.isSome_some, Bool.true_and, Bool.and_true, okv_i, okv_l, okv_r, okv_n, okv_rf, okv_b, okv_0, okv_1, okv_f, okv_d, c1_i, c1_r, c1_n, c1_rf, c1_f, nI_add, n_mul, n_sub, n_pred, n_eq, n_le, n_lt, n_neN, n_Nne, N_lt, N_le, n_ltN, n_leN, rdI_n, rdJ_n, rdD_n, wrI_n, wrI_z0, wrI_z1, wrI_zb, wrJ_n, wrD_n, aln_s, okn_n, upd_is, upd_ne, Nat.add_zero, Nat.add_sub_cancel, decide_true, decide_false, cond_true, cond_false, if_true, if_false, ite_not, not_true_eq_false, not_false_eq_true, Nat.reduceEqDiff, Nat.reduceAdd, Nat.reduceMul, Nat.reduceSub, Nat.reduceLeDiff, hi.c, e1]
/-- the set of entries: made once -/
theorem m_38 (m : HMs A w p lb cap tb nf fl kO vO vv n) : ∃ A' w' y, evG TB (d + 4) 38 [.ref p] A = some (.inl (some (.ref y)), A') ∧ HMs A' w' p lb cap tb nf fl kO vO vv n ∧ gc A' y = some 29 ∧ gf A' y 147 = some (.ref p) ∧ w' y = lb ∧ Fr A w A' w' (fun l => l = lb) 1 1 := by
  have m0 := m
  obtain ⟨c1, wp, tt, ⟨o, es, es2⟩, sz, ⟨z, md⟩, th, cp, nd, ij, cn, l0, le⟩ := m
  have hp := gc_lt c1
  cases o with
  | some y =>
    obtain ⟨g1, g2, g3⟩ := es2 y rfl
    rw [va_rf_s] at es
    refine ⟨A, w, y, ?_, m0, g2, g3, g1, Fr.rf.mono (fun _ h => h) (by decide) (by decide)⟩
    simp (disch := first | omega | (simp (disch := omega) only [nx_setf, nx_seta, nx_newo, nx_newa]; omega)) only [e_38, x_38_0, x_38_1, x_38_4, x_38_5, x_38_6n, x_38_6r, x_38_9, x_38_10, x_38_13, x_38_14, x_38_15, x_38_18, x_38_19, x_38_22, x_38_25, x_38_26, kv_s, ki_s, kj_s, kd_s, kq_s, kq_n, kq_o, ka_s, kc_r, kc_t, kc0_r, kc0_t, kch_r, kc0h_r, kw_s, kw0_s, kwh_s, kw0h_s, rg_ref, rg_null, rg_rf, ck_t, sel_some, lkn_hd, Option.isSome_some, Bool.true_and, Bool.and_true, okv_i, okv_l, okv_r, okv_n, okv_rf, okv_b, okv_0, okv_1, okv_f, okv_d, c1_i, c1_r, c1_n, c1_rf, c1_f, nI_add, n_mul, n_sub, n_pred, n_eq, n_le, n_lt, n_neN, n_Nne, N_lt, N_le, n_ltN, n_leN, rdI_n, rdJ_n, rdD_n, wrI_n, wrI_z0, wrI_z1, wrI_zb, wrJ_n, wrD_n, aln_s, okn_n, upd_is, upd_ne, Nat.add_zero, Nat.add_sub_cancel, decide_true, decide_false, cond_true, cond_false, if_true, if_false, ite_not, not_true_eq_false, not_false_eq_true, Nat.reduceEqDiff, Nat.reduceAdd, Nat.reduceMul, Nat.reduceSub, Nat.reduceLeDiff, gf_setf_ne, gf_setf_p, gf_setf_is, va_rf_s, va_rf_n, gf_seta, ga_setf, gc_setf, gc_seta, ga_seta_ne, ga_seta_eq, gf_new, gc_new, gf_newo_o, gc_newo_o, ga_newo_o, ga_new, gf_newa_o, gc_newa_o, ga_newa_o, nx_setf, nx_seta, nx_newo, nx_newa, su_setf, su_seta, su_newo, su_newa, sg_setf, sg_seta, sg_newo, sg_newa, okq_n, es]
  | none =>
    rw [va_rf_n] at es
    have pn : p ≠ nx A := Nat.ne_of_lt hp
    have l0' : ¬ (0 = lb) := fun e => l0 e.symm
    have wp' : upL w (nx A) lb p = lb := by rw [upL_ne pn]; exact wp
    have wn : upL w (nx A) lb (nx A) = lb := upL_is rfl
    have f1 : Fr A w (newo A 29 1 dv29) (upL w (nx A) lb) (fun l => l = lb) 1 1 := Fr.nwo
    have f := ((f1.trans (Fr.stf (f := 147) (v := .ref p) wn)).trans (Fr.stf (f := 32) (v := .ref (nx A)) wp')).mono (fun _ h => h) (Nat.le_refl _) (Nat.le_refl _)
    have go : ∀ q f v, gf A q f = some v → f ≠ 32 → gf (setf (setf (newo A 29 1 dv29) (nx A) 147 (.ref p)) p 32 (.ref (nx A))) q f = some v := fun q f v hv h2 => by
      have lq := (gf_spec hv).1
      rw [gf_setf_ne h2, gf_setf_p (Nat.ne_of_lt lq), gf_newo_o lq, hv]
    have kn : gf (setf (setf (newo A 29 1 dv29) (nx A) 147 (.ref p)) p 32 (.ref (nx A))) (nx A) 147 = some (.ref p) := by simp (disch := first | omega | (simp (disch := omega) only [nx_setf, nx_seta, nx_newo, nx_newa]; omega)) only [gf_setf_ne, gf_setf_p, gf_setf_is, va_rf_s, va_rf_n, gf_seta, ga_setf, gc_setf, gc_seta, ga_seta_ne, ga_seta_eq, gf_new, gc_new, gf_newo_o, gc_newo_o, ga_newo_o, ga_new, gf_newa_o, gc_newa_o, ga_newa_o, nx_setf, nx_seta, nx_newo, nx_newa, su_setf, su_seta, su_newo, su_newa, sg_setf, sg_seta, sg_newo, sg_newa, okq_n]
    have kc : gc (setf (setf (newo A 29 1 dv29) (nx A) 147 (.ref p)) p 32 (.ref (nx A))) (nx A) = some 29 := by simp (disch := first | omega | (simp (disch := omega) only [nx_setf, nx_seta, nx_newo, nx_newa]; omega)) only [gf_setf_ne, gf_setf_p, gf_setf_is, va_rf_s, va_rf_n, gf_seta, ga_setf, gc_setf, gc_seta, ga_seta_ne, ga_seta_eq, gf_new, gc_new, gf_newo_o, gc_newo_o, ga_newo_o, ga_new, gf_newa_o, gc_newa_o, ga_newa_o, nx_setf, nx_seta, nx_newo, nx_newa, su_setf, su_seta, su_newo, su_newa, sg_setf, sg_seta, sg_newo, sg_newa, okq_n]
    refine ⟨setf (setf (newo A 29 1 dv29) (nx A) 147 (.ref p)) p 32 (.ref (nx A)), upL w (nx A) lb, nx A, ?_, ⟨f.cc c1, wp', go _ _ _ tt (by decide), ⟨some (nx A), by rw [va_rf_s]; simp (disch := first | omega | (simp (disch := omega) only [nx_setf, nx_seta, nx_newo, nx_newa]; omega)) only [gf_setf_ne, gf_setf_p, gf_setf_is, va_rf_s, va_rf_n, gf_seta, ga_setf, gc_setf, gc_seta, ga_seta_ne, ga_seta_eq, gf_new, gc_new, gf_newo_o, gc_newo_o, ga_newo_o, ga_new, gf_newa_o, gc_newa_o, ga_newa_o, nx_setf, nx_seta, nx_newo, nx_newa, su_setf, su_seta, su_newo, su_newa, sg_setf, sg_seta, sg_newo, sg_newa, okq_n], fun y hy => (by cases hy; exact ⟨wn, kc, kn⟩)⟩, go _ _ _ sz (by decide), ⟨z, go _ _ _ md (by decide)⟩, go _ _ _ th (by decide), ?_, fun h q hq => ?_, ij, cn, l0, le⟩, kc, kn, wn, f⟩
    · simp (disch := first | omega | (simp (disch := omega) only [nx_setf, nx_seta, nx_newo, nx_newa]; omega)) only [e_38, x_38_0, x_38_1, x_38_4, x_38_5, x_38_6n, x_38_6r, x_38_9, x_38_10, x_38_13, x_38_14, x_38_15, x_38_18, x_38_19, x_38_22, x_38_25, x_38_26, e_103, x_103_0, x_103_1, x_103_2, x_103_5, x_103_6, x_103_9, e_101, x_101_0, x_101_1, x_101_4, e_0, x_0_0, x_0_1, x_0_4, kv_s, ki_s, kj_s, kd_s, kq_s, kq_n, kq_o, ka_s, kc_r, kc_t, kc0_r, kc0_t, kch_r, kc0h_r, kw_s, kw0_s, kwh_s, kw0h_s, rg_ref, rg_null, rg_rf, ck_t, sel_some, lkn_hd, Option.isSome_some, Bool.true_and, Bool.and_true, okv_i, okv_l, okv_r, okv_n, okv_rf, okv_b, okv_0, okv_1, okv_f, okv_d, c1_i, c1_r, c1_n, c1_rf, c1_f, nI_add, n_mul, n_sub, n_pred, n_eq, n_le, n_lt, n_neN, n_Nne, N_lt, N_le, n_ltN, n_leN, rdI_n, rdJ_n, rdD_n, wrI_n, wrI_z0, wrI_z1, wrI_zb, wrJ_n, wrD_n, aln_s, okn_n, upd_is, upd_ne, Nat.add_zero, Nat.add_sub_cancel, decide_true, decide_false, cond_true, cond_false, if_true, if_false, ite_not, not_true_eq_false, not_false_eq_true, Nat.reduceEqDiff, Nat.reduceAdd, Nat.reduceMul, Nat.reduceSub, Nat.reduceLeDiff, gf_setf_ne, gf_setf_p, gf_setf_is, va_rf_s, va_rf_n, gf_seta, ga_setf, gc_setf, gc_seta, ga_seta_ne, ga_seta_eq, gf_new, gc_new, gf_newo_o, gc_newo_o, ga_newo_o, ga_new, gf_newa_o, gc_newa_o, ga_newa_o, nx_setf, nx_seta, nx_newo, nx_newa, su_setf, su_seta, su_newo, su_newa, sg_setf, sg_seta, sg_newo, sg_newa, okq_n, es, c1, dv29_147]
    · rcases cp with cp | ⟨cp, t, e, t1, t2, t3, t4⟩
      · exact Or.inl cp
      · have lt := ga_lt t3
        exact Or.inr ⟨cp, t, e, t1, by rw [upL_ne (Nat.ne_of_lt lt)]; exact t2, by simp (disch := first | omega | (simp (disch := omega) only [nx_setf, nx_seta, nx_newo, nx_newa]; omega)) only [gf_setf_ne, gf_setf_p, gf_setf_is, va_rf_s, va_rf_n, gf_seta, ga_setf, gc_setf, gc_seta, ga_seta_ne, ga_seta_eq, gf_new, gc_new, gf_newo_o, gc_newo_o, ga_newo_o, ga_new, gf_newa_o, gc_newa_o, ga_newa_o, nx_setf, nx_seta, nx_newo, nx_newa, su_setf, su_seta, su_newo, su_newa, sg_setf, sg_seta, sg_newo, sg_newa, okq_n, t3], t4⟩
    · obtain ⟨n0, n1, n2, n3, n4, n5, n6, n7, n8, n9, n10⟩ := nd h q hq
      exact ⟨n0, by rw [upL_ne (Nat.ne_of_lt (gc_lt n2))]; exact n1, f.cc n2, go _ _ _ n3 (by decide), go _ _ _ n4 (by decide), n5.fr f (by rw [n6]; exact l0'), by rw [upL_ne (Nat.ne_of_lt (gc_lt n5.c))]; exact n6, go _ _ _ n7 (by decide), n8.fr f (by rw [n9]; exact l0'), by rw [f.lb (by rw [n9]; exact l0') n8.k1.1]; exact n9, go _ _ _ n10 (by decide)⟩
/-- an iterator at its start -/
theorem m_102 {y li : Nat} (m : HMs A w p lb cap tb nf fl kO vO vv n) (hc : gc A y = some 29) (hy : gf A y 147 = some (.ref p)) : ∃ A' l, evG TB (d + 4) 102 [.ref y] A = some (.inl (some (.ref (nx A))), A') ∧ HIs A' (nx A) p nf fl cap l ∧ (∀ h, h < 24 → (h ∈ l ↔ (nf h).isSome = true)) ∧ ∀ X, X li → Fr A w A' (upL w (nx A) li) X 1 5 := by
  have hp := gc_lt m.c
  have pn : p ≠ nx A := Nat.ne_of_lt hp
  have ly := gc_lt hc
  obtain ⟨z, md⟩ := m.md
  have sz := m.sz
  have tt := m.tt
  -- the heap ahead of the search
  generalize hB : setf (setf (setf (newo A 24 5 dv24) (nx A) 121 (.ref p)) (nx A) 119 (.int z)) (nx A) 117 .null = B
  have nB : nx B = nx A + 1 := by rw [← hB]; rfl
  have bo : ∀ q f, q < nx A → gf B q f = gf A q f := fun q f lq => by rw [← hB]; simp (disch := first | omega | (simp (disch := omega) only [nx_setf, nx_seta, nx_newo, nx_newa]; omega)) only [gf_setf_ne, gf_setf_p, gf_setf_is, va_rf_s, va_rf_n, gf_seta, ga_setf, gc_setf, gc_seta, ga_seta_ne, ga_seta_eq, gf_new, gc_new, gf_newo_o, gc_newo_o, ga_newo_o, ga_new, gf_newa_o, gc_newa_o, ga_newa_o, nx_setf, nx_seta, nx_newo, nx_newa, su_setf, su_seta, su_newo, su_newa, sg_setf, sg_seta, sg_newo, sg_newa, okq_n]
  have ba : ∀ q, q < nx A → ga B q = ga A q := fun q lq => by rw [← hB]; simp (disch := first | omega | (simp (disch := omega) only [nx_setf, nx_seta, nx_newo, nx_newa]; omega)) only [gf_setf_ne, gf_setf_p, gf_setf_is, va_rf_s, va_rf_n, gf_seta, ga_setf, gc_setf, gc_seta, ga_seta_ne, ga_seta_eq, gf_new, gc_new, gf_newo_o, gc_newo_o, ga_newo_o, ga_new, gf_newa_o, gc_newa_o, ga_newa_o, nx_setf, nx_seta, nx_newo, nx_newa, su_setf, su_seta, su_newo, su_newa, sg_setf, sg_seta, sg_newo, sg_newa, okq_n]
  have b117 : gf B (nx A) 117 = some .null := by rw [← hB]; simp (disch := first | omega | (simp (disch := omega) only [nx_setf, nx_seta, nx_newo, nx_newa]; omega)) only [gf_setf_ne, gf_setf_p, gf_setf_is, va_rf_s, va_rf_n, gf_seta, ga_setf, gc_setf, gc_seta, ga_seta_ne, ga_seta_eq, gf_new, gc_new, gf_newo_o, gc_newo_o, ga_newo_o, ga_new, gf_newa_o, gc_newa_o, ga_newa_o, nx_setf, nx_seta, nx_newo, nx_newa, su_setf, su_seta, su_newo, su_newa, sg_setf, sg_seta, sg_newo, sg_newa, okq_n]
  have b118 : gf B (nx A) 118 = some .null := by rw [← hB]; simp (disch := first | omega | (simp (disch := omega) only [nx_setf, nx_seta, nx_newo, nx_newa]; omega)) only [gf_setf_ne, gf_setf_p, gf_setf_is, va_rf_s, va_rf_n, gf_seta, ga_setf, gc_setf, gc_seta, ga_seta_ne, ga_seta_eq, gf_new, gc_new, gf_newo_o, gc_newo_o, ga_newo_o, ga_new, gf_newa_o, gc_newa_o, ga_newa_o, nx_setf, nx_seta, nx_newo, nx_newa, su_setf, su_seta, su_newo, su_newa, sg_setf, sg_seta, sg_newo, sg_newa, okq_n, dv24_118]
  have b119 : gf B (nx A) 119 = some (.int z) := by rw [← hB]; simp (disch := first | omega | (simp (disch := omega) only [nx_setf, nx_seta, nx_newo, nx_newa]; omega)) only [gf_setf_ne, gf_setf_p, gf_setf_is, va_rf_s, va_rf_n, gf_seta, ga_setf, gc_setf, gc_seta, ga_seta_ne, ga_seta_eq, gf_new, gc_new, gf_newo_o, gc_newo_o, ga_newo_o, ga_new, gf_newa_o, gc_newa_o, ga_newa_o, nx_setf, nx_seta, nx_newo, nx_newa, su_setf, su_seta, su_newo, su_newa, sg_setf, sg_seta, sg_newo, sg_newa, okq_n]
  have b120 : gf B (nx A) 120 = some (.int (nI 0)) := by rw [← hB]; simp (disch := first | omega | (simp (disch := omega) only [nx_setf, nx_seta, nx_newo, nx_newa]; omega)) only [gf_setf_ne, gf_setf_p, gf_setf_is, va_rf_s, va_rf_n, gf_seta, ga_setf, gc_setf, gc_seta, ga_seta_ne, ga_seta_eq, gf_new, gc_new, gf_newo_o, gc_newo_o, ga_newo_o, ga_new, gf_newa_o, gc_newa_o, ga_newa_o, nx_setf, nx_seta, nx_newo, nx_newa, su_setf, su_seta, su_newo, su_newa, sg_setf, sg_seta, sg_newo, sg_newa, okq_n, dv24_120]
  have b121 : gf B (nx A) 121 = some (.ref p) := by rw [← hB]; simp (disch := first | omega | (simp (disch := omega) only [nx_setf, nx_seta, nx_newo, nx_newa]; omega)) only [gf_setf_ne, gf_setf_p, gf_setf_is, va_rf_s, va_rf_n, gf_seta, ga_setf, gc_setf, gc_seta, ga_seta_ne, ga_seta_eq, gf_new, gc_new, gf_newo_o, gc_newo_o, ga_newo_o, ga_new, gf_newa_o, gc_newa_o, ga_newa_o, nx_setf, nx_seta, nx_newo, nx_newa, su_setf, su_seta, su_newo, su_newa, sg_setf, sg_seta, sg_newo, sg_newa, okq_n]
  have bc : gc B (nx A) = some 24 := by rw [← hB]; simp (disch := first | omega | (simp (disch := omega) only [nx_setf, nx_seta, nx_newo, nx_newa]; omega)) only [gf_setf_ne, gf_setf_p, gf_setf_is, va_rf_s, va_rf_n, gf_seta, ga_setf, gc_setf, gc_seta, ga_seta_ne, ga_seta_eq, gf_new, gc_new, gf_newo_o, gc_newo_o, ga_newo_o, ga_new, gf_newa_o, gc_newa_o, ga_newa_o, nx_setf, nx_seta, nx_newo, nx_newa, su_setf, su_seta, su_newo, su_newa, sg_setf, sg_seta, sg_newo, sg_newa, okq_n]
  have ln : nx A < nx B := by rw [nB]; omega
  have fB : ∀ X, X li → Fr A w B (upL w (nx A) li) X 1 5 := fun X hX => by
    rw [← hB]
    exact ((Fr.nwo.stn (Nat.le_refl _)).stn (Nat.le_refl _)).stn (Nat.le_refl _)
  have f2 : ∀ X, X li → ∀ o i, Fr A w (itH (setf (setf B (nx A) 118 .null) (nx A) 120 (.int (nI 0))) (nx A) o i) (upL w (nx A) li) X 1 5 := fun X hX o i => by
    have hw : X (upL w (nx A) li (nx A)) := by rw [upL_is rfl]; exact hX
    exact (((fB X hX).trans (Fr.stf hw)).trans (Fr.stf hw)).trans (itH_fr hw)
  generalize hC : setf (setf B (nx A) 118 .null) (nx A) 120 (.int (nI 0)) = C at f2
  have nC' : nx C = nx B := by rw [← hC]; rfl
  have lc : nx A < nx C := by rw [nC']; exact ln
  have his : ∀ o' idx' l', idx' ≤ cap → PosI nf fl cap o' idx' l' → HIs (itH C (nx A) o' idx') (nx A) p nf fl cap l' := fun o' idx' l' h1 h2 => ⟨by rw [itH_gc, ← hC]; exact bc, by rw [itH_o (by decide) (by decide), ← hC]; simp (disch := first | omega | (simp (disch := omega) only [nx_setf, nx_seta, nx_newo, nx_newa]; omega)) only [gf_setf_ne, gf_setf_p, gf_setf_is, va_rf_s, va_rf_n, gf_seta, ga_setf, gc_setf, gc_seta, ga_seta_ne, ga_seta_eq, gf_new, gc_new, gf_newo_o, gc_newo_o, ga_newo_o, ga_new, gf_newa_o, gc_newa_o, ga_newa_o, nx_setf, nx_seta, nx_newo, nx_newa, su_setf, su_seta, su_newo, su_newa, sg_setf, sg_seta, sg_newo, sg_newa, okq_n, b121], ⟨z, by rw [itH_o (by decide) (by decide), ← hC]; simp (disch := first | omega | (simp (disch := omega) only [nx_setf, nx_seta, nx_newo, nx_newa]; omega)) only [gf_setf_ne, gf_setf_p, gf_setf_is, va_rf_s, va_rf_n, gf_seta, ga_setf, gc_setf, gc_seta, ga_seta_ne, ga_seta_eq, gf_new, gc_new, gf_newo_o, gc_newo_o, ga_newo_o, ga_new, gf_newa_o, gc_newa_o, ga_newa_o, nx_setf, nx_seta, nx_newo, nx_newa, su_setf, su_seta, su_newo, su_newa, sg_setf, sg_seta, sg_newo, sg_newa, okq_n, bo, md], by rw [itH_o (by decide) (by decide), ← hC]; simp (disch := first | omega | (simp (disch := omega) only [nx_setf, nx_seta, nx_newo, nx_newa]; omega)) only [gf_setf_ne, gf_setf_p, gf_setf_is, va_rf_s, va_rf_n, gf_seta, ga_setf, gc_setf, gc_seta, ga_seta_ne, ga_seta_eq, gf_new, gc_new, gf_newo_o, gc_newo_o, ga_newo_o, ga_new, gf_newa_o, gc_newa_o, ga_newa_o, nx_setf, nx_seta, nx_newo, nx_newa, su_setf, su_seta, su_newo, su_newa, sg_setf, sg_seta, sg_newo, sg_newa, okq_n, b119]⟩, by rw [itH_o (by decide) (by decide), ← hC]; simp (disch := first | omega | (simp (disch := omega) only [nx_setf, nx_seta, nx_newo, nx_newa]; omega)) only [gf_setf_ne, gf_setf_p, gf_setf_is, va_rf_s, va_rf_n, gf_seta, ga_setf, gc_setf, gc_seta, ga_seta_ne, ga_seta_eq, gf_new, gc_new, gf_newo_o, gc_newo_o, ga_newo_o, ga_new, gf_newa_o, gc_newa_o, ga_newa_o, nx_setf, nx_seta, nx_newo, nx_newa, su_setf, su_seta, su_newo, su_newa, sg_setf, sg_seta, sg_newo, sg_newa, okq_n, Option.isSome_some], o', idx', itH_117 lc, itH_120 lc, h1, h2⟩
  have eC : C = itH C (nx A) none 0 := by
    have k117 : gf C (nx A) 117 = some .null := by rw [← hC]; simp (disch := first | omega | (simp (disch := omega) only [nx_setf, nx_seta, nx_newo, nx_newa]; omega)) only [gf_setf_ne, gf_setf_p, gf_setf_is, va_rf_s, va_rf_n, gf_seta, ga_setf, gc_setf, gc_seta, ga_seta_ne, ga_seta_eq, gf_new, gc_new, gf_newo_o, gc_newo_o, ga_newo_o, ga_new, gf_newa_o, gc_newa_o, ga_newa_o, nx_setf, nx_seta, nx_newo, nx_newa, su_setf, su_seta, su_newo, su_newa, sg_setf, sg_seta, sg_newo, sg_newa, okq_n, b117]
    have k120 : gf C (nx A) 120 = some (.int (nI 0)) := by rw [← hC]; simp (disch := first | omega | (simp (disch := omega) only [nx_setf, nx_seta, nx_newo, nx_newa]; omega)) only [gf_setf_ne, gf_setf_p, gf_setf_is, va_rf_s, va_rf_n, gf_seta, ga_setf, gc_setf, gc_seta, ga_seta_ne, ga_seta_eq, gf_new, gc_new, gf_newo_o, gc_newo_o, ga_newo_o, ga_new, gf_newa_o, gc_newa_o, ga_newa_o, nx_setf, nx_seta, nx_newo, nx_newa, su_setf, su_seta, su_newo, su_newa, sg_setf, sg_seta, sg_newo, sg_newa, okq_n]
    have q1 := (gf_spec k117).2
    have q2 := (gf_spec k120).2
    unfold itH
    refine Prod.ext ?_ rfl
    funext f q
    dsimp only
    by_cases z1 : q = nx A ∧ f = 117
    · rw [if_pos z1, z1.1, z1.2]; exact q1
    · rw [if_neg z1]
      by_cases z2 : q = nx A ∧ f = 120
      · rw [if_pos z2, z2.1, z2.2]; exact q2
      · rw [if_neg z2]
  have go : ∃ l o i, evG TB (d + 4) 102 [.ref y] A = some (.inl (some (.ref (nx A))), itH C (nx A) o i) ∧ i ≤ cap ∧ PosI nf fl cap o i l ∧ (∀ h, h < 24 → (h ∈ l ↔ (nf h).isSome = true)) := by
    rcases m.cp with ⟨e0, et⟩ | ⟨hc, t, e, t1, t2, t3, t4⟩
    · have hn : ∀ h, h < 24 → nf h = none := fun h hh => nC_0 (nf := nf) (k := 24) (by rw [← m.cn]; exact m.le e0) h hh
      refine ⟨[], none, 0, ?_, Nat.zero_le _, rfl, fun h hh => ⟨fun z => by (cases z), fun z => by rw [hn h hh] at z; cases z⟩⟩
      rw [← eC, ← hC, ← hB]
      rw [et, va_rf_n] at tt
      simp (disch := first | omega | (simp (disch := omega) only [nx_setf, nx_seta, nx_newo, nx_newa]; omega)) only [e_102, x_102_0, x_102_3, x_102_4, x_102_5, x_102_8, x_102_11, e_91, x_91_0, x_91_1, x_91_2, x_91_5, e_88, x_88_0, x_88_1, x_88_2, x_88_5, x_88_6, x_88_9, x_88_10, x_88_11, x_88_14, x_88_17, x_88_18, x_88_21, x_88_22, x_88_23, x_88_24, x_88_25, x_88_26, x_88_29, x_88_32, x_88_33, x_88_34, x_88_37, x_88_38n, x_88_38r, x_88_41, x_88_42, x_88_45, x_88_48, x_88_49, x_88_52, x_88_53, x_88_54, x_88_57, x_88_58, x_88_59, x_88_60, x_88_61, x_88_64, x_88_65, x_88_66, x_88_67, x_88_70, x_88_71, x_88_72, x_88_75n, x_88_75r, x_88_78, kv_s, ki_s, kj_s, kd_s, kq_s, kq_n, kq_o, ka_s, kc_r, kc_t, kc0_r, kc0_t, kch_r, kc0h_r, kw_s, kw0_s, kwh_s, kw0h_s, rg_ref, rg_null, rg_rf, ck_t, sel_some, lkn_hd, Option.isSome_some, Bool.true_and, Bool.and_true, okv_i, okv_l, okv_r, okv_n, okv_rf, okv_b, okv_0, okv_1, okv_f, okv_d, c1_i, c1_r, c1_n, c1_rf, c1_f, nI_add, n_mul, n_sub, n_pred, n_eq, n_le, n_lt, n_neN, n_Nne, N_lt, N_le, n_ltN, n_leN, rdI_n, rdJ_n, rdD_n, wrI_n, wrI_z0, wrI_z1, wrI_zb, wrJ_n, wrD_n, aln_s, okn_n, upd_is, upd_ne, Nat.add_zero, Nat.add_sub_cancel, decide_true, decide_false, cond_true, cond_false, if_true, if_false, ite_not, not_true_eq_false, not_false_eq_true, Nat.reduceEqDiff, Nat.reduceAdd, Nat.reduceMul, Nat.reduceSub, Nat.reduceLeDiff, gf_setf_ne, gf_setf_p, gf_setf_is, va_rf_s, va_rf_n, gf_seta, ga_setf, gc_setf, gc_seta, ga_seta_ne, ga_seta_eq, gf_new, gc_new, gf_newo_o, gc_newo_o, ga_newo_o, ga_new, gf_newa_o, gc_newa_o, ga_newa_o, nx_setf, nx_seta, nx_newo, nx_newa, su_setf, su_seta, su_newo, su_newa, sg_setf, sg_seta, sg_newo, sg_newa, okq_n, hy, md, tt, dv24_117, dv24_118, dv24_119, dv24_120, dv24_121, Option.isSome_some]
    · subst t1
      rw [va_rf_s] at tt
      rcases Nat.eq_zero_or_pos n with hn0 | hn0
      · have hn : ∀ h, h < 24 → nf h = none := fun h hh => nC_0 (nf := nf) (k := 24) (by rw [← m.cn]; exact hn0) h hh
        refine ⟨[], none, 0, ?_, Nat.zero_le _, rfl, fun h hh => ⟨fun z => by (cases z), fun z => by rw [hn h hh] at z; cases z⟩⟩
        rw [← eC, ← hC, ← hB]
        rw [hn0] at sz
        simp (disch := first | omega | (simp (disch := omega) only [nx_setf, nx_seta, nx_newo, nx_newa]; omega)) only [e_102, x_102_0, x_102_3, x_102_4, x_102_5, x_102_8, x_102_11, e_91, x_91_0, x_91_1, x_91_2, x_91_5, e_88, x_88_0, x_88_1, x_88_2, x_88_5, x_88_6, x_88_9, x_88_10, x_88_11, x_88_14, x_88_17, x_88_18, x_88_21, x_88_22, x_88_23, x_88_24, x_88_25, x_88_26, x_88_29, x_88_32, x_88_33, x_88_34, x_88_37, x_88_38n, x_88_38r, x_88_41, x_88_42, x_88_45, x_88_48, x_88_49, x_88_52, x_88_53, x_88_54, x_88_57, x_88_58, x_88_59, x_88_60, x_88_61, x_88_64, x_88_65, x_88_66, x_88_67, x_88_70, x_88_71, x_88_72, x_88_75n, x_88_75r, x_88_78, kv_s, ki_s, kj_s, kd_s, kq_s, kq_n, kq_o, ka_s, kc_r, kc_t, kc0_r, kc0_t, kch_r, kc0h_r, kw_s, kw0_s, kwh_s, kw0h_s, rg_ref, rg_null, rg_rf, ck_t, sel_some, lkn_hd, Option.isSome_some, Bool.true_and, Bool.and_true, okv_i, okv_l, okv_r, okv_n, okv_rf, okv_b, okv_0, okv_1, okv_f, okv_d, c1_i, c1_r, c1_n, c1_rf, c1_f, nI_add, n_mul, n_sub, n_pred, n_eq, n_le, n_lt, n_neN, n_Nne, N_lt, N_le, n_ltN, n_leN, rdI_n, rdJ_n, rdD_n, wrI_n, wrI_z0, wrI_z1, wrI_zb, wrJ_n, wrD_n, aln_s, okn_n, upd_is, upd_ne, Nat.add_zero, Nat.add_sub_cancel, decide_true, decide_false, cond_true, cond_false, if_true, if_false, ite_not, not_true_eq_false, not_false_eq_true, Nat.reduceEqDiff, Nat.reduceAdd, Nat.reduceMul, Nat.reduceSub, Nat.reduceLeDiff, gf_setf_ne, gf_setf_p, gf_setf_is, va_rf_s, va_rf_n, gf_seta, ga_setf, gc_setf, gc_seta, ga_seta_ne, ga_seta_eq, gf_new, gc_new, gf_newo_o, gc_newo_o, ga_newo_o, ga_new, gf_newa_o, gc_newa_o, ga_newa_o, nx_setf, nx_seta, nx_newo, nx_newa, su_setf, su_seta, su_newo, su_newa, sg_setf, sg_seta, sg_newo, sg_newa, okq_n, hy, md, tt, sz, yle (Nat.le_refl 0), dv24_117, dv24_118, dv24_119, dv24_120, dv24_121, Option.isSome_some]
      · have lt := ga_lt t3
        obtain ⟨o, i, k1, k2, k3⟩ := m_88_lp (d := d + 1) (A := C) (it := nx A) (p := p) hc (fun h q hq => (m.nd h q hq).1) (t := t) (e := e) (by rw [← hC, ga_setf, ga_setf, ba t lt]; exact t3) t4 lc cap 0 (by omega)
        refine ⟨_, o, i, ?_, k2, k3, fun h hh => ⟨fun z => ?_, fun z => mem_fltA hc hh z⟩⟩
        · rw [← eC] at k1
          have n24 : n ≤ 24 := by rw [m.cn]; exact nC_le
          simp (disch := first | omega | (simp (disch := omega) only [nx_setf, nx_seta, nx_newo, nx_newa]; omega)) only [e_102, x_102_0, x_102_3, x_102_4, x_102_5, x_102_8, x_102_11, e_91, x_91_0, x_91_1, x_91_2, x_91_5, e_88, x_88_0, x_88_1, x_88_2, x_88_5, x_88_6, x_88_9, x_88_10, x_88_11, x_88_14, x_88_17, x_88_18, x_88_21, x_88_22, x_88_23, x_88_24, x_88_25, x_88_26, x_88_29, x_88_32, x_88_33, x_88_34, x_88_37, x_88_38n, x_88_38r, x_88_41, x_88_42, x_88_45, x_88_78, kv_s, ki_s, kj_s, kd_s, kq_s, kq_n, kq_o, ka_s, kc_r, kc_t, kc0_r, kc0_t, kch_r, kc0h_r, kw_s, kw0_s, kwh_s, kw0h_s, rg_ref, rg_null, rg_rf, ck_t, sel_some, lkn_hd, Option.isSome_some, Bool.true_and, Bool.and_true, okv_i, okv_l, okv_r, okv_n, okv_rf, okv_b, okv_0, okv_1, okv_f, okv_d, c1_i, c1_r, c1_n, c1_rf, c1_f, nI_add, n_mul, n_sub, n_pred, n_eq, n_le, n_lt, n_neN, n_Nne, N_lt, N_le, n_ltN, n_leN, rdI_n, rdJ_n, rdD_n, wrI_n, wrI_z0, wrI_z1, wrI_zb, wrJ_n, wrD_n, aln_s, okn_n, upd_is, upd_ne, Nat.add_zero, Nat.add_sub_cancel, decide_true, decide_false, cond_true, cond_false, if_true, if_false, ite_not, not_true_eq_false, not_false_eq_true, Nat.reduceEqDiff, Nat.reduceAdd, Nat.reduceMul, Nat.reduceSub, Nat.reduceLeDiff, gf_setf_ne, gf_setf_p, gf_setf_is, va_rf_s, va_rf_n, gf_seta, ga_setf, gc_setf, gc_seta, ga_seta_ne, ga_seta_eq, gf_new, gc_new, gf_newo_o, gc_newo_o, ga_newo_o, ga_new, gf_newa_o, gc_newa_o, ga_newa_o, nx_setf, nx_seta, nx_newo, nx_newa, su_setf, su_seta, su_newo, su_newa, sg_setf, sg_seta, sg_newo, sg_newa, okq_n, hy, md, tt, sz, nle hn0, dv24_117, dv24_118, dv24_119, dv24_120, dv24_121, Option.isSome_some]
          rw [hB, hC, k1]
          simp (disch := first | omega | (simp (disch := omega) only [nx_setf, nx_seta, nx_newo, nx_newa]; omega)) only [x_88_78, x_91_0, x_91_1, x_91_2, x_91_5, x_102_0, x_102_3, x_102_4, x_102_5, x_102_8, x_102_11, kv_s, ki_s, kj_s, kd_s, kq_s, kq_n, kq_o, ka_s, kc_r, kc_t, kc0_r, kc0_t, kch_r, kc0h_r, kw_s, kw0_s, kwh_s, kw0h_s, rg_ref, rg_null, rg_rf, ck_t, sel_some, lkn_hd, Option.isSome_some, Bool.true_and, Bool.and_true, okv_i, okv_l, okv_r, okv_n, okv_rf, okv_b, okv_0, okv_1, okv_f, okv_d, c1_i, c1_r, c1_n, c1_rf, c1_f, nI_add, n_mul, n_sub, n_pred, n_eq, n_le, n_lt, n_neN, n_Nne, N_lt, N_le, n_ltN, n_leN, rdI_n, rdJ_n, rdD_n, wrI_n, wrI_z0, wrI_z1, wrI_zb, wrJ_n, wrD_n, aln_s, okn_n, upd_is, upd_ne, Nat.add_zero, Nat.add_sub_cancel, decide_true, decide_false, cond_true, cond_false, if_true, if_false, ite_not, not_true_eq_false, not_false_eq_true, Nat.reduceEqDiff, Nat.reduceAdd, Nat.reduceMul, Nat.reduceSub, Nat.reduceLeDiff, gf_setf_ne, gf_setf_p, gf_setf_is, va_rf_s, va_rf_n, gf_seta, ga_setf, gc_setf, gc_seta, ga_seta_ne, ga_seta_eq, gf_new, gc_new, gf_newo_o, gc_newo_o, ga_newo_o, ga_new, gf_newa_o, gc_newa_o, ga_newa_o, nx_setf, nx_seta, nx_newo, nx_newa, su_setf, su_seta, su_newo, su_newa, sg_setf, sg_seta, sg_newo, sg_newa, okq_n]
        · obtain ⟨i, _, _, z3⟩ := (mem_flt cap (Nat.le_refl _)).mp z
          unfold bkL at z3
          exact (List.mem_filter.mp z3).2
  obtain ⟨l, o, i, g1, g2, g3, g4⟩ := go
  exact ⟨_, l, g1, his o i l g2 g3, g4, fun X hX => f2 X hX o i⟩
/-- a new map -/
theorem m_28 (hc : gc A p = some 6) (hw : w p = lb) (l0 : lb ≠ 0) (h31 : gf A p 31 = some .null) (h32 : gf A p 32 = some .null) (h33 : gf A p 33 = some (.int (nI 0))) (h34 : gf A p 34 = some (.int (nI 0))) (h35 : gf A p 35 = some (.int (nI 0))) (h36 : (gf A p 36).isSome = true) : ∃ A', evG TB (d + 3) 28 [.ref p] A = some (.inl none, A') ∧ HMz A' w p lb (fun _ => none) ∧ Fr A w A' w (fun l => l = lb) 0 0 := by
  have hp := gc_lt hc
  refine ⟨setf A p 36 (.float 1061158912), ?_, ⟨0, none, fun _ => none, fun _ => false, fun _ => 0, fun _ => 0, fun _ => 0, 0, ⟨hc, hw, ?_, ⟨none, ?_, fun y hy => (by cases hy)⟩, ?_, ⟨nI 0, ?_⟩, ?_, Or.inl ⟨rfl, rfl⟩, fun h q hq => (by cases hq), fun h h' q hq => (by cases hq), rfl, l0, fun _ => rfl⟩, Nat.le_refl _, fun h hh => rfl⟩, Fr.stf hw⟩
  · simp (disch := first | omega | (simp (disch := omega) only [nx_setf, nx_seta, nx_newo, nx_newa]; omega)) only [e_28, x_28_0, x_28_1, x_28_4, x_28_5, x_28_7, x_28_10, e_27, x_27_0, x_27_1, x_27_4, e_0, x_0_0, x_0_1, x_0_4, kv_s, ki_s, kj_s, kd_s, kq_s, kq_n, kq_o, ka_s, kc_r, kc_t, kc0_r, kc0_t, kch_r, kc0h_r, kw_s, kw0_s, kwh_s, kw0h_s, rg_ref, rg_null, rg_rf, ck_t, sel_some, lkn_hd, Option.isSome_some, Bool.true_and, Bool.and_true, okv_i, okv_l, okv_r, okv_n, okv_rf, okv_b, okv_0, okv_1, okv_f, okv_d, c1_i, c1_r, c1_n, c1_rf, c1_f, nI_add, n_mul, n_sub, n_pred, n_eq, n_le, n_lt, n_neN, n_Nne, N_lt, N_le, n_ltN, n_leN, rdI_n, rdJ_n, rdD_n, wrI_n, wrI_z0, wrI_z1, wrI_zb, wrJ_n, wrD_n, aln_s, okn_n, upd_is, upd_ne, Nat.add_zero, Nat.add_sub_cancel, decide_true, decide_false, cond_true, cond_false, if_true, if_false, ite_not, not_true_eq_false, not_false_eq_true, Nat.reduceEqDiff, Nat.reduceAdd, Nat.reduceMul, Nat.reduceSub, Nat.reduceLeDiff, gf_setf_ne, gf_setf_p, gf_setf_is, va_rf_s, va_rf_n, gf_seta, ga_setf, gc_setf, gc_seta, ga_seta_ne, ga_seta_eq, gf_new, gc_new, gf_newo_o, gc_newo_o, ga_newo_o, ga_new, gf_newa_o, gc_newa_o, ga_newa_o, nx_setf, nx_seta, nx_newo, nx_newa, su_setf, su_seta, su_newo, su_newa, sg_setf, sg_seta, sg_newo, sg_newa, okq_n, h36, hc]
  · simp (disch := first | omega | (simp (disch := omega) only [nx_setf, nx_seta, nx_newo, nx_newa]; omega)) only [gf_setf_ne, gf_setf_p, gf_setf_is, va_rf_s, va_rf_n, gf_seta, ga_setf, gc_setf, gc_seta, ga_seta_ne, ga_seta_eq, gf_new, gc_new, gf_newo_o, gc_newo_o, ga_newo_o, ga_new, gf_newa_o, gc_newa_o, ga_newa_o, nx_setf, nx_seta, nx_newo, nx_newa, su_setf, su_seta, su_newo, su_newa, sg_setf, sg_seta, sg_newo, sg_newa, okq_n, h31]
  · simp (disch := first | omega | (simp (disch := omega) only [nx_setf, nx_seta, nx_newo, nx_newa]; omega)) only [gf_setf_ne, gf_setf_p, gf_setf_is, va_rf_s, va_rf_n, gf_seta, ga_setf, gc_setf, gc_seta, ga_seta_ne, ga_seta_eq, gf_new, gc_new, gf_newo_o, gc_newo_o, ga_newo_o, ga_new, gf_newa_o, gc_newa_o, ga_newa_o, nx_setf, nx_seta, nx_newo, nx_newa, su_setf, su_seta, su_newo, su_newa, sg_setf, sg_seta, sg_newo, sg_newa, okq_n, h32]
  · simp (disch := first | omega | (simp (disch := omega) only [nx_setf, nx_seta, nx_newo, nx_newa]; omega)) only [gf_setf_ne, gf_setf_p, gf_setf_is, va_rf_s, va_rf_n, gf_seta, ga_setf, gc_setf, gc_seta, ga_seta_ne, ga_seta_eq, gf_new, gc_new, gf_newo_o, gc_newo_o, ga_newo_o, ga_new, gf_newa_o, gc_newa_o, ga_newa_o, nx_setf, nx_seta, nx_newo, nx_newa, su_setf, su_seta, su_newo, su_newa, sg_setf, sg_seta, sg_newo, sg_newa, okq_n, h33]
  · simp (disch := first | omega | (simp (disch := omega) only [nx_setf, nx_seta, nx_newo, nx_newa]; omega)) only [gf_setf_ne, gf_setf_p, gf_setf_is, va_rf_s, va_rf_n, gf_seta, ga_setf, gc_setf, gc_seta, ga_seta_ne, ga_seta_eq, gf_new, gc_new, gf_newo_o, gc_newo_o, ga_newo_o, ga_new, gf_newa_o, gc_newa_o, ga_newa_o, nx_setf, nx_seta, nx_newo, nx_newa, su_setf, su_seta, su_newo, su_newa, sg_setf, sg_seta, sg_newo, sg_newa, okq_n, h34]
  · simp (disch := first | omega | (simp (disch := omega) only [nx_setf, nx_seta, nx_newo, nx_newa]; omega)) only [gf_setf_ne, gf_setf_p, gf_setf_is, va_rf_s, va_rf_n, gf_seta, ga_setf, gc_setf, gc_seta, ga_seta_ne, ga_seta_eq, gf_new, gc_new, gf_newo_o, gc_newo_o, ga_newo_o, ga_new, gf_newa_o, gc_newa_o, ga_newa_o, nx_setf, nx_seta, nx_newo, nx_newa, su_setf, su_seta, su_newo, su_newa, sg_setf, sg_seta, sg_newo, sg_newa, okq_n, h35]
end
