/-! HashMap: the table doubled -/
abbrev tbA (e : Nat → Option Nat) (n : Nat) : ArC := (9, (n, .inr (.inr (.inr (.inr e)))))
def rH (A : Hp) (N : Nat → Bool) (t0 t1 : Nat) (L : Lk) (e0 e1 : Nat → Option Nat) : Hp :=
  (fun f q => if N q = true ∧ f = 146 then some (va_rf (L q)) else A.1 f q, (A.2.1, (fun q => if q = t0 then some (tbA e0 16) else if q = t1 then some (tbA e1 32) else A.2.2.1 q, A.2.2.2)))
section
variable {A : Hp} {N : Nat → Bool} {t0 t1 q f d p : Nat} {L : Lk} {e0 e1 : Nat → Option Nat} {o : Option Nat}
theorem rH_nx : nx (rH A N t0 t1 L e0 e1) = nx A := rfl
theorem rH_gc : gc (rH A N t0 t1 L e0 e1) q = gc A q := rfl
theorem rH_146 (hN : N q = true) (h : q < nx A) : gf (rH A N t0 t1 L e0 e1) q 146 = some (va_rf (L q)) := gf_i (A := rH A N t0 t1 L e0 e1) h (if_pos ⟨hN, rfl⟩)
theorem rH_o (hf : f ≠ 146) : gf (rH A N t0 t1 L e0 e1) q f = gf A q f := by
  unfold gf
  rw [rH_nx]
  congr 1
  exact if_neg (fun e : N q = true ∧ f = 146 => hf e.2)
theorem rH_t0 (h : t0 < nx A) : ga (rH A N t0 t1 L e0 e1) t0 = some (tbA e0 16) := ga_i (A := rH A N t0 t1 L e0 e1) h (if_pos rfl)
theorem rH_t1 (h : t1 < nx A) (hne : t1 ≠ t0) : ga (rH A N t0 t1 L e0 e1) t1 = some (tbA e1 32) := ga_i (A := rH A N t0 t1 L e0 e1) h ((if_neg hne).trans (if_pos rfl))
theorem rH_s (hN : N q = true) : setf (rH A N t0 t1 L e0 e1) q 146 (va_rf o) = rH A N t0 t1 (uL L q o) e0 e1 := by
  unfold setf rH uL
  refine Prod.ext ?_ rfl
  funext g y
  dsimp only
  by_cases h1 : y = q
  · subst h1
    by_cases h2 : g = 146
    · rw [if_pos ⟨rfl, h2⟩, if_pos ⟨hN, h2⟩, if_pos rfl]
    · rw [if_neg (fun e => h2 e.2), if_neg (fun e => h2 e.2), if_neg (fun e => h2 e.2)]
  · rw [if_neg (fun e => h1 e.1), if_neg h1]
theorem rH_sn (hN : N q = true) : setf (rH A N t0 t1 L e0 e1) q 146 .null = rH A N t0 t1 (uL L q none) e0 e1 := rH_s (o := none) hN
theorem rH_s0 {e : Nat → Option Nat} : seta (rH A N t0 t1 L e0 e1) t0 (tbA e 16) = rH A N t0 t1 L e e1 := by
  unfold seta rH
  refine Prod.ext rfl (Prod.ext rfl (Prod.ext ?_ rfl))
  funext y
  dsimp only
  by_cases h : y = t0
  · rw [if_pos h, if_pos h]
  · rw [if_neg h, if_neg h, if_neg h]
theorem rH_s1 {e : Nat → Option Nat} (hne : t1 ≠ t0) : seta (rH A N t0 t1 L e0 e1) t1 (tbA e 32) = rH A N t0 t1 L e0 e := by
  unfold seta rH
  refine Prod.ext rfl (Prod.ext rfl (Prod.ext ?_ rfl))
  funext y
  dsimp only
  by_cases h : y = t1
  · rw [if_pos h, if_neg (by rw [h]; exact hne), if_pos h]
  · rw [if_neg h]
    by_cases h2 : y = t0
    · rw [if_pos h2, if_pos h2]
    · rw [if_neg h2, if_neg h2, if_neg h, if_neg h]
theorem wrQ_9 {e : Nat → Option Nat} {cap n : Nat} (h : n < cap) (hc : cap ≤ 2147483648) : wrQ (some (tbA e cap)) (nI n) o = some (tbA (va_up e n o) cap) := wrQ_n (by omega) h hc
theorem ckT {r : Rv} : ck true r = r := rfl
theorem and_16 {h : Nat} (hh : h < 24) : nI h &&& nI 16 = nI (if h < 16 then 0 else 16) := by
  have : ∀ h, h < 24 → nI h &&& nI 16 = nI (if h < 16 then 0 else 16) := by decide
  exact this h hh
theorem and_31' {h : Nat} (hh : h < 1000) : nI h &&& nI 31 = nI (h % 32) := pk_andN (n := h) (by omega) 5 (by decide)
end
/-- the doubling at bucket j -/
abbrev RzI (nf : Nat → Option Nat) (fl : Nat → Bool) (j : Nat) (L : Lk) (e0 e1 : Nat → Option Nat) : Prop := (∀ h q, nf h = some q → L q = (if h % 16 < j then none else nxF nf fl 16 h)) ∧ (∀ i, i < 16 → e0 i = (if i < j then none else hdF nf fl 16 i)) ∧ (∀ i, i < 32 → e1 i = (if i % 16 < j then nf i else none))
theorem RzI.l {nf : Nat → Option Nat} {fl : Nat → Bool} {j : Nat} {L : Lk} {e0 e1 : Nat → Option Nat} (hse1f : RzI nf fl j L e0 e1) : ∀ h q, nf h = some q → L q = (if h % 16 < j then none else nxF nf fl 16 h) := hse1f.1
theorem RzI.a {nf : Nat → Option Nat} {fl : Nat → Bool} {j : Nat} {L : Lk} {e0 e1 : Nat → Option Nat} (hse1f : RzI nf fl j L e0 e1) : ∀ i, i < 16 → e0 i = (if i < j then none else hdF nf fl 16 i) := hse1f.2.1
theorem RzI.b {nf : Nat → Option Nat} {fl : Nat → Bool} {j : Nat} {L : Lk} {e0 e1 : Nat → Option Nat} (hse1f : RzI nf fl j L e0 e1) : ∀ i, i < 32 → e1 i = (if i % 16 < j then nf i else none) := hse1f.2.2
section
variable {A : Hp} {N : Nat → Bool} {t0 t1 d p : Nat} {L : Lk} {e0 e1 : Nat → Option Nat} {nf : Nat → Option Nat} {fl : Nat → Bool}
theorem m_34_it (hnd : ∀ h q, nf h = some q → h < 24 ∧ N q = true ∧ q < nx A ∧ gc A q = some 28 ∧ gf A q 143 = some (.int (nI h))) (ij : ∀ h h' q, nf h = some q → nf h' = some q → h = h') (l0 : t0 < nx A) (l1 : t1 < nx A) (hne : t1 ≠ t0) {j : Nat} (hj : j < 16) (iv : RzI nf fl j L e0 e1) (x8 x9 x10 x11 x12 x13 : Option Value) :
    ∃ (L' : Lk) (e0' e1' : Nat → Option Nat) (y8 y9 y10 y11 y12 y13 : Option Value), exG TB d 34 151 [some (.ref p), some (.ref t0), some (.int (nI 16)), some (.int (nI 12)), some (.int (nI 32)), some (.int (nI 24)), some (.ref t1), some (.int (nI j)), x8, x9, x10, x11, x12, x13] [] (rH A N t0 t1 L e0 e1) = exG TB d 34 151 [some (.ref p), some (.ref t0), some (.int (nI 16)), some (.int (nI 12)), some (.int (nI 32)), some (.int (nI 24)), some (.ref t1), some (.int (nI (j + 1))), y8, y9, y10, y11, y12, y13] [] (rH A N t0 t1 L' e0' e1') ∧ RzI nf fl (j + 1) L' e0' e1' := by
  obtain ⟨il, ia, ib⟩ := iv
  have ej := ia j hj
  rw [if_neg (Nat.lt_irrefl _)] at ej
  have hcap : (2147483648 : Nat) ≤ 2147483648 := Nat.le_refl _
  have rd : rdQ (some (tbA e0 16)) (nI j) = some (hdF nf fl 16 j) := by rw [rdQ_n (by omega) (by omega) (by omega), ej]
  have at0 : ∀ e, atag (some (tbA e 16)) 9 = true := fun _ => rfl
  have at1 : ∀ e, atag (some (tbA e 32)) 9 = true := fun _ => rfl
  have w0 := wrQ_9 (e := e0) (cap := 16) (n := j) (o := none) hj (by omega)
  have okN : ∀ h q, nf h = some q → ∀ L e0 e1, okq (rH A N t0 t1 L e0 e1) [28] (.ref q) = true := fun h q hq L e0 e1 => by
    show cin (gcs A q) [28] = true
    rw [gcs_d (hnd h q hq).2.2.2.1]; rfl
  have c28 : ∀ h q, nf h = some q → cin (gcs A q) [28] = true := fun h q hq => by rw [gcs_d (hnd h q hq).2.2.2.1]; rfl
  have a0' : ∀ i, i < 16 → va_up e0 j none i = (if i < j + 1 then none else hdF nf fl 16 i) := fun i hi => by
    by_cases e : i = j
    · rw [if_pos (by omega)]; exact if_pos e
    · refine (if_neg e).trans ((ia i hi).trans ?_)
      by_cases e2 : i < j
      · rw [if_pos e2, if_pos (by omega)]
      · rw [if_neg e2, if_neg (by omega)]
  have a1' : ∀ (e1' : Nat → Option Nat), (∀ i, i < 32 → e1' i = if i % 16 = j then nf i else e1 i) → ∀ i, i < 32 → e1' i = (if i % 16 < j + 1 then nf i else none) := fun e1' h i hi => by
    rw [h i hi, ib i hi]
    by_cases z : i % 16 < j
    · rw [if_neg (by omega), if_pos z, if_pos (by omega)]
    · by_cases z2 : i % 16 = j
      · rw [if_pos z2, if_pos (by omega)]
      · rw [if_neg z2, if_neg z, if_neg (by omega)]
  have l1' : ∀ (L' : Lk), (∀ h q, nf h = some q → L' q = if h % 16 = j then none else L q) → ∀ h q, nf h = some q → L' q = (if h % 16 < j + 1 then none else nxF nf fl 16 h) := fun L' hL h q hq => by
    rw [hL h q hq, il h q hq]
    by_cases z : h % 16 < j
    · rw [if_neg (by omega), if_pos z, if_pos (by omega)]
    · by_cases z2 : h % 16 = j
      · rw [if_pos z2, if_pos (by omega)]
      · rw [if_neg z2, if_neg z, if_neg (by omega)]
  -- when the bucket is empty
  have emp : hdF nf fl 16 j = none → (∀ h, h % 16 = j → nf h = none) → ∃ (L' : Lk) (e0' e1' : Nat → Option Nat) (y8 y9 y10 y11 y12 y13 : Option Value), exG TB d 34 151 [some (.ref p), some (.ref t0), some (.int (nI 16)), some (.int (nI 12)), some (.int (nI 32)), some (.int (nI 24)), some (.ref t1), some (.int (nI j)), x8, x9, x10, x11, x12, x13] [] (rH A N t0 t1 L e0 e1) = exG TB d 34 151 [some (.ref p), some (.ref t0), some (.int (nI 16)), some (.int (nI 12)), some (.int (nI 32)), some (.int (nI 24)), some (.ref t1), some (.int (nI (j + 1))), y8, y9, y10, y11, y12, y13] [] (rH A N t0 t1 L' e0' e1') ∧ RzI nf fl (j + 1) L' e0' e1' := fun e hn => by
    rw [e] at rd
    refine ⟨L, e0, e1, some .null, x9, x10, x11, x12, x13, x_34_151.trans ?_, l1' _ (fun h q hq => ?_), fun i hi => ?_, a1' _ (fun i hi => ?_)⟩
    · simp (disch := first | omega | (simp (disch := omega) only [nx_setf, nx_seta, nx_newo, nx_newa]; omega)) only [x_34_0, x_34_1, x_34_4, x_34_5, x_34_6n, x_34_6r, x_34_9, x_34_10, x_34_13, x_34_14, x_34_15, x_34_16, x_34_17, x_34_20, x_34_21, x_34_22, x_34_24, x_34_25, x_34_28, x_34_29, x_34_31, x_34_34, x_34_35, x_34_37, x_34_40, x_34_41, x_34_42, x_34_43, x_34_44, x_34_45, x_34_46, x_34_48, x_34_50, x_34_53, x_34_54, x_34_56, x_34_59, x_34_60, x_34_61, x_34_62, x_34_64, x_34_67, x_34_68, x_34_71, x_34_72, x_34_74, x_34_77, x_34_79, x_34_81, x_34_83, x_34_85, x_34_87, x_34_90, x_34_92, x_34_93, x_34_94, x_34_98, x_34_100, x_34_102, x_34_104, x_34_107, x_34_109, x_34_111, x_34_112, x_34_115, x_34_118, x_34_121, x_34_123, x_34_125, x_34_126, x_34_128, x_34_131, x_34_133, x_34_136, x_34_138, x_34_139, x_34_141, x_34_144, x_34_145n, x_34_145r, x_34_148, x_34_149, x_34_153, x_34_154, x_34_157, x_34_158, x_34_160, x_34_161, x_34_162, x_34_164n, x_34_164r, x_34_167, x_34_168, x_34_170, x_34_171r, x_34_171n, x_34_172, x_34_174, x_34_177n, x_34_177r, x_34_180, x_34_182, x_34_184, x_34_187, x_34_189, x_34_190, x_34_191, x_34_192, x_34_194r, x_34_194n, x_34_195, x_34_198, x_34_200n, x_34_200o, x_34_203, x_34_206, x_34_211, x_34_212, x_34_214, x_34_216, x_34_220, x_34_223, x_34_224, x_34_226, x_34_227, x_34_229, x_34_230, x_34_232, x_34_233, x_34_237, x_34_240, x_34_242, x_34_244, x_34_247, x_34_248, x_34_249, x_34_252, x_34_254n, x_34_254r, x_34_257, x_34_259, x_34_261, x_34_264, x_34_266, x_34_268, x_34_271, x_34_273, x_34_275, x_34_278, x_34_280n, x_34_280r, x_34_283, x_34_285, x_34_287, x_34_290, x_34_292, x_34_294, x_34_297, x_34_299, x_34_301, x_34_303, x_34_304, x_34_306n, x_34_306r, x_34_309, x_34_311n, x_34_311r, x_34_314, x_34_316, x_34_317, x_34_320, x_34_322, x_34_324, x_34_326r, x_34_326n, x_34_327, x_34_329n, x_34_329r, x_34_332, x_34_334, x_34_335, x_34_338, x_34_340, x_34_342, x_34_343, x_34_344, x_34_346r, x_34_346n, x_34_347, x_34_350, x_34_353, x_34_355, kv_s, ki_s, kj_s, kd_s, kq_s, kq_n, kq_o, ka_s, kc_r, kc_t, kc0_r, kc0_t, kch_r, kc0h_r, kw_s, kw0_s, kwh_s, kw0h_s, rg_ref, rg_null, rg_rf, ck_t, sel_some, lkn_hd, Option.isSome_some, Bool.true_and, Bool.and_true, okv_i, okv_l, okv_r, okv_n, okv_rf, okv_b, okv_0, okv_1, okv_f, okv_d, c1_i, c1_r, c1_n, c1_rf, c1_f, nI_add, n_mul, n_sub, n_pred, n_eq, n_le, n_lt, n_neN, n_Nne, N_lt, N_le, n_ltN, n_leN, rdI_n, rdJ_n, rdD_n, wrI_n, wrI_z0, wrI_z1, wrI_zb, wrJ_n, wrD_n, aln_s, okn_n, upd_is, upd_ne, Nat.add_zero, Nat.add_sub_cancel, decide_true, decide_false, cond_true, cond_false, if_true, if_false, ite_not, not_true_eq_false, not_false_eq_true, Nat.reduceEqDiff, Nat.reduceAdd, Nat.reduceMul, Nat.reduceSub, Nat.reduceLeDiff, gf_setf_ne, gf_setf_p, gf_setf_is, va_rf_s, va_rf_n, gf_seta, ga_setf, gc_setf, gc_seta, ga_seta_ne, ga_seta_eq, gf_new, gc_new, gf_newo_o, gc_newo_o, ga_newo_o, ga_new, gf_newa_o, gc_newa_o, ga_newa_o, nx_setf, nx_seta, nx_newo, nx_newa, su_setf, su_seta, su_newo, su_newa, sg_setf, sg_seta, sg_newo, sg_newa, okq_n, rH_t0 l0, rd, nle hj]
    · rw [if_neg (fun z => by rw [hn h z] at hq; cases hq)]
    · rw [ia i hi]
      by_cases z : i < j
      · rw [if_pos z, if_pos (by omega)]
      · by_cases z2 : i = j
        · rw [if_neg z, if_pos (show i < j + 1 by omega), z2, e]
        · rw [if_neg z, if_neg (by omega)]
    · by_cases z : i % 16 = j
      · rw [if_pos z, ib i hi, if_neg (by omega), hn i z]
      · rw [if_neg z]
  -- one node
  have one : ∀ h q, nf h = some q → h % 16 = j → hdF nf fl 16 j = some q → nxF nf fl 16 h = none → (∀ h', h' % 16 = j → h' ≠ h → nf h' = none) → ∃ (L' : Lk) (e0' e1' : Nat → Option Nat) (y8 y9 y10 y11 y12 y13 : Option Value), exG TB d 34 151 [some (.ref p), some (.ref t0), some (.int (nI 16)), some (.int (nI 12)), some (.int (nI 32)), some (.int (nI 24)), some (.ref t1), some (.int (nI j)), x8, x9, x10, x11, x12, x13] [] (rH A N t0 t1 L e0 e1) = exG TB d 34 151 [some (.ref p), some (.ref t0), some (.int (nI 16)), some (.int (nI 12)), some (.int (nI 32)), some (.int (nI 24)), some (.ref t1), some (.int (nI (j + 1))), y8, y9, y10, y11, y12, y13] [] (rH A N t0 t1 L' e0' e1') ∧ RzI nf fl (j + 1) L' e0' e1' := fun h q hq hm hd hn ho => by
    obtain ⟨n0, n1, n2, n3, n4⟩ := hnd h q hq
    have lq := il h q hq
    rw [if_neg (by omega), hn] at lq
    rw [hd] at rd
    have hh32 : h % 32 = h := by omega
    have a31 := and_31' (h := h) (by omega)
    rw [hh32] at a31
    have w1 := wrQ_9 (e := e1) (cap := 32) (n := h) (o := some q) (by omega) (by omega)
    have ok := okN h q hq
    refine ⟨L, va_up e0 j none, va_up e1 h (some q), some (.ref q), x9, x10, x11, x12, x13, x_34_151.trans ?_, l1' _ (fun h' q' hq' => ?_), a0', a1' _ (fun i hi => ?_)⟩
    · simp (disch := first | omega | exact ok _ _ _ | exact at0 _ | exact at1 _) only [x_34_0, x_34_1, x_34_4, x_34_5, x_34_6n, x_34_6r, x_34_9, x_34_10, x_34_13, x_34_14, x_34_15, x_34_16, x_34_17, x_34_20, x_34_21, x_34_22, x_34_24, x_34_25, x_34_28, x_34_29, x_34_31, x_34_34, x_34_35, x_34_37, x_34_40, x_34_41, x_34_42, x_34_43, x_34_44, x_34_45, x_34_46, x_34_48, x_34_50, x_34_53, x_34_54, x_34_56, x_34_59, x_34_60, x_34_61, x_34_62, x_34_64, x_34_67, x_34_68, x_34_71, x_34_72, x_34_74, x_34_77, x_34_79, x_34_81, x_34_83, x_34_85, x_34_87, x_34_90, x_34_92, x_34_93, x_34_94, x_34_98, x_34_100, x_34_102, x_34_104, x_34_107, x_34_109, x_34_111, x_34_112, x_34_115, x_34_118, x_34_121, x_34_123, x_34_125, x_34_126, x_34_128, x_34_131, x_34_133, x_34_136, x_34_138, x_34_139, x_34_141, x_34_144, x_34_145n, x_34_145r, x_34_148, x_34_149, x_34_153, x_34_154, x_34_157, x_34_158, x_34_160, x_34_161, x_34_162, x_34_164n, x_34_164r, x_34_167, x_34_168, x_34_170, x_34_171r, x_34_171n, x_34_172, x_34_174, x_34_177n, x_34_177r, x_34_180, x_34_182, x_34_184, x_34_187, x_34_189, x_34_190, x_34_191, x_34_192, x_34_194r, x_34_194n, x_34_195, x_34_198, x_34_200n, x_34_200o, x_34_203, x_34_206, x_34_211, x_34_212, x_34_214, x_34_216, x_34_220, x_34_223, x_34_224, x_34_226, x_34_227, x_34_229, x_34_230, x_34_232, x_34_233, x_34_237, x_34_240, x_34_242, x_34_244, x_34_247, x_34_248, x_34_249, x_34_252, x_34_254n, x_34_254r, x_34_257, x_34_259, x_34_261, x_34_264, x_34_266, x_34_268, x_34_271, x_34_273, x_34_275, x_34_278, x_34_280n, x_34_280r, x_34_283, x_34_285, x_34_287, x_34_290, x_34_292, x_34_294, x_34_297, x_34_299, x_34_301, x_34_303, x_34_304, x_34_306n, x_34_306r, x_34_309, x_34_311n, x_34_311r, x_34_314, x_34_316, x_34_317, x_34_320, x_34_322, x_34_324, x_34_326r, x_34_326n, x_34_327, x_34_329n, x_34_329r, x_34_332, x_34_334, x_34_335, x_34_338, x_34_340, x_34_342, x_34_343, x_34_344, x_34_346r, x_34_346n, x_34_347, x_34_350, x_34_353, x_34_355, kv_s, ki_s, kj_s, kd_s, kq_s, kq_n, kq_o, ka_s, kc_r, kc_t, kc0_r, kc0_t, kch_r, kc0h_r, kw_s, kw0_s, kwh_s, kw0h_s, rg_ref, rg_null, rg_rf, ck_t, sel_some, lkn_hd, Option.isSome_some, Bool.true_and, Bool.and_true, okv_i, okv_l, okv_r, okv_n, okv_rf, okv_b, okv_0, okv_1, okv_f, okv_d, c1_i, c1_r, c1_n, c1_rf, c1_f, nI_add, n_mul, n_sub, n_pred, n_eq, n_le, n_lt, n_neN, n_Nne, N_lt, N_le, n_ltN, n_leN, rdI_n, rdJ_n, rdD_n, wrI_n, wrI_z0, wrI_z1, wrI_zb, wrJ_n, wrD_n, aln_s, okn_n, upd_is, upd_ne, Nat.add_zero, Nat.add_sub_cancel, decide_true, decide_false, cond_true, cond_false, if_true, if_false, ite_not, not_true_eq_false, not_false_eq_true, Nat.reduceEqDiff, Nat.reduceAdd, Nat.reduceMul, Nat.reduceSub, Nat.reduceLeDiff, gf_setf_ne, gf_setf_p, gf_setf_is, va_rf_s, va_rf_n, gf_seta, ga_setf, gc_setf, gc_seta, ga_seta_ne, ga_seta_eq, gf_new, gc_new, gf_newo_o, gc_newo_o, ga_newo_o, ga_new, gf_newa_o, gc_newa_o, ga_newa_o, nx_setf, nx_seta, nx_newo, nx_newa, su_setf, su_seta, su_newo, su_newa, sg_setf, sg_seta, sg_newo, sg_newa, okq_n, rH_t0 l0, rH_t1 l1 hne, rH_s0, rH_s1 hne, rd, w0, w1, nle hj, rH_146 n1 n2, lq, rH_o, n4, a31, at0, at1, ok, Bool.true_and, ckT]
    · by_cases z : h' % 16 = j
      · rw [if_pos z]
        by_cases z2 : h' = h
        · rw [z2, hq] at hq'; cases hq'; exact lq
        · rw [ho h' z z2] at hq'; cases hq'
      · rw [if_neg z]
    · by_cases z2 : i = h
      · rw [z2, if_pos hm]; exact (if_pos rfl).trans hq.symm
      · refine (if_neg z2).trans ?_
        by_cases z : i % 16 = j
        · rw [if_pos z, ib i hi, if_neg (by omega), ho i z z2]
        · rw [if_neg z]
  -- two nodes
  have two : ∀ q q', j < 8 → nf j = some q → nf (j + 16) = some q' → ∃ (L' : Lk) (e0' e1' : Nat → Option Nat) (y8 y9 y10 y11 y12 y13 : Option Value), exG TB d 34 151 [some (.ref p), some (.ref t0), some (.int (nI 16)), some (.int (nI 12)), some (.int (nI 32)), some (.int (nI 24)), some (.ref t1), some (.int (nI j)), x8, x9, x10, x11, x12, x13] [] (rH A N t0 t1 L e0 e1) = exG TB d 34 151 [some (.ref p), some (.ref t0), some (.int (nI 16)), some (.int (nI 12)), some (.int (nI 32)), some (.int (nI 24)), some (.ref t1), some (.int (nI (j + 1))), y8, y9, y10, y11, y12, y13] [] (rH A N t0 t1 L' e0' e1') ∧ RzI nf fl (j + 1) L' e0' e1' := fun q q' hj8 hq hq' => by
    obtain ⟨n0, n1, n2, n3, n4⟩ := hnd _ q hq
    obtain ⟨o0, o1, o2, o3, o4⟩ := hnd _ q' hq'
    have lq := il _ q hq
    have lq' := il _ q' hq'
    rw [if_neg (by omega)] at lq lq'
    have aj := and_16 (h := j) (by omega)
    rw [if_pos (by omega)] at aj
    have aj' := and_16 (h := j + 16) (by omega)
    rw [if_neg (by omega)] at aj'
    have w1 := wrQ_9 (e := e1) (cap := 32) (n := j) (o := some q) (by omega) (by omega)
    have w2 := wrQ_9 (e := va_up e1 j (some q)) (cap := 32) (n := j + 16) (o := some q') (by omega) (by omega)
    have qne : q ≠ q' := fun e => by subst e; have := ij _ _ _ hq hq'; omega
    have ok := okN _ q hq
    have ok' := okN _ q' hq'
    have c1 : ∀ (L : Lk) (e0 e1 : Nat → Option Nat), cin (gcs (rH A N t0 t1 L e0 e1) q) [28] = true := fun _ _ _ => c28 _ q hq
    have c2 : ∀ (L : Lk) (e0 e1 : Nat → Option Nat), cin (gcs (rH A N t0 t1 L e0 e1) q') [28] = true := fun _ _ _ => c28 _ q' hq'
    have fin : ∀ L', (∀ x, L' x = if x = q ∨ x = q' then none else L x) → RzI nf fl (j + 1) L' (va_up e0 j none) (va_up (va_up e1 j (some q)) (j + 16) (some q')) := fun L' hL' => by
      refine ⟨l1' _ (fun h x hx => ?_), a0', a1' _ (fun i hi => ?_)⟩
      · rw [hL']
        by_cases z : h % 16 = j
        · rw [if_pos z]
          refine if_pos ?_
          have h24 := (hnd h x hx).1
          by_cases z2 : h = j
          · rw [z2, hq] at hx; cases hx; exact Or.inl rfl
          · have z3 : h = j + 16 := by omega
            rw [z3, hq'] at hx; cases hx; exact Or.inr rfl
        · rw [if_neg z]
          refine if_neg (fun e => ?_)
          rcases e with e | e
          · rw [e] at hx; have := ij _ _ _ hx hq; omega
          · rw [e] at hx; have := ij _ _ _ hx hq'; omega
      · by_cases z2 : i = j + 16
        · rw [z2, if_pos (by omega), hq']; exact if_pos rfl
        · refine (if_neg z2).trans ?_
          by_cases z3 : i = j
          · rw [z3, if_pos (by omega), hq]; exact if_pos rfl
          · exact (if_neg z3).trans (if_neg (by omega)).symm
    cases hfl : fl j with
    | true =>
      have hd : hdF nf fl 16 j = some q := by unfold hdF; rw [if_neg (by decide), if_pos hj8, hfl, if_pos rfl, hq]; rfl
      have nq : nxF nf fl 16 j = some q' := by unfold nxF; rw [if_neg (by decide), if_pos hj8, hfl, if_pos rfl, hq']
      have nq' : nxF nf fl 16 (j + 16) = none := by unfold nxF; rw [if_neg (by decide), if_neg (by omega), if_neg (by omega), Nat.add_sub_cancel, hfl, if_pos rfl]
      rw [hd] at rd
      rw [nq] at lq
      rw [nq'] at lq'
      refine ⟨uL (uL L q none) q' none, va_up e0 j none, va_up (va_up e1 j (some q)) (j + 16) (some q'), some .null, some (.ref q), some (.ref q), some (.ref q'), some (.ref q'), some .null, x_34_151.trans ?_, fin _ (fun x => ?_)⟩
      · simp (disch := first | omega | exact ok _ _ _ | exact ok' _ _ _ | exact at0 _ | exact at1 _ | exact c1 _ _ _ | exact c2 _ _ _) only [x_34_0, x_34_1, x_34_4, x_34_5, x_34_6n, x_34_6r, x_34_9, x_34_10, x_34_13, x_34_14, x_34_15, x_34_16, x_34_17, x_34_20, x_34_21, x_34_22, x_34_24, x_34_25, x_34_28, x_34_29, x_34_31, x_34_34, x_34_35, x_34_37, x_34_40, x_34_41, x_34_42, x_34_43, x_34_44, x_34_45, x_34_46, x_34_48, x_34_50, x_34_53, x_34_54, x_34_56, x_34_59, x_34_60, x_34_61, x_34_62, x_34_64, x_34_67, x_34_68, x_34_71, x_34_72, x_34_74, x_34_77, x_34_79, x_34_81, x_34_83, x_34_85, x_34_87, x_34_90, x_34_92, x_34_93, x_34_94, x_34_98, x_34_100, x_34_102, x_34_104, x_34_107, x_34_109, x_34_111, x_34_112, x_34_115, x_34_118, x_34_121, x_34_123, x_34_125, x_34_126, x_34_128, x_34_131, x_34_133, x_34_136, x_34_138, x_34_139, x_34_141, x_34_144, x_34_145n, x_34_145r, x_34_148, x_34_149, x_34_153, x_34_154, x_34_157, x_34_158, x_34_160, x_34_161, x_34_162, x_34_164n, x_34_164r, x_34_167, x_34_168, x_34_170, x_34_171r, x_34_171n, x_34_172, x_34_174, x_34_177n, x_34_177r, x_34_180, x_34_182, x_34_184, x_34_187, x_34_189, x_34_190, x_34_191, x_34_192, x_34_194r, x_34_194n, x_34_195, x_34_198, x_34_200n, x_34_200o, x_34_203, x_34_206, x_34_211, x_34_212, x_34_214, x_34_216, x_34_220, x_34_223, x_34_224, x_34_226, x_34_227, x_34_229, x_34_230, x_34_232, x_34_233, x_34_237, x_34_240, x_34_242, x_34_244, x_34_247, x_34_248, x_34_249, x_34_252, x_34_254n, x_34_254r, x_34_257, x_34_259, x_34_261, x_34_264, x_34_266, x_34_268, x_34_271, x_34_273, x_34_275, x_34_278, x_34_280n, x_34_280r, x_34_283, x_34_285, x_34_287, x_34_290, x_34_292, x_34_294, x_34_297, x_34_299, x_34_301, x_34_303, x_34_304, x_34_306n, x_34_306r, x_34_309, x_34_311n, x_34_311r, x_34_314, x_34_316, x_34_317, x_34_320, x_34_322, x_34_324, x_34_326r, x_34_326n, x_34_327, x_34_329n, x_34_329r, x_34_332, x_34_334, x_34_335, x_34_338, x_34_340, x_34_342, x_34_343, x_34_344, x_34_346r, x_34_346n, x_34_347, x_34_350, x_34_353, x_34_355, x_34_235, kv_s, ki_s, kj_s, kd_s, kq_s, kq_n, kq_o, ka_s, kc_r, kc_t, kc0_r, kc0_t, kch_r, kc0h_r, kw_s, kw0_s, kwh_s, kw0h_s, rg_ref, rg_null, rg_rf, ck_t, sel_some, lkn_hd, Option.isSome_some, Bool.true_and, Bool.and_true, okv_i, okv_l, okv_r, okv_n, okv_rf, okv_b, okv_0, okv_1, okv_f, okv_d, c1_i, c1_r, c1_n, c1_rf, c1_f, nI_add, n_mul, n_sub, n_pred, n_eq, n_le, n_lt, n_neN, n_Nne, N_lt, N_le, n_ltN, n_leN, rdI_n, rdJ_n, rdD_n, wrI_n, wrI_z0, wrI_z1, wrI_zb, wrJ_n, wrD_n, aln_s, okn_n, upd_is, upd_ne, Nat.add_zero, Nat.add_sub_cancel, decide_true, decide_false, cond_true, cond_false, if_true, if_false, ite_not, not_true_eq_false, not_false_eq_true, Nat.reduceEqDiff, Nat.reduceAdd, Nat.reduceMul, Nat.reduceSub, Nat.reduceLeDiff, gf_setf_ne, gf_setf_p, gf_setf_is, va_rf_s, va_rf_n, gf_seta, ga_setf, gc_setf, gc_seta, ga_seta_ne, ga_seta_eq, gf_new, gc_new, gf_newo_o, gc_newo_o, ga_newo_o, ga_new, gf_newa_o, gc_newa_o, ga_newa_o, nx_setf, nx_seta, nx_newo, nx_newa, su_setf, su_seta, su_newo, su_newa, sg_setf, sg_seta, sg_newo, sg_newa, okq_n, rH_t0 l0, rH_t1 l1 hne, rH_s0, rH_s1 hne, rd, w0, w1, w2, nle hj, rH_146 n1 n2, rH_146 o1 o2, rH_sn n1, rH_sn o1, lq, lq', rH_o, n4, o4, aj, aj', at0, at1, ok, ok', Bool.true_and, ckT]
      · unfold uL
        by_cases z : x = q' <;> by_cases z2 : x = q <;> simp [z, z2]
    | false =>
      have hd : hdF nf fl 16 j = some q' := by unfold hdF; rw [if_neg (by decide), if_pos hj8, hfl, if_neg (by decide), hq']; rfl
      have nq : nxF nf fl 16 j = none := by unfold nxF; rw [if_neg (by decide), if_pos hj8, hfl, if_neg (by decide)]
      have nq' : nxF nf fl 16 (j + 16) = some q := by unfold nxF; rw [if_neg (by decide), if_neg (by omega), if_neg (by omega), Nat.add_sub_cancel, hfl, if_neg (by decide), hq]
      rw [hd] at rd
      rw [nq] at lq
      rw [nq'] at lq'
      refine ⟨uL (uL L q none) q' none, va_up e0 j none, va_up (va_up e1 j (some q)) (j + 16) (some q'), some .null, some (.ref q), some (.ref q), some (.ref q'), some (.ref q'), some .null, x_34_151.trans ?_, fin _ (fun x => ?_)⟩
      · simp (disch := first | omega | exact ok _ _ _ | exact ok' _ _ _ | exact at0 _ | exact at1 _ | exact c1 _ _ _ | exact c2 _ _ _) only [x_34_0, x_34_1, x_34_4, x_34_5, x_34_6n, x_34_6r, x_34_9, x_34_10, x_34_13, x_34_14, x_34_15, x_34_16, x_34_17, x_34_20, x_34_21, x_34_22, x_34_24, x_34_25, x_34_28, x_34_29, x_34_31, x_34_34, x_34_35, x_34_37, x_34_40, x_34_41, x_34_42, x_34_43, x_34_44, x_34_45, x_34_46, x_34_48, x_34_50, x_34_53, x_34_54, x_34_56, x_34_59, x_34_60, x_34_61, x_34_62, x_34_64, x_34_67, x_34_68, x_34_71, x_34_72, x_34_74, x_34_77, x_34_79, x_34_81, x_34_83, x_34_85, x_34_87, x_34_90, x_34_92, x_34_93, x_34_94, x_34_98, x_34_100, x_34_102, x_34_104, x_34_107, x_34_109, x_34_111, x_34_112, x_34_115, x_34_118, x_34_121, x_34_123, x_34_125, x_34_126, x_34_128, x_34_131, x_34_133, x_34_136, x_34_138, x_34_139, x_34_141, x_34_144, x_34_145n, x_34_145r, x_34_148, x_34_149, x_34_153, x_34_154, x_34_157, x_34_158, x_34_160, x_34_161, x_34_162, x_34_164n, x_34_164r, x_34_167, x_34_168, x_34_170, x_34_171r, x_34_171n, x_34_172, x_34_174, x_34_177n, x_34_177r, x_34_180, x_34_182, x_34_184, x_34_187, x_34_189, x_34_190, x_34_191, x_34_192, x_34_194r, x_34_194n, x_34_195, x_34_198, x_34_200n, x_34_200o, x_34_203, x_34_206, x_34_211, x_34_212, x_34_214, x_34_216, x_34_220, x_34_223, x_34_224, x_34_226, x_34_227, x_34_229, x_34_230, x_34_232, x_34_233, x_34_237, x_34_240, x_34_242, x_34_244, x_34_247, x_34_248, x_34_249, x_34_252, x_34_254n, x_34_254r, x_34_257, x_34_259, x_34_261, x_34_264, x_34_266, x_34_268, x_34_271, x_34_273, x_34_275, x_34_278, x_34_280n, x_34_280r, x_34_283, x_34_285, x_34_287, x_34_290, x_34_292, x_34_294, x_34_297, x_34_299, x_34_301, x_34_303, x_34_304, x_34_306n, x_34_306r, x_34_309, x_34_311n, x_34_311r, x_34_314, x_34_316, x_34_317, x_34_320, x_34_322, x_34_324, x_34_326r, x_34_326n, x_34_327, x_34_329n, x_34_329r, x_34_332, x_34_334, x_34_335, x_34_338, x_34_340, x_34_342, x_34_343, x_34_344, x_34_346r, x_34_346n, x_34_347, x_34_350, x_34_353, x_34_355, x_34_235, kv_s, ki_s, kj_s, kd_s, kq_s, kq_n, kq_o, ka_s, kc_r, kc_t, kc0_r, kc0_t, kch_r, kc0h_r, kw_s, kw0_s, kwh_s, kw0h_s, rg_ref, rg_null, rg_rf, ck_t, sel_some, lkn_hd, Option.isSome_some, Bool.true_and, Bool.and_true, okv_i, okv_l, okv_r, okv_n, okv_rf, okv_b, okv_0, okv_1, okv_f, okv_d, c1_i, c1_r, c1_n, c1_rf, c1_f, nI_add, n_mul, n_sub, n_pred, n_eq, n_le, n_lt, n_neN, n_Nne, N_lt, N_le, n_ltN, n_leN, rdI_n, rdJ_n, rdD_n, wrI_n, wrI_z0, wrI_z1, wrI_zb, wrJ_n, wrD_n, aln_s, okn_n, upd_is, upd_ne, Nat.add_zero, Nat.add_sub_cancel, decide_true, decide_false, cond_true, cond_false, if_true, if_false, ite_not, not_true_eq_false, not_false_eq_true, Nat.reduceEqDiff, Nat.reduceAdd, Nat.reduceMul, Nat.reduceSub, Nat.reduceLeDiff, gf_setf_ne, gf_setf_p, gf_setf_is, va_rf_s, va_rf_n, gf_seta, ga_setf, gc_setf, gc_seta, ga_seta_ne, ga_seta_eq, gf_new, gc_new, gf_newo_o, gc_newo_o, ga_newo_o, ga_new, gf_newa_o, gc_newa_o, ga_newa_o, nx_setf, nx_seta, nx_newo, nx_newa, su_setf, su_seta, su_newo, su_newa, sg_setf, sg_seta, sg_newo, sg_newa, okq_n, rH_t0 l0, rH_t1 l1 hne, rH_s0, rH_s1 hne, rd, w0, w1, w2, nle hj, rH_146 n1 n2, rH_146 o1 o2, rH_sn n1, rH_sn o1, lq, lq', rH_o, n4, o4, aj, aj', at0, at1, ok, ok', Bool.true_and, ckT]
      · unfold uL
        by_cases z : x = q' <;> by_cases z2 : x = q <;> simp [z, z2]
  have hh24 : ∀ h, 24 ≤ h → nf h = none := fun h hh => by
    cases e : nf h with
    | none => rfl
    | some q => exact absurd (hnd h q e).1 (by omega)
  by_cases hj8 : j < 8
  · have hd : hdF nf fl 16 j = (if fl j = true then (nf j).or (nf (j + 16)) else (nf (j + 16)).or (nf j)) := by unfold hdF; rw [if_neg (by decide), if_pos hj8]
    cases e1' : nf j with
    | none =>
      cases e2' : nf (j + 16) with
      | none =>
        refine emp (by rw [hd, e1', e2']; cases fl j <;> rfl) (fun h hm => ?_)
        by_cases z : h = j
        · rw [z]; exact e1'
        · by_cases z2 : h = j + 16
          · rw [z2]; exact e2'
          · exact hh24 h (by omega)
      | some q =>
        refine one (j + 16) q e2' (by omega) (by rw [hd, e1', e2']; cases fl j <;> rfl) (by unfold nxF; rw [if_neg (by decide), if_neg (by omega), if_neg (by omega), Nat.add_sub_cancel, e1']; cases fl j <;> rfl) (fun h hm z2 => ?_)
        by_cases z : h = j
        · rw [z]; exact e1'
        · exact hh24 h (by omega)
    | some q =>
      cases e2' : nf (j + 16) with
      | none =>
        refine one j q e1' (by omega) (by rw [hd, e1', e2']; cases fl j <;> rfl) (by unfold nxF; rw [if_neg (by decide), if_pos hj8, e2']; cases fl j <;> rfl) (fun h hm z2 => ?_)
        by_cases z : h = j + 16
        · rw [z]; exact e2'
        · exact hh24 h (by omega)
      | some q' => exact two q q' hj8 e1' e2'
  · have hd : hdF nf fl 16 j = nf j := by unfold hdF; rw [if_neg (by decide), if_neg hj8]
    cases e1' : nf j with
    | none => exact emp (by rw [hd, e1']) (fun h hm => by
        by_cases z : h = j
        · rw [z]; exact e1'
        · exact hh24 h (by omega))
    | some q => exact one j q e1' (by omega) (by rw [hd, e1']) (by unfold nxF; rw [if_neg (by decide), if_neg hj8, if_pos hj]) (fun h hm z2 => hh24 h (by omega))
theorem rH_eq {A3 : Hp} (h0 : A3.2.2.1 t0 = some (tbA e0 16)) (h1 : A3.2.2.1 t1 = some (tbA e1 32)) (hN : ∀ q, N q = true → A3.1 146 q = some (va_rf (L q))) : A3 = rH A3 N t0 t1 L e0 e1 := by
  unfold rH
  refine Prod.ext ?_ (Prod.ext rfl (Prod.ext ?_ rfl))
  · funext f q
    dsimp only
    by_cases h : N q = true ∧ f = 146
    · rw [if_pos h, h.2]; exact hN q h.1
    · rw [if_neg h]
  · funext q
    dsimp only
    by_cases h : q = t0
    · rw [if_pos h, h]; exact h0
    · rw [if_neg h]
      by_cases h' : q = t1
      · rw [if_pos h', h']; exact h1
      · rw [if_neg h']
theorem rH_fr {A3 : Hp} {w : Lb} {X : Nat → Prop} {L' : Lk} {e0' e1' : Nat → Option Nat} (h0 : X (w t0)) (h1 : X (w t1)) (hN : ∀ q, N q = true → X (w q)) : Fr A3 w (rH A3 N t0 t1 L' e0' e1') w X 0 0 := ⟨rfl, Nat.le_refl _, Nat.le_refl _, Nat.le_refl _, Nat.le_refl _, fun _ _ => rfl, fun q _ h => ⟨rfl, fun f => by
    show (if N q = true ∧ f = 146 then _ else _) = _
    exact if_neg (fun e => h (hN q e.1)), by
    show (if q = t0 then _ else if q = t1 then _ else _) = _
    rw [if_neg (fun e => h (by rw [e]; exact h0)), if_neg (fun e => h (by rw [e]; exact h1))]⟩⟩
theorem m_34_lp (hnd : ∀ h q, nf h = some q → h < 24 ∧ N q = true ∧ q < nx A ∧ gc A q = some 28 ∧ gf A q 143 = some (.int (nI h))) (ij : ∀ h h' q, nf h = some q → nf h' = some q → h = h') (l0 : t0 < nx A) (l1 : t1 < nx A) (hne : t1 ≠ t0) : ∀ (k j : Nat), j + k = 16 → ∀ (L : Lk) (e0 e1 : Nat → Option Nat), RzI nf fl j L e0 e1 → ∀ (x8 x9 x10 x11 x12 x13 : Option Value),
    ∃ (L' : Lk) (e0' e1' : Nat → Option Nat), exG TB d 34 151 [some (.ref p), some (.ref t0), some (.int (nI 16)), some (.int (nI 12)), some (.int (nI 32)), some (.int (nI 24)), some (.ref t1), some (.int (nI j)), x8, x9, x10, x11, x12, x13] [] (rH A N t0 t1 L e0 e1) = some (.inl (some (.ref t1)), rH A N t0 t1 L' e0' e1') ∧ RzI nf fl 16 L' e0' e1'
  | 0, j, hk, L, e0, e1, iv, x8, x9, x10, x11, x12, x13 => by
    have : j = 16 := by omega
    subst this
    refine ⟨L, e0, e1, x_34_151.trans ?_, iv⟩
    simp (disch := first | omega | (simp (disch := omega) only [nx_setf, nx_seta, nx_newo, nx_newa]; omega)) only [x_34_0, x_34_1, x_34_4, x_34_5, x_34_6n, x_34_6r, x_34_9, x_34_10, x_34_13, x_34_14, x_34_15, x_34_16, x_34_17, x_34_20, x_34_21, x_34_22, x_34_24, x_34_25, x_34_28, x_34_29, x_34_31, x_34_34, x_34_35, x_34_37, x_34_40, x_34_41, x_34_42, x_34_43, x_34_44, x_34_45, x_34_46, x_34_48, x_34_50, x_34_53, x_34_54, x_34_56, x_34_59, x_34_60, x_34_61, x_34_62, x_34_64, x_34_67, x_34_68, x_34_71, x_34_72, x_34_74, x_34_77, x_34_79, x_34_81, x_34_83, x_34_85, x_34_87, x_34_90, x_34_92, x_34_93, x_34_94, x_34_98, x_34_100, x_34_102, x_34_104, x_34_107, x_34_109, x_34_111, x_34_112, x_34_115, x_34_118, x_34_121, x_34_123, x_34_125, x_34_126, x_34_128, x_34_131, x_34_133, x_34_136, x_34_138, x_34_139, x_34_141, x_34_144, x_34_145n, x_34_145r, x_34_148, x_34_149, x_34_153, x_34_154, x_34_157, x_34_158, x_34_160, x_34_161, x_34_162, x_34_164n, x_34_164r, x_34_167, x_34_168, x_34_170, x_34_171r, x_34_171n, x_34_172, x_34_174, x_34_177n, x_34_177r, x_34_180, x_34_182, x_34_184, x_34_187, x_34_189, x_34_190, x_34_191, x_34_192, x_34_194r, x_34_194n, x_34_195, x_34_198, x_34_200n, x_34_200o, x_34_203, x_34_206, x_34_211, x_34_212, x_34_214, x_34_216, x_34_220, x_34_223, x_34_224, x_34_226, x_34_227, x_34_229, x_34_230, x_34_232, x_34_233, x_34_237, x_34_240, x_34_242, x_34_244, x_34_247, x_34_248, x_34_249, x_34_252, x_34_254n, x_34_254r, x_34_257, x_34_259, x_34_261, x_34_264, x_34_266, x_34_268, x_34_271, x_34_273, x_34_275, x_34_278, x_34_280n, x_34_280r, x_34_283, x_34_285, x_34_287, x_34_290, x_34_292, x_34_294, x_34_297, x_34_299, x_34_301, x_34_303, x_34_304, x_34_306n, x_34_306r, x_34_309, x_34_311n, x_34_311r, x_34_314, x_34_316, x_34_317, x_34_320, x_34_322, x_34_324, x_34_326r, x_34_326n, x_34_327, x_34_329n, x_34_329r, x_34_332, x_34_334, x_34_335, x_34_338, x_34_340, x_34_342, x_34_343, x_34_344, x_34_346r, x_34_346n, x_34_347, x_34_350, x_34_353, x_34_355, kv_s, ki_s, kj_s, kd_s, kq_s, kq_n, kq_o, ka_s, kc_r, kc_t, kc0_r, kc0_t, kch_r, kc0h_r, kw_s, kw0_s, kwh_s, kw0h_s, rg_ref, rg_null, rg_rf, ck_t, sel_some, lkn_hd, Option.isSome_some, Bool.true_and, Bool.and_true, okv_i, okv_l, okv_r, okv_n, okv_rf, okv_b, okv_0, okv_1, okv_f, okv_d, c1_i, c1_r, c1_n, c1_rf, c1_f, nI_add, n_mul, n_sub, n_pred, n_eq, n_le, n_lt, n_neN, n_Nne, N_lt, N_le, n_ltN, n_leN, rdI_n, rdJ_n, rdD_n, wrI_n, wrI_z0, wrI_z1, wrI_zb, wrJ_n, wrD_n, aln_s, okn_n, upd_is, upd_ne, Nat.add_zero, Nat.add_sub_cancel, decide_true, decide_false, cond_true, cond_false, if_true, if_false, ite_not, not_true_eq_false, not_false_eq_true, Nat.reduceEqDiff, Nat.reduceAdd, Nat.reduceMul, Nat.reduceSub, Nat.reduceLeDiff, gf_setf_ne, gf_setf_p, gf_setf_is, va_rf_s, va_rf_n, gf_seta, ga_setf, gc_setf, gc_seta, ga_seta_ne, ga_seta_eq, gf_new, gc_new, gf_newo_o, gc_newo_o, ga_newo_o, ga_new, gf_newa_o, gc_newa_o, ga_newa_o, nx_setf, nx_seta, nx_newo, nx_newa, su_setf, su_seta, su_newo, su_newa, sg_setf, sg_seta, sg_newo, sg_newa, okq_n, yle (Nat.le_refl 16)]
  | k + 1, j, hk, L, e0, e1, iv, x8, x9, x10, x11, x12, x13 => by
    obtain ⟨L', e0', e1', y8, y9, y10, y11, y12, y13, e, iv'⟩ := m_34_it (d := d) (p := p) hnd ij l0 l1 hne (by omega : j < 16) iv x8 x9 x10 x11 x12 x13
    obtain ⟨L2, e02, e12, e2, iv2⟩ := m_34_lp hnd ij l0 l1 hne k (j + 1) (by omega) L' e0' e1' iv' y8 y9 y10 y11 y12 y13
    exact ⟨L2, e02, e12, e.trans e2, iv2⟩
end
section
variable {A : Hp} {w : Lb} {d p lb n : Nat} {tb : Option Nat} {nf : Nat → Option Nat} {fl : Nat → Bool} {kO vO : Nat → Nat} {vv : Nat → Int32}
/-- the first table -/
theorem m_34_0 (m : HMs A w p lb 0 tb nf fl kO vO vv n) : ∃ A', evG TB (d + 1) 34 [.ref p] A = some (.inl (some (.ref (nx A))), A') ∧ HMs A' (upL w (nx A) lb) p lb 16 (some (nx A)) nf fl kO vO vv n ∧ Fr A w A' (upL w (nx A) lb) (fun l => l = lb) 1 16 := by
  obtain ⟨c1, wp, tt, ⟨v, es, es2⟩, sz, ⟨z, md⟩, th, cp, nd, ij, cn, l0, le⟩ := m
  have n0 := le rfl
  have hp := gc_lt c1
  have hpn : p ≠ nx A := Nat.ne_of_lt hp
  have tb0 : tb = none := by
    rcases cp with cp | cp
    · exact cp.2
    · rcases cp.1 with h | h <;> exact absurd h (by decide)
  rw [tb0, va_rf_n] at tt
  have th' : gf A p 35 = some (.int (nI 0)) := th
  have hn : ∀ h, nf h = none := fun h => by
    cases e : nf h with
    | none => rfl
    | some q =>
      have h24 := (nd h q e).1
      rw [nC_0 (nf := nf) (k := 24) (by rw [← cn, n0]) h h24] at e
      cases e
  have f1 : Fr A w (setf A p 35 (.int (nI 12))) w (fun l => l = lb) 0 0 := Fr.stf wp
  have f2 : Fr (setf A p 35 (.int (nI 12))) w (newa (setf A p 35 (.int (nI 12))) (zar 9 16)) (upL w (nx A) lb) (fun l => l = lb) 1 16 := Fr.nwa
  have f3 : Fr (newa (setf A p 35 (.int (nI 12))) (zar 9 16)) (upL w (nx A) lb) (setf (newa (setf A p 35 (.int (nI 12))) (zar 9 16)) p 31 (.ref (nx A))) (upL w (nx A) lb) (fun l => l = lb) 0 0 := Fr.stf (by rw [upL_ne hpn]; exact wp)
  have f := ((f1.trans f2).trans f3).mono (fun _ h => h) (Nat.le_refl _) (Nat.le_refl _)
  refine ⟨_, ?_, ⟨f.cc c1, by rw [upL_ne hpn]; exact wp, ?_, ⟨v, ?_, fun y hy => ?_⟩, ?_, ⟨z, ?_⟩, ?_, Or.inr ⟨Or.inl rfl, nx A, fun _ => none, rfl, upL_is rfl, ?_, fun i hi => ?_⟩, fun h q hq => (by rw [hn h] at hq; cases hq), ij, cn, l0, fun e => absurd e (by decide)⟩, f⟩
  · simp (disch := first | omega | (simp (disch := omega) only [nx_setf, nx_seta, nx_newo, nx_newa]; omega)) only [e_34, x_34_0, x_34_1, x_34_4, x_34_5, x_34_6n, x_34_6r, x_34_9, x_34_10, x_34_13, x_34_14, x_34_15, x_34_16, x_34_17, x_34_20, x_34_21, x_34_22, x_34_24, x_34_25, x_34_28, x_34_29, x_34_31, x_34_34, x_34_35, x_34_37, x_34_40, x_34_41, x_34_42, x_34_43, x_34_44, x_34_45, x_34_46, x_34_48, x_34_50, x_34_53, x_34_54, x_34_56, x_34_59, x_34_60, x_34_61, x_34_62, x_34_64, x_34_67, x_34_68, x_34_71, x_34_72, x_34_74, x_34_77, x_34_79, x_34_81, x_34_83, x_34_85, x_34_87, x_34_90, x_34_92, x_34_93, x_34_94, x_34_98, x_34_100, x_34_102, x_34_104, x_34_107, x_34_109, x_34_111, x_34_112, x_34_115, x_34_118, x_34_121, x_34_123, x_34_125, x_34_126, x_34_128, x_34_131, x_34_133, x_34_136, x_34_138, x_34_139, x_34_141, x_34_144, x_34_145n, x_34_145r, x_34_148, x_34_149, x_34_151, x_34_153, x_34_154, x_34_157, x_34_158, x_34_160, x_34_161, x_34_162, x_34_164n, x_34_164r, x_34_167, x_34_168, x_34_170, x_34_171r, x_34_171n, x_34_172, x_34_174, x_34_177n, x_34_177r, x_34_180, x_34_182, x_34_184, x_34_187, x_34_189, x_34_190, x_34_191, x_34_192, x_34_194r, x_34_194n, x_34_195, x_34_198, x_34_200n, x_34_200o, x_34_203, x_34_206, x_34_211, x_34_212, x_34_214, x_34_216, x_34_220, x_34_223, x_34_224, x_34_226, x_34_227, x_34_229, x_34_230, x_34_232, x_34_233, x_34_235, x_34_237, x_34_240, x_34_242, x_34_244, x_34_247, x_34_248, x_34_249, x_34_252, x_34_254n, x_34_254r, x_34_257, x_34_259, x_34_261, x_34_264, x_34_266, x_34_268, x_34_271, x_34_273, x_34_275, x_34_278, x_34_280n, x_34_280r, x_34_283, x_34_285, x_34_287, x_34_290, x_34_292, x_34_294, x_34_297, x_34_299, x_34_301, x_34_303, x_34_304, x_34_306n, x_34_306r, x_34_309, x_34_311n, x_34_311r, x_34_314, x_34_316, x_34_317, x_34_320, x_34_322, x_34_324, x_34_326r, x_34_326n, x_34_327, x_34_329n, x_34_329r, x_34_332, x_34_334, x_34_335, x_34_338, x_34_340, x_34_342, x_34_343, x_34_344, x_34_346r, x_34_346n, x_34_347, x_34_350, x_34_353, x_34_355, kv_s, ki_s, kj_s, kd_s, kq_s, kq_n, kq_o, ka_s, kc_r, kc_t, kc0_r, kc0_t, kch_r, kc0h_r, kw_s, kw0_s, kwh_s, kw0h_s, rg_ref, rg_null, rg_rf, ck_t, sel_some, lkn_hd, Option.isSome_some, Bool.true_and, Bool.and_true, okv_i, okv_l, okv_r, okv_n, okv_rf, okv_b, okv_0, okv_1, okv_f, okv_d, c1_i, c1_r, c1_n, c1_rf, c1_f, nI_add, n_mul, n_sub, n_pred, n_eq, n_le, n_lt, n_neN, n_Nne, N_lt, N_le, n_ltN, n_leN, rdI_n, rdJ_n, rdD_n, wrI_n, wrI_z0, wrI_z1, wrI_zb, wrJ_n, wrD_n, aln_s, okn_n, upd_is, upd_ne, Nat.add_zero, Nat.add_sub_cancel, decide_true, decide_false, cond_true, cond_false, if_true, if_false, ite_not, not_true_eq_false, not_false_eq_true, Nat.reduceEqDiff, Nat.reduceAdd, Nat.reduceMul, Nat.reduceSub, Nat.reduceLeDiff, gf_setf_ne, gf_setf_p, gf_setf_is, va_rf_s, va_rf_n, gf_seta, ga_setf, gc_setf, gc_seta, ga_seta_ne, ga_seta_eq, gf_new, gc_new, gf_newo_o, gc_newo_o, ga_newo_o, ga_new, gf_newa_o, gc_newa_o, ga_newa_o, nx_setf, nx_seta, nx_newo, nx_newa, su_setf, su_seta, su_newo, su_newa, sg_setf, sg_seta, sg_newo, sg_newa, okq_n, tt, th', yle (Nat.le_refl 0), n_cl]
  · simp (disch := first | omega | (simp (disch := omega) only [nx_setf, nx_seta, nx_newo, nx_newa]; omega)) only [gf_setf_ne, gf_setf_p, gf_setf_is, va_rf_s, va_rf_n, gf_seta, ga_setf, gc_setf, gc_seta, ga_seta_ne, ga_seta_eq, gf_new, gc_new, gf_newo_o, gc_newo_o, ga_newo_o, ga_new, gf_newa_o, gc_newa_o, ga_newa_o, nx_setf, nx_seta, nx_newo, nx_newa, su_setf, su_seta, su_newo, su_newa, sg_setf, sg_seta, sg_newo, sg_newa, okq_n]
  · simp (disch := first | omega | (simp (disch := omega) only [nx_setf, nx_seta, nx_newo, nx_newa]; omega)) only [gf_setf_ne, gf_setf_p, gf_setf_is, va_rf_s, va_rf_n, gf_seta, ga_setf, gc_setf, gc_seta, ga_seta_ne, ga_seta_eq, gf_new, gc_new, gf_newo_o, gc_newo_o, ga_newo_o, ga_new, gf_newa_o, gc_newa_o, ga_newa_o, nx_setf, nx_seta, nx_newo, nx_newa, su_setf, su_seta, su_newo, su_newa, sg_setf, sg_seta, sg_newo, sg_newa, okq_n, es]
  · obtain ⟨g1, g2, g3⟩ := es2 y hy
    have ly := gc_lt g2
    exact ⟨by rw [upL_ne (Nat.ne_of_lt ly)]; exact g1, f.cc g2, by simp (disch := first | omega | (simp (disch := omega) only [nx_setf, nx_seta, nx_newo, nx_newa]; omega)) only [gf_setf_ne, gf_setf_p, gf_setf_is, va_rf_s, va_rf_n, gf_seta, ga_setf, gc_setf, gc_seta, ga_seta_ne, ga_seta_eq, gf_new, gc_new, gf_newo_o, gc_newo_o, ga_newo_o, ga_new, gf_newa_o, gc_newa_o, ga_newa_o, nx_setf, nx_seta, nx_newo, nx_newa, su_setf, su_seta, su_newo, su_newa, sg_setf, sg_seta, sg_newo, sg_newa, okq_n, g3]⟩
  · simp (disch := first | omega | (simp (disch := omega) only [nx_setf, nx_seta, nx_newo, nx_newa]; omega)) only [gf_setf_ne, gf_setf_p, gf_setf_is, va_rf_s, va_rf_n, gf_seta, ga_setf, gc_setf, gc_seta, ga_seta_ne, ga_seta_eq, gf_new, gc_new, gf_newo_o, gc_newo_o, ga_newo_o, ga_new, gf_newa_o, gc_newa_o, ga_newa_o, nx_setf, nx_seta, nx_newo, nx_newa, su_setf, su_seta, su_newo, su_newa, sg_setf, sg_seta, sg_newo, sg_newa, okq_n, sz]
  · simp (disch := first | omega | (simp (disch := omega) only [nx_setf, nx_seta, nx_newo, nx_newa]; omega)) only [gf_setf_ne, gf_setf_p, gf_setf_is, va_rf_s, va_rf_n, gf_seta, ga_setf, gc_setf, gc_seta, ga_seta_ne, ga_seta_eq, gf_new, gc_new, gf_newo_o, gc_newo_o, ga_newo_o, ga_new, gf_newa_o, gc_newa_o, ga_newa_o, nx_setf, nx_seta, nx_newo, nx_newa, su_setf, su_seta, su_newo, su_newa, sg_setf, sg_seta, sg_newo, sg_newa, okq_n, md]
  · simp (disch := first | omega | (simp (disch := omega) only [nx_setf, nx_seta, nx_newo, nx_newa]; omega)) only [gf_setf_ne, gf_setf_p, gf_setf_is, va_rf_s, va_rf_n, gf_seta, ga_setf, gc_setf, gc_seta, ga_seta_ne, ga_seta_eq, gf_new, gc_new, gf_newo_o, gc_newo_o, ga_newo_o, ga_new, gf_newa_o, gc_newa_o, ga_newa_o, nx_setf, nx_seta, nx_newo, nx_newa, su_setf, su_seta, su_newo, su_newa, sg_setf, sg_seta, sg_newo, sg_newa, okq_n]
  · rw [ga_setf]; exact ga_new rfl
  · unfold hdF
    rw [if_neg (by decide), hn i, hn (i + 16)]
    split
    · split <;> rfl
    · rfl
/-- the table of 16 doubled -/
theorem m_34_16 (m : HMs A w p lb 16 tb nf fl kO vO vv n) : ∃ A', evG TB (d + 1) 34 [.ref p] A = some (.inl (some (.ref (nx A))), A') ∧ HMs A' (upL w (nx A) lb) p lb 32 (some (nx A)) nf fl kO vO vv n ∧ Fr A w A' (upL w (nx A) lb) (fun l => l = lb) 1 32 := by
  obtain ⟨c1, wp, tt, ⟨v, es, es2⟩, sz, ⟨z, md⟩, th, cp, nd, ij, cn, l0, le⟩ := m
  have hp := gc_lt c1
  have hpn : p ≠ nx A := Nat.ne_of_lt hp
  obtain ⟨t, e, t1, t2, t3, t4⟩ : ∃ t e, tb = some t ∧ w t = lb ∧ ga A t = some (tbA e 16) ∧ ∀ i, i < 16 → e i = hdF nf fl 16 i := by
    rcases cp with cp | cp
    · exact absurd cp.1 (by decide)
    · exact cp.2
  rw [t1, va_rf_s] at tt
  have th' : gf A p 35 = some (.int (nI 12)) := th
  have ht := ga_lt t3
  have htn : nx A ≠ t := Nat.ne_of_gt ht
  have f1 : Fr A w (setf A p 35 (.int (nI 24))) w (fun l => l = lb) 0 0 := Fr.stf wp
  have f2 : Fr (setf A p 35 (.int (nI 24))) w (newa (setf A p 35 (.int (nI 24))) (zar 9 32)) (upL w (nx A) lb) (fun l => l = lb) 1 32 := Fr.nwa
  have f3 : Fr (newa (setf A p 35 (.int (nI 24))) (zar 9 32)) (upL w (nx A) lb) (setf (newa (setf A p 35 (.int (nI 24))) (zar 9 32)) p 31 (.ref (nx A))) (upL w (nx A) lb) (fun l => l = lb) 0 0 := Fr.stf (by rw [upL_ne hpn]; exact wp)
  have f := ((f1.trans f2).trans f3).mono (fun _ h => h) (Nat.le_refl _) (Nat.le_refl _)
  generalize hA3 : setf (newa (setf A p 35 (.int (nI 24))) (zar 9 32)) p 31 (.ref (nx A)) = A3 at f
  have k31 : gf A3 p 31 = some (.ref (nx A)) := by rw [← hA3]; simp (disch := first | omega | (simp (disch := omega) only [nx_setf, nx_seta, nx_newo, nx_newa]; omega)) only [gf_setf_ne, gf_setf_p, gf_setf_is, va_rf_s, va_rf_n, gf_seta, ga_setf, gc_setf, gc_seta, ga_seta_ne, ga_seta_eq, gf_new, gc_new, gf_newo_o, gc_newo_o, ga_newo_o, ga_new, gf_newa_o, gc_newa_o, ga_newa_o, nx_setf, nx_seta, nx_newo, nx_newa, su_setf, su_seta, su_newo, su_newa, sg_setf, sg_seta, sg_newo, sg_newa, okq_n]
  have k32 : gf A3 p 32 = some (va_rf v) := by rw [← hA3]; simp (disch := first | omega | (simp (disch := omega) only [nx_setf, nx_seta, nx_newo, nx_newa]; omega)) only [gf_setf_ne, gf_setf_p, gf_setf_is, va_rf_s, va_rf_n, gf_seta, ga_setf, gc_setf, gc_seta, ga_seta_ne, ga_seta_eq, gf_new, gc_new, gf_newo_o, gc_newo_o, ga_newo_o, ga_new, gf_newa_o, gc_newa_o, ga_newa_o, nx_setf, nx_seta, nx_newo, nx_newa, su_setf, su_seta, su_newo, su_newa, sg_setf, sg_seta, sg_newo, sg_newa, okq_n, es]
  have k33 : gf A3 p 33 = some (.int (nI n)) := by rw [← hA3]; simp (disch := first | omega | (simp (disch := omega) only [nx_setf, nx_seta, nx_newo, nx_newa]; omega)) only [gf_setf_ne, gf_setf_p, gf_setf_is, va_rf_s, va_rf_n, gf_seta, ga_setf, gc_setf, gc_seta, ga_seta_ne, ga_seta_eq, gf_new, gc_new, gf_newo_o, gc_newo_o, ga_newo_o, ga_new, gf_newa_o, gc_newa_o, ga_newa_o, nx_setf, nx_seta, nx_newo, nx_newa, su_setf, su_seta, su_newo, su_newa, sg_setf, sg_seta, sg_newo, sg_newa, okq_n, sz]
  have k34 : gf A3 p 34 = some (.int z) := by rw [← hA3]; simp (disch := first | omega | (simp (disch := omega) only [nx_setf, nx_seta, nx_newo, nx_newa]; omega)) only [gf_setf_ne, gf_setf_p, gf_setf_is, va_rf_s, va_rf_n, gf_seta, ga_setf, gc_setf, gc_seta, ga_seta_ne, ga_seta_eq, gf_new, gc_new, gf_newo_o, gc_newo_o, ga_newo_o, ga_new, gf_newa_o, gc_newa_o, ga_newa_o, nx_setf, nx_seta, nx_newo, nx_newa, su_setf, su_seta, su_newo, su_newa, sg_setf, sg_seta, sg_newo, sg_newa, okq_n, md]
  have k35 : gf A3 p 35 = some (.int (nI 24)) := by rw [← hA3]; simp (disch := first | omega | (simp (disch := omega) only [nx_setf, nx_seta, nx_newo, nx_newa]; omega)) only [gf_setf_ne, gf_setf_p, gf_setf_is, va_rf_s, va_rf_n, gf_seta, ga_setf, gc_setf, gc_seta, ga_seta_ne, ga_seta_eq, gf_new, gc_new, gf_newo_o, gc_newo_o, ga_newo_o, ga_new, gf_newa_o, gc_newa_o, ga_newa_o, nx_setf, nx_seta, nx_newo, nx_newa, su_setf, su_seta, su_newo, su_newa, sg_setf, sg_seta, sg_newo, sg_newa, okq_n]
  have kt : ga A3 t = some (tbA e 16) := by rw [← hA3]; simp (disch := first | omega | (simp (disch := omega) only [nx_setf, nx_seta, nx_newo, nx_newa]; omega)) only [gf_setf_ne, gf_setf_p, gf_setf_is, va_rf_s, va_rf_n, gf_seta, ga_setf, gc_setf, gc_seta, ga_seta_ne, ga_seta_eq, gf_new, gc_new, gf_newo_o, gc_newo_o, ga_newo_o, ga_new, gf_newa_o, gc_newa_o, ga_newa_o, nx_setf, nx_seta, nx_newo, nx_newa, su_setf, su_seta, su_newo, su_newa, sg_setf, sg_seta, sg_newo, sg_newa, okq_n, t3]
  have kn : ga A3 (nx A) = some (tbA (fun _ => none) 32) := by rw [← hA3, ga_setf]; exact ga_new rfl
  let N : Nat → Bool := fun q => (List.range 24).any (fun h => decide (nf h = some q))
  have hN : ∀ q, N q = true ↔ ∃ h, nf h = some q := fun q => by
    show (List.range 24).any _ = true ↔ _
    rw [List.any_eq_true]
    constructor
    · rintro ⟨h, h1, h2⟩
      exact ⟨h, of_decide_eq_true h2⟩
    · rintro ⟨h, h1⟩
      exact ⟨h, List.mem_range.mpr (nd h q h1).1, decide_eq_true h1⟩
  let L : Lk := fun q => match gf A q 146 with
    | some (.ref x) => some x
    | _ => none
  have hL : ∀ q o, gf A q 146 = some (va_rf o) → L q = o := fun q o h => by
    show (match gf A q 146 with
      | some (.ref x) => some x
      | _ => none) = o
    rw [h]
    cases o <;> rfl
  have hnp : ∀ h q, nf h = some q → q ≠ p := fun h q hq e => by
    have := (nd h q hq).2.2.1
    rw [e, c1] at this
    cases this
  have nd3 : ∀ h q f x, nf h = some q → gf A q f = some x → gf A3 q f = some x := fun h q f x hq hx => by
    have hq1 := (gf_spec hx).1
    have hq2 := hnp h q hq
    rw [← hA3]
    simp (disch := first | omega | (simp (disch := omega) only [nx_setf, nx_seta, nx_newo, nx_newa]; omega)) only [gf_setf_ne, gf_setf_p, gf_setf_is, va_rf_s, va_rf_n, gf_seta, ga_setf, gc_setf, gc_seta, ga_seta_ne, ga_seta_eq, gf_new, gc_new, gf_newo_o, gc_newo_o, ga_newo_o, ga_new, gf_newa_o, gc_newa_o, ga_newa_o, nx_setf, nx_seta, nx_newo, nx_newa, su_setf, su_seta, su_newo, su_newa, sg_setf, sg_seta, sg_newo, sg_newa, okq_n, hx]
  have a3 : ∀ h q, nf h = some q → gf A3 q 146 = some (va_rf (L q)) := fun h q hq => by
    have := (nd h q hq).2.2.2.2.2.2.2.2.2.2
    rw [hL q _ this]
    exact nd3 h q _ _ hq this
  have eA : A3 = rH A3 N t (nx A) L e (fun _ => none) := rH_eq (ga_spec kt).2 (ga_spec kn).2 (fun q hq => by
    obtain ⟨h, hq'⟩ := (hN q).mp hq
    exact (gf_spec (a3 h q hq')).2)
  have nd' : ∀ h q, nf h = some q → h < 24 ∧ N q = true ∧ q < nx A3 ∧ gc A3 q = some 28 ∧ gf A3 q 143 = some (.int (nI h)) := fun h q hq => by
    obtain ⟨n0, n1, n2, n3, n4⟩ := nd h q hq
    exact ⟨n0, (hN q).mpr ⟨h, hq⟩, gc_lt (f.cc n2), f.cc n2, nd3 h q _ _ hq n3⟩
  have lt : t < nx A3 := ga_lt kt
  have ln : nx A < nx A3 := ga_lt kn
  obtain ⟨L', e0', e1', q34, iv⟩ := m_34_lp (A := A3) (N := N) (p := p) (d := d) (fl := fl) nd' ij lt ln htn 16 0 rfl L e (fun _ => none) ⟨fun h q hq => by
      rw [if_neg (by omega)]
      exact hL q _ (nd h q hq).2.2.2.2.2.2.2.2.2.2, fun i hi => by rw [if_neg (by omega)]; exact t4 i hi, fun i hi => by rw [if_neg (by omega)]⟩ none none none none none none
  rw [← eA] at q34
  obtain ⟨il, ia, ib⟩ := iv
  have fr := f.trans (rH_fr (A3 := A3) (N := N) (t0 := t) (t1 := nx A) (L' := L') (e0' := e0') (e1' := e1') (w := upL w (nx A) lb) (X := fun l => l = lb) (by rw [upL_ne (Nat.ne_of_lt ht)]; exact t2) (upL_is rfl) (fun q hq => by
    obtain ⟨h, hq'⟩ := (hN q).mp hq
    have := nd h q hq'
    rw [upL_ne (Nat.ne_of_lt (gc_lt this.2.2.1))]
    exact this.2.1))
  have ro : ∀ (g x : Nat), g ≠ 146 → gf (rH A3 N t (nx A) L' e0' e1') x g = gf A3 x g := fun g x h => rH_o h
  refine ⟨rH A3 N t (nx A) L' e0' e1', ?_, ⟨fr.cc c1, by rw [upL_ne hpn]; exact wp, (ro _ _ (by decide)).trans k31, ⟨v, (ro _ _ (by decide)).trans k32, fun y hy => ?_⟩, (ro _ _ (by decide)).trans k33, ⟨z, (ro _ _ (by decide)).trans k34⟩, (ro _ _ (by decide)).trans k35, Or.inr ⟨Or.inr rfl, nx A, e1', rfl, upL_is rfl, rH_t1 ln htn, fun i hi => ?_⟩, fun h q hq => ?_, ij, cn, l0, fun e => absurd e (by decide)⟩, fr.mono (fun _ h => h) (Nat.le_refl _) (Nat.le_refl _)⟩
  · have sh : nI 12 <<< (nI 1 &&& 31) = nI 24 := by decide
    have sh2 : nI 16 <<< (nI 1 &&& 31) = nI 32 := by decide
    simp (disch := first | omega | (simp (disch := omega) only [nx_setf, nx_seta, nx_newo, nx_newa]; omega)) only [e_34, x_34_0, x_34_1, x_34_4, x_34_5, x_34_6n, x_34_6r, x_34_9, x_34_10, x_34_13, x_34_14, x_34_15, x_34_16, x_34_17, x_34_20, x_34_21, x_34_22, x_34_24, x_34_25, x_34_28, x_34_29, x_34_31, x_34_34, x_34_35, x_34_37, x_34_40, x_34_41, x_34_42, x_34_43, x_34_44, x_34_45, x_34_46, x_34_48, x_34_50, x_34_53, x_34_54, x_34_56, x_34_59, x_34_60, x_34_61, x_34_62, x_34_64, x_34_67, x_34_68, x_34_71, x_34_72, x_34_74, x_34_77, x_34_79, x_34_81, x_34_83, x_34_85, x_34_87, x_34_90, x_34_92, x_34_93, x_34_94, x_34_98, x_34_100, x_34_102, x_34_104, x_34_107, x_34_109, x_34_111, x_34_112, x_34_115, x_34_118, x_34_121, x_34_123, x_34_125, x_34_126, x_34_128, x_34_131, x_34_133, x_34_136, x_34_138, x_34_139, x_34_141, x_34_144, x_34_145n, x_34_145r, x_34_148, x_34_149, kv_s, ki_s, kj_s, kd_s, kq_s, kq_n, kq_o, ka_s, kc_r, kc_t, kc0_r, kc0_t, kch_r, kc0h_r, kw_s, kw0_s, kwh_s, kw0h_s, rg_ref, rg_null, rg_rf, ck_t, sel_some, lkn_hd, Option.isSome_some, Bool.true_and, Bool.and_true, okv_i, okv_l, okv_r, okv_n, okv_rf, okv_b, okv_0, okv_1, okv_f, okv_d, c1_i, c1_r, c1_n, c1_rf, c1_f, nI_add, n_mul, n_sub, n_pred, n_eq, n_le, n_lt, n_neN, n_Nne, N_lt, N_le, n_ltN, n_leN, rdI_n, rdJ_n, rdD_n, wrI_n, wrI_z0, wrI_z1, wrI_zb, wrJ_n, wrD_n, aln_s, okn_n, upd_is, upd_ne, Nat.add_zero, Nat.add_sub_cancel, decide_true, decide_false, cond_true, cond_false, if_true, if_false, ite_not, not_true_eq_false, not_false_eq_true, Nat.reduceEqDiff, Nat.reduceAdd, Nat.reduceMul, Nat.reduceSub, Nat.reduceLeDiff, gf_setf_ne, gf_setf_p, gf_setf_is, va_rf_s, va_rf_n, gf_seta, ga_setf, gc_setf, gc_seta, ga_seta_ne, ga_seta_eq, gf_new, gc_new, gf_newo_o, gc_newo_o, ga_newo_o, ga_new, gf_newa_o, gc_newa_o, ga_newa_o, nx_setf, nx_seta, nx_newo, nx_newa, su_setf, su_seta, su_newo, su_newa, sg_setf, sg_seta, sg_newo, sg_newa, okq_n, tt, th', t3, sh, sh2, n_cl, hA3, q34, ylt (show 16 < 1073741824 by omega), nlt (Nat.le_refl 16)]
  · obtain ⟨g1, g2, g3⟩ := es2 y hy
    have ly := gc_lt g2
    refine ⟨by rw [upL_ne (Nat.ne_of_lt ly)]; exact g1, fr.cc g2, (ro _ _ (by decide)).trans ?_⟩
    rw [← hA3]
    simp (disch := first | omega | (simp (disch := omega) only [nx_setf, nx_seta, nx_newo, nx_newa]; omega)) only [gf_setf_ne, gf_setf_p, gf_setf_is, va_rf_s, va_rf_n, gf_seta, ga_setf, gc_setf, gc_seta, ga_seta_ne, ga_seta_eq, gf_new, gc_new, gf_newo_o, gc_newo_o, ga_newo_o, ga_new, gf_newa_o, gc_newa_o, ga_newa_o, nx_setf, nx_seta, nx_newo, nx_newa, su_setf, su_seta, su_newo, su_newa, sg_setf, sg_seta, sg_newo, sg_newa, okq_n, g3]
  · rw [ib i hi, if_pos (by omega)]
    unfold hdF
    rw [if_pos rfl]
  · obtain ⟨n0, n1, n2, n3, n4, n5, n6, n7, n8, n9, n10⟩ := nd h q hq
    have hq' := gc_lt n2
    have hk := gc_lt n5.c
    have l0' : ¬ (w (kO h) = lb) := fun e => l0 (e.symm.trans n6)
    have l0'' : ¬ (w (vO h) = lb) := fun e => l0 (e.symm.trans n9)
    refine ⟨n0, by rw [upL_ne (Nat.ne_of_lt hq')]; exact n1, fr.cc n2, (ro _ _ (by decide)).trans (nd3 h q _ _ hq n3), (ro _ _ (by decide)).trans (nd3 h q _ _ hq n4), n5.fr fr l0', by rw [upL_ne (Nat.ne_of_lt hk)]; exact n6, (ro _ _ (by decide)).trans (nd3 h q _ _ hq n7), n8.fr fr l0'', (by rw [fr.lb l0'' n8.k1.1]; exact n9), ?_⟩
    have hr : gf (rH A3 N t (nx A) L' e0' e1') q 146 = some (va_rf (L' q)) := rH_146 (nd' h q hq).2.1 (nd' h q hq).2.2.1
    rw [hr, il h q hq, if_pos (by omega)]
    unfold nxF
    rw [if_pos rfl]
end
