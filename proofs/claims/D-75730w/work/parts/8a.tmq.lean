/-! TreeMap: put -/
abbrev TMs (A : Hp) (w : Lb) (m lb : Nat) (l : List Nat) (ky kA vl : Nat → Nat) (mc : Nat) (vv : Value) : Prop := (gc A m = some 20) ∧ (gf A m 102 = some .null) ∧ (gf A m 104 = some (.int (nI l.length))) ∧ (gf A m 105 = some (.int (nI mc))) ∧ (gf A m 30 = some vv) ∧ (w m = lb) ∧ (∃ (L R P : Lk) (C : Nat → Int32) (rt : Option Nat), gf A m 103 = some (va_rf rt) ∧ TrF L R P rt l ∧ (∀ x, x ∈ l → gf A x 112 = some (va_rf (L x)) ∧ gf A x 113 = some (va_rf (R x)) ∧ gf A x 114 = some (va_rf (P x)) ∧ gf A x 115 = some (.int (C x))) ∧ (∀ y, C y = nI 0 ∨ C y = nI 1) ∧ (∀ r, rt = some r → C r = nI 1)) ∧ (∀ x, x ∈ l → w x = lb ∧ gc A x = some 22 ∧ gf A x 110 = some (.ref (kA x)) ∧ InS A (kA x) (nI (ky x)) ∧ w (kA x) = 0 ∧ ky x < 2147483648 ∧ gf A x 111 = some (.ref (vl x)) ∧ ∃ ci, Kd A (vl x) ci) ∧ (l.Pairwise (fun x y => ky x < ky y)) ∧ (lb ≠ 0) ∧ (l.length ≤ 1000 ∧ mc ≤ 1000)
theorem TMs.c {A : Hp} {w : Lb} {m lb : Nat} {l : List Nat} {ky kA vl : Nat → Nat} {mc : Nat} {vv : Value} (h : TMs A w m lb l ky kA vl mc vv) : gc A m = some 20 := h.1
theorem TMs.cm {A : Hp} {w : Lb} {m lb : Nat} {l : List Nat} {ky kA vl : Nat → Nat} {mc : Nat} {vv : Value} (h : TMs A w m lb l ky kA vl mc vv) : gf A m 102 = some .null := h.2.1
theorem TMs.sz {A : Hp} {w : Lb} {m lb : Nat} {l : List Nat} {ky kA vl : Nat → Nat} {mc : Nat} {vv : Value} (h : TMs A w m lb l ky kA vl mc vv) : gf A m 104 = some (.int (nI l.length)) := h.2.2.1
theorem TMs.md {A : Hp} {w : Lb} {m lb : Nat} {l : List Nat} {ky kA vl : Nat → Nat} {mc : Nat} {vv : Value} (h : TMs A w m lb l ky kA vl mc vv) : gf A m 105 = some (.int (nI mc)) := h.2.2.2.1
theorem TMs.vs {A : Hp} {w : Lb} {m lb : Nat} {l : List Nat} {ky kA vl : Nat → Nat} {mc : Nat} {vv : Value} (h : TMs A w m lb l ky kA vl mc vv) : gf A m 30 = some vv := h.2.2.2.2.1
theorem TMs.wm {A : Hp} {w : Lb} {m lb : Nat} {l : List Nat} {ky kA vl : Nat → Nat} {mc : Nat} {vv : Value} (h : TMs A w m lb l ky kA vl mc vv) : w m = lb := h.2.2.2.2.2.1
theorem TMs.tr {A : Hp} {w : Lb} {m lb : Nat} {l : List Nat} {ky kA vl : Nat → Nat} {mc : Nat} {vv : Value} (h : TMs A w m lb l ky kA vl mc vv) : ∃ (L R P : Lk) (C : Nat → Int32) (rt : Option Nat), gf A m 103 = some (va_rf rt) ∧ TrF L R P rt l ∧ (∀ x, x ∈ l → gf A x 112 = some (va_rf (L x)) ∧ gf A x 113 = some (va_rf (R x)) ∧ gf A x 114 = some (va_rf (P x)) ∧ gf A x 115 = some (.int (C x))) ∧ (∀ y, C y = nI 0 ∨ C y = nI 1) ∧ (∀ r, rt = some r → C r = nI 1) := h.2.2.2.2.2.2.1
theorem TMs.nd {A : Hp} {w : Lb} {m lb : Nat} {l : List Nat} {ky kA vl : Nat → Nat} {mc : Nat} {vv : Value} (h : TMs A w m lb l ky kA vl mc vv) : ∀ x, x ∈ l → w x = lb ∧ gc A x = some 22 ∧ gf A x 110 = some (.ref (kA x)) ∧ InS A (kA x) (nI (ky x)) ∧ w (kA x) = 0 ∧ ky x < 2147483648 ∧ gf A x 111 = some (.ref (vl x)) ∧ ∃ ci, Kd A (vl x) ci := h.2.2.2.2.2.2.2.1
theorem TMs.so {A : Hp} {w : Lb} {m lb : Nat} {l : List Nat} {ky kA vl : Nat → Nat} {mc : Nat} {vv : Value} (h : TMs A w m lb l ky kA vl mc vv) : l.Pairwise (fun x y => ky x < ky y) := h.2.2.2.2.2.2.2.2.1
theorem TMs.l0 {A : Hp} {w : Lb} {m lb : Nat} {l : List Nat} {ky kA vl : Nat → Nat} {mc : Nat} {vv : Value} (h : TMs A w m lb l ky kA vl mc vv) : lb ≠ 0 := h.2.2.2.2.2.2.2.2.2.1
theorem TMs.ln {A : Hp} {w : Lb} {m lb : Nat} {l : List Nat} {ky kA vl : Nat → Nat} {mc : Nat} {vv : Value} (h : TMs A w m lb l ky kA vl mc vv) : l.length ≤ 1000 ∧ mc ≤ 1000 := h.2.2.2.2.2.2.2.2.2.2
theorem dv22_112 : dv22 112 = some .null := rfl
theorem dv22_113 : dv22 113 = some .null := rfl
theorem dv22_114 : dv22 114 = some .null := rfl
theorem dv22_110 : dv22 110 = some .null := rfl
theorem dv22_111 : dv22 111 = some .null := rfl
theorem dv22_115 : dv22 115 = some (.int (nI 0)) := rfl
section
variable {A B : Hp} {w w' : Lb} {X : Nat → Prop} {N : Nat → Bool} {m c s : Nat} {L R P : Lk} {C : Nat → Int32} {rt : Option Nat}
theorem tH_self (h : ∀ q, N q = true → gf B q 112 = some (va_rf (L q)) ∧ gf B q 113 = some (va_rf (R q)) ∧ gf B q 114 = some (va_rf (P q)) ∧ gf B q 115 = some (.int (C q))) (h2 : gf B m 103 = some (va_rf rt)) : tH B N m L R P C rt = B := by
  unfold tH
  refine Prod.ext ?_ rfl
  funext f q
  dsimp only
  by_cases hN : N q = true
  · rw [if_pos hN]
    obtain ⟨a1, a2, a3, a4⟩ := h q hN
    by_cases e1 : f = 112
    · rw [if_pos e1, e1]; exact ((gf_spec a1).2).symm
    · rw [if_neg e1]
      by_cases e2 : f = 113
      · rw [if_pos e2, e2]; exact ((gf_spec a2).2).symm
      · rw [if_neg e2]
        by_cases e3 : f = 114
        · rw [if_pos e3, e3]; exact ((gf_spec a3).2).symm
        · rw [if_neg e3]
          by_cases e4 : f = 115
          · rw [if_pos e4, e4]; exact ((gf_spec a4).2).symm
          · rw [if_neg e4]
  · rw [if_neg hN]
    by_cases e : q = m ∧ f = 103
    · rw [if_pos e, e.1, e.2]; exact ((gf_spec h2).2).symm
    · rw [if_neg e]
theorem Fr.tH (h : Fr A w B w' X c s) (hN : ∀ q, q < nx A → N q = true → X (w q)) (hm : X (w m)) : Fr A w (tH B N m L R P C rt) w' X c s := by
  obtain ⟨a1, a2, a3, a4, a5, a6, a7⟩ := h
  refine ⟨a1, a2, a3, a4, a5, a6, fun q hq hx => ?_⟩
  obtain ⟨b1, b2, b3⟩ := a7 q hq hx
  refine ⟨b1, fun f => ?_, b3⟩
  refine Eq.trans ?_ (b2 f)
  show (if N q = true then _ else if q = m ∧ f = 103 then some (va_rf rt) else B.1 f q) = B.1 f q
  rw [if_neg (fun e => hx (hN q hq e)), if_neg (fun e : q = m ∧ f = 103 => hx (e.1 ▸ hm))]
end
section
variable {A : Hp} {w : Lb} {m lb d k kO v ci : Nat} {l : List Nat} {ky kA vl : Nat → Nat} {mc : Nat} {vv : Value}
/-- what a map with an entry more is -/
def PutOK (A : Hp) (w : Lb) (m lb k kO v : Nat) (l : List Nat) (ky kA vl : Nat → Nat) (mc : Nat) (vv : Value) (A' : Hp) : Prop := ∃ a b, l = a ++ b ∧ (∀ x, x ∈ a → ky x < k) ∧ (∀ x, x ∈ b → k < ky x) ∧ TMs A' (upL w (nx A) lb) m lb (a ++ nx A :: b) (updN ky (nx A) k) (updN kA (nx A) kO) (updN vl (nx A) v) (mc + 1) vv ∧ Fr A w A' (upL w (nx A) lb) (fun x => x = lb) 1 6
/-- the node that is made -/
def ndH (A : Hp) (kO v : Nat) (par : Value) : Hp := setf (setf (setf (setf (newo A 22 6 dv22) (nx A) 115 (.int (nI 1))) (nx A) 110 (.ref kO)) (nx A) 111 (.ref v)) (nx A) 114 par
theorem ndH_fr {par : Value} {X : Nat → Prop} : Fr A w (ndH A kO v par) (upL w (nx A) lb) X 1 6 := (((Fr.nwo.stn (Nat.le_refl _)).stn (Nat.le_refl _)).stn (Nat.le_refl _)).stn (Nat.le_refl _)
theorem m_55_0 (h : TMs A w m lb [] ky kA vl mc vv) (hk : InS A kO (nI k)) (hk0 : w kO = 0) (hk2 : k < 2147483648) (hv : Kd A v ci) (hmc : mc < 1000) : ∃ A', evG TB (d + 8) 55 [.ref m, .ref kO, .ref v] A = some (.inl (some .null), A') ∧ PutOK A w m lb k kO v [] ky kA vl mc vv A' := by
  obtain ⟨c, cm, sz, md, vs, wm, ⟨L, R, P, C, rt, t1, t2, t3, t4, t5⟩, nd, so, l0, ln⟩ := h
  have hrt : rt = none := by
    cases hr : rt with
    | none => rfl
    | some r => have := (t2.root hr).1; cases this
  subst hrt
  have lm := gc_lt c
  have ek : kO < nx A := hk.k1.1
  have me : m ≠ nx A := Nat.ne_of_lt lm
  have me' := me.symm
  have kcO := hk.k1.2
  have q22 := m_22 (d := d + 1) hk hk hk2 hk2
  rw [if_neg (by omega), if_pos rfl] at q22
  have f1 : Fr A w (ndH A kO v .null) (upL w (nx A) lb) (fun x => x = lb) 1 6 := ndH_fr
  have wm' : upL w (nx A) lb m = lb := by rw [upL_ne me]; exact wm
  have f2 := ((f1.trans (Fr.stf (p := m) (f := 103) (v := .ref (nx A)) wm')).trans (Fr.stf (p := m) (f := 104) (v := .int (nI 1)) wm')).trans (Fr.stf (p := m) (f := 105) (v := .int (nI (mc + 1))) wm')
  have c45 : cin (some 21) [4, 5, 21] = true := rfl
  refine ⟨setf (setf (setf (ndH A kO v .null) m 103 (.ref (nx A))) m 104 (.int (nI 1))) m 105 (.int (nI (mc + 1))), ?_, [], [], rfl, fun x hx => (by cases hx), fun x hx => (by cases hx), ⟨f2.cc c, ?_, ?_, ?_, ?_, wm', ⟨fun _ => none, fun _ => none, fun _ => none, fun _ => nI 1, some (nx A), ?_, ⟨⟨1, rfl, [], [], rfl, ⟨rfl, rfl⟩, ⟨rfl, rfl⟩⟩, List.nodup_cons.mpr ⟨List.not_mem_nil, List.nodup_nil⟩⟩, fun x hx => ?_, fun _ => Or.inr rfl, fun _ _ => rfl⟩, fun x hx => ?_, List.pairwise_singleton _ _, l0, by show 1 ≤ 1000 ∧ _; omega⟩, f2.mono (fun _ h => h) (by omega) (by omega)⟩
  · unfold ndH
    simp (disch := first | omega | (simp (disch := omega) only [nx_setf, nx_seta, nx_newo, nx_newa]; omega)) only [e_55, x_55_0, x_55_1, x_55_2, x_55_3, x_55_4, x_55_7, e_56, x_56_0, x_56_1, x_56_4, x_56_6, x_56_8n, x_56_8r, x_56_11, x_56_12, x_56_13, x_56_14, x_56_17, x_56_18, x_56_19, x_56_20, x_56_23, x_56_25, x_56_27n, x_56_27r, x_56_32, x_56_34, x_56_36, x_56_37, x_56_39, x_56_42, x_56_47, x_56_49, x_56_51, x_56_54, x_56_56, x_56_59, x_56_61, x_56_64, x_56_66, x_56_69, x_56_71, x_56_74, x_56_76, x_56_79, x_56_81, x_56_84, x_56_86, x_56_87, x_56_90, x_56_92n, x_56_92r, x_56_95, x_56_97, x_56_98, x_56_101, x_56_103, x_56_104, x_56_106n, x_56_106r, x_56_109, x_56_112, x_56_113, x_56_116, x_56_117, x_56_118n, x_56_118r, x_56_121, x_56_125, x_56_127, x_56_129, x_56_131, x_56_134, x_56_139, x_56_141, x_56_143, x_56_146, x_56_148, x_56_151, x_56_153, x_56_156, x_56_158, x_56_161, x_56_163, x_56_166, x_56_168, x_56_171, x_56_173, x_56_176, x_56_178, x_56_179, x_56_182, x_56_184n, x_56_184r, x_56_187, x_56_189, x_56_190, x_56_193, x_56_195, x_56_196, x_56_198n, x_56_198r, x_56_201, x_56_202, x_56_203, x_56_204, x_56_206, x_56_208, x_56_211, x_56_212, x_56_215, x_56_216, x_56_219, x_56_220, e_57, x_57_0, x_57_1, x_57_2, x_57_3, x_57_6, x_57_7, x_57_8, x_57_11, x_57_12, x_57_13, x_57_14, x_57_15, x_57_18, x_57_21, x_57_22, x_57_23, x_57_26, x_57_27, x_57_28, x_57_31, x_57_32, x_57_33, x_57_36, e_58, x_58_0, x_58_1, x_58_4n, x_58_4r, x_58_7, x_58_8n, x_58_8r, x_58_11, x_58_12, x_58_17, x_58_20, x_58_21, x_58_24, x_58_25, x_58_26, x_58_31, e_83, x_83_0, x_83_1, x_83_4, x_83_5, x_83_6, x_83_9, x_83_10, x_83_11, x_83_14, x_83_15, x_83_16, x_83_19, x_83_20, x_83_21, x_83_24, kv_s, ki_s, kj_s, kd_s, kq_s, kq_n, kq_o, ka_s, kc_r, kc_t, kc0_r, kc0_t, kch_r, kc0h_r, kw_s, kw0_s, kwh_s, kw0h_s, rg_ref, rg_null, rg_rf, ck_t, sel_some, lkn_hd, Option.isSome_some, Bool.true_and, Bool.and_true, okv_i, okv_l, okv_r, okv_n, okv_rf, okv_b, okv_0, okv_1, okv_f, okv_d, c1_i, c1_r, c1_n, c1_rf, c1_f, nI_add, n_mul, n_sub, n_pred, n_eq, n_le, n_lt, n_neN, n_Nne, N_lt, N_le, n_ltN, n_leN, rdI_n, rdJ_n, rdD_n, wrI_n, wrI_z0, wrI_z1, wrI_zb, wrJ_n, wrD_n, aln_s, okn_n, upd_is, upd_ne, Nat.add_zero, Nat.add_sub_cancel, decide_true, decide_false, cond_true, cond_false, if_true, if_false, ite_not, not_true_eq_false, not_false_eq_true, Nat.reduceEqDiff, Nat.reduceAdd, Nat.reduceMul, Nat.reduceSub, Nat.reduceLeDiff, gf_setf_ne, gf_setf_p, gf_setf_is, va_rf_s, va_rf_n, gf_seta, ga_setf, gc_setf, gc_seta, ga_seta_ne, ga_seta_eq, gf_new, gc_new, gf_newo_o, gc_newo_o, ga_newo_o, ga_new, gf_newa_o, gc_newa_o, ga_newa_o, nx_setf, nx_seta, nx_newo, nx_newa, su_setf, su_seta, su_newo, su_newa, sg_setf, sg_seta, sg_newo, sg_newa, okq_n, c, cm, t1, kcO, c45, q22, md, sz, dv22_110, dv22_111, dv22_112, dv22_113, dv22_114, dv22_115]
  · unfold ndH; simp (disch := first | omega | (simp (disch := omega) only [nx_setf, nx_seta, nx_newo, nx_newa]; omega)) only [gf_setf_ne, gf_setf_p, gf_setf_is, va_rf_s, va_rf_n, gf_seta, ga_setf, gc_setf, gc_seta, ga_seta_ne, ga_seta_eq, gf_new, gc_new, gf_newo_o, gc_newo_o, ga_newo_o, ga_new, gf_newa_o, gc_newa_o, ga_newa_o, nx_setf, nx_seta, nx_newo, nx_newa, su_setf, su_seta, su_newo, su_newa, sg_setf, sg_seta, sg_newo, sg_newa, okq_n, cm]
  · unfold ndH; simp (disch := first | omega | (simp (disch := omega) only [nx_setf, nx_seta, nx_newo, nx_newa]; omega)) only [gf_setf_ne, gf_setf_p, gf_setf_is, va_rf_s, va_rf_n, gf_seta, ga_setf, gc_setf, gc_seta, ga_seta_ne, ga_seta_eq, gf_new, gc_new, gf_newo_o, gc_newo_o, ga_newo_o, ga_new, gf_newa_o, gc_newa_o, ga_newa_o, nx_setf, nx_seta, nx_newo, nx_newa, su_setf, su_seta, su_newo, su_newa, sg_setf, sg_seta, sg_newo, sg_newa, okq_n, List.nil_append, List.length_singleton]
  · unfold ndH; simp (disch := first | omega | (simp (disch := omega) only [nx_setf, nx_seta, nx_newo, nx_newa]; omega)) only [gf_setf_ne, gf_setf_p, gf_setf_is, va_rf_s, va_rf_n, gf_seta, ga_setf, gc_setf, gc_seta, ga_seta_ne, ga_seta_eq, gf_new, gc_new, gf_newo_o, gc_newo_o, ga_newo_o, ga_new, gf_newa_o, gc_newa_o, ga_newa_o, nx_setf, nx_seta, nx_newo, nx_newa, su_setf, su_seta, su_newo, su_newa, sg_setf, sg_seta, sg_newo, sg_newa, okq_n]
  · unfold ndH; simp (disch := first | omega | (simp (disch := omega) only [nx_setf, nx_seta, nx_newo, nx_newa]; omega)) only [gf_setf_ne, gf_setf_p, gf_setf_is, va_rf_s, va_rf_n, gf_seta, ga_setf, gc_setf, gc_seta, ga_seta_ne, ga_seta_eq, gf_new, gc_new, gf_newo_o, gc_newo_o, ga_newo_o, ga_new, gf_newa_o, gc_newa_o, ga_newa_o, nx_setf, nx_seta, nx_newo, nx_newa, su_setf, su_seta, su_newo, su_newa, sg_setf, sg_seta, sg_newo, sg_newa, okq_n, vs]
  · unfold ndH; simp (disch := first | omega | (simp (disch := omega) only [nx_setf, nx_seta, nx_newo, nx_newa]; omega)) only [gf_setf_ne, gf_setf_p, gf_setf_is, va_rf_s, va_rf_n, gf_seta, ga_setf, gc_setf, gc_seta, ga_seta_ne, ga_seta_eq, gf_new, gc_new, gf_newo_o, gc_newo_o, ga_newo_o, ga_new, gf_newa_o, gc_newa_o, ga_newa_o, nx_setf, nx_seta, nx_newo, nx_newa, su_setf, su_seta, su_newo, su_newa, sg_setf, sg_seta, sg_newo, sg_newa, okq_n]
  · have hx := List.mem_singleton.mp hx
    subst hx
    unfold ndH
    simp (disch := first | omega | (simp (disch := omega) only [nx_setf, nx_seta, nx_newo, nx_newa]; omega)) only [gf_setf_ne, gf_setf_p, gf_setf_is, va_rf_s, va_rf_n, gf_seta, ga_setf, gc_setf, gc_seta, ga_seta_ne, ga_seta_eq, gf_new, gc_new, gf_newo_o, gc_newo_o, ga_newo_o, ga_new, gf_newa_o, gc_newa_o, ga_newa_o, nx_setf, nx_seta, nx_newo, nx_newa, su_setf, su_seta, su_newo, su_newa, sg_setf, sg_seta, sg_newo, sg_newa, okq_n, dv22_112, dv22_113]
    exact ⟨trivial, trivial, trivial, trivial⟩
  · have hx := List.mem_singleton.mp hx
    subst hx
    rw [updN_is rfl, updN_is rfl, updN_is rfl]
    refine ⟨upL_is rfl, ?_, ?_, ?_, ?_, hk2, ?_, ci, f2.cs hv⟩
    · unfold ndH; simp (disch := first | omega | (simp (disch := omega) only [nx_setf, nx_seta, nx_newo, nx_newa]; omega)) only [gf_setf_ne, gf_setf_p, gf_setf_is, va_rf_s, va_rf_n, gf_seta, ga_setf, gc_setf, gc_seta, ga_seta_ne, ga_seta_eq, gf_new, gc_new, gf_newo_o, gc_newo_o, ga_newo_o, ga_new, gf_newa_o, gc_newa_o, ga_newa_o, nx_setf, nx_seta, nx_newo, nx_newa, su_setf, su_seta, su_newo, su_newa, sg_setf, sg_seta, sg_newo, sg_newa, okq_n]
    · unfold ndH; simp (disch := first | omega | (simp (disch := omega) only [nx_setf, nx_seta, nx_newo, nx_newa]; omega)) only [gf_setf_ne, gf_setf_p, gf_setf_is, va_rf_s, va_rf_n, gf_seta, ga_setf, gc_setf, gc_seta, ga_seta_ne, ga_seta_eq, gf_new, gc_new, gf_newo_o, gc_newo_o, ga_newo_o, ga_new, gf_newa_o, gc_newa_o, ga_newa_o, nx_setf, nx_seta, nx_newo, nx_newa, su_setf, su_seta, su_newo, su_newa, sg_setf, sg_seta, sg_newo, sg_newa, okq_n]
    · exact hk.fr f2 (by rw [hk0]; exact fun z => l0 z.symm)
    · rw [upL_ne (Nat.ne_of_lt ek)]; exact hk0
    · unfold ndH; simp (disch := first | omega | (simp (disch := omega) only [nx_setf, nx_seta, nx_newo, nx_newa]; omega)) only [gf_setf_ne, gf_setf_p, gf_setf_is, va_rf_s, va_rf_n, gf_seta, ga_setf, gc_setf, gc_seta, ga_seta_ne, ga_seta_eq, gf_new, gc_new, gf_newo_o, gc_newo_o, ga_newo_o, ga_new, gf_newa_o, gc_newa_o, ga_newa_o, nx_setf, nx_seta, nx_newo, nx_newa, su_setf, su_seta, su_newo, su_newa, sg_setf, sg_seta, sg_newo, sg_newa, okq_n]
theorem m_55_1 (h : TMs A w m lb l ky kA vl mc vv) (hl : l ≠ []) (hk : InS A kO (nI k)) (hk0 : w kO = 0) (hk2 : k < 2147483648) (hkn : ∀ x, x ∈ l → ky x ≠ k) (hv : Kd A v ci) (hmc : mc < 1000) (hln : l.length < 1000) : ∃ A', evG TB (d + 8) 55 [.ref m, .ref kO, .ref v] A = some (.inl (some .null), A') ∧ PutOK A w m lb k kO v l ky kA vl mc vv A' := by
  obtain ⟨c, cm, sz, md, vs, wm, ⟨L, R, P, C, rt, t1, t2, t3, t4, t5⟩, nd, so, l0, ln⟩ := h
  have lm := gc_lt c
  have ek : kO < nx A := hk.k1.1
  have me : m ≠ nx A := Nat.ne_of_lt lm
  have me' := me.symm
  have kcO := hk.k1.2
  have c45 : cin (some 21) [4, 5, 21] = true := rfl
  cases hrt : rt with
  | none =>
    obtain ⟨⟨f, t2⟩, _⟩ := t2
    rw [hrt] at t2
    exact absurd (isT_none.mp t2) hl
  | some s =>
    subst hrt
    have hlx : ∀ x, x ∈ l → x < nx A := fun x hx => gc_lt (nd x hx).2.1
    have hlm : ∀ x, x ∈ l → x ≠ m := fun x hx e => by
      have := (nd x hx).2.1
      rw [e, c] at this
      exact absurd (Option.some.inj this) (by omega)
    have hel : nx A ∉ l := fun e => Nat.lt_irrefl _ (hlx _ e)
    obtain ⟨⟨f, ht⟩, hnd⟩ := t2
    obtain ⟨p, a, b, lf, e1, pt⟩ := m_56_dn (d := d + 3) (A := A) (m := m) (V := .ref v) (j9 := none) hk hk2 f none s l none none ht hnd so (fun x hx => ⟨(nd x hx).2.2.1, (nd x hx).2.2.2.1, (nd x hx).2.2.2.2.2.1, hkn x hx, (t3 x hx).1, (t3 x hx).2.1⟩)
    have hp := pt.p
    have lp := hlx p hp
    have pe : p ≠ nx A := Nat.ne_of_lt lp
    have pe' := pe.symm
    have pm := hlm p hp
    have pm' := pm.symm
    have p3 := t3 p hp
    -- the links with the leaf
    have hcg : isT (uL L (nx A) none) (uL R (nx A) none) P f none (some s) l := isT_congr ht (fun x hx => ⟨uL_ne (Nat.ne_of_lt (hlx x hx)), uL_ne (Nat.ne_of_lt (hlx x hx)), rfl⟩)
    obtain ⟨p', a', b', lf', e1', pt'⟩ := m_56_dn (d := d + 3) (A := A) (m := m) (V := .ref v) (j9 := none) (L := uL L (nx A) none) (R := uL R (nx A) none) hk hk2 f none s l none none hcg hnd so (fun x hx => ⟨(nd x hx).2.2.1, (nd x hx).2.2.2.1, (nd x hx).2.2.2.2.2.1, hkn x hx, by rw [uL_ne (Nat.ne_of_lt (hlx x hx))]; exact (t3 x hx).1, by rw [uL_ne (Nat.ne_of_lt (hlx x hx))]; exact (t3 x hx).2.1⟩)
    clear e1 pt hp lp pe pe' pm pm' p3
    have hp := pt'.p
    have lp := hlx p' hp
    have pe : p' ≠ nx A := Nat.ne_of_lt lp
    have pe' := pe.symm
    have pm := hlm p' hp
    have pm' := pm.symm
    have p3 := t3 p' hp
    have hT := pt'.t (nx A) hel (uL_is rfl) (uL_is rfl)
    have hl2 : ∀ x, x ∈ a' ++ nx A :: b' ↔ x = nx A ∨ x ∈ l := fun x => by
      rw [pt'.e]
      simp only [List.mem_append, List.mem_cons]
      constructor
      · rintro (q | q | q)
        · exact Or.inr (Or.inl q)
        · exact Or.inl q
        · exact Or.inr (Or.inr q)
      · rintro (q | q | q)
        · exact Or.inr (Or.inl q)
        · exact Or.inl q
        · exact Or.inr (Or.inr q)
    have hnd2 : (a' ++ nx A :: b').Nodup := by
      rw [pt'.e] at hnd hel
      have n1 := List.nodup_append.mp hnd
      refine List.nodup_append.mpr ⟨n1.1, List.nodup_cons.mpr ⟨fun q => hel (by simp [q]), n1.2.1⟩, fun x hx y hy => ?_⟩
      rcases List.mem_cons.mp hy with q | q
      · rw [q]; exact fun z => hel (by rw [← z]; simp [hx])
      · exact n1.2.2 x hx y q
    let fN : Nat := if lf' = true then 112 else 113
    have hfN : fN = 112 ∨ fN = 113 := by show (if lf' = true then 112 else 113) = 112 ∨ (if lf' = true then 112 else 113) = 113; cases lf' <;> simp
    let B : Hp := setf (ndH A kO v (.ref p')) p' fN (.ref (nx A))
    have wm' : upL w (nx A) lb m = lb := by rw [upL_ne me]; exact wm
    have wp' : upL w (nx A) lb p' = lb := by rw [upL_ne pe]; exact (nd p' hp).1
    have fB : Fr A w B (upL w (nx A) lb) (fun x => x = lb) 1 6 := (ndH_fr.trans (Fr.stf wp')).mono (fun _ h => h) (by omega) (by omega)
    have gB : ∀ x f, x < nx A → ¬ (x = p' ∧ f = fN) → gf B x f = gf A x f := fun x f hx hne => by
      have xe : x ≠ nx A := Nat.ne_of_lt hx
      have : gf B x f = gf (ndH A kO v (.ref p')) x f := by
        show gf (setf _ p' fN _) x f = _
        by_cases q : x = p'
        · exact gf_setf_ne (fun z => hne ⟨q, z⟩)
        · exact gf_setf_p q
      rw [this]
      unfold ndH
      simp (disch := first | omega | (simp (disch := omega) only [nx_setf, nx_seta, nx_newo, nx_newa]; omega)) only [gf_setf_ne, gf_setf_p, gf_setf_is, va_rf_s, va_rf_n, gf_seta, ga_setf, gc_setf, gc_seta, ga_seta_ne, ga_seta_eq, gf_new, gc_new, gf_newo_o, gc_newo_o, ga_newo_o, ga_new, gf_newa_o, gc_newa_o, ga_newa_o, nx_setf, nx_seta, nx_newo, nx_newa, su_setf, su_seta, su_newo, su_newa, sg_setf, sg_seta, sg_newo, sg_newa, okq_n]
    have gBe : ∀ f, f ≠ fN ∨ True → gf B (nx A) f = gf (ndH A kO v (.ref p')) (nx A) f := fun f _ => gf_setf_p pe'
    have gBp : gf B p' fN = some (.ref (nx A)) := gf_setf_is (by unfold ndH; simp (disch := first | omega | (simp (disch := omega) only [nx_setf, nx_seta, nx_newo, nx_newa]; omega)) only [gf_setf_ne, gf_setf_p, gf_setf_is, va_rf_s, va_rf_n, gf_seta, ga_setf, gc_setf, gc_seta, ga_seta_ne, ga_seta_eq, gf_new, gc_new, gf_newo_o, gc_newo_o, ga_newo_o, ga_new, gf_newa_o, gc_newa_o, ga_newa_o, nx_setf, nx_seta, nx_newo, nx_newa, su_setf, su_seta, su_newo, su_newa, sg_setf, sg_seta, sg_newo, sg_newa, okq_n]; omega)
    have nB : nx B = nx A + 1 := by show nx (setf _ p' fN _) = _; unfold ndH; simp (disch := first | omega | (simp (disch := omega) only [nx_setf, nx_seta, nx_newo, nx_newa]; omega)) only [gf_setf_ne, gf_setf_p, gf_setf_is, va_rf_s, va_rf_n, gf_seta, ga_setf, gc_setf, gc_seta, ga_seta_ne, ga_seta_eq, gf_new, gc_new, gf_newo_o, gc_newo_o, ga_newo_o, ga_new, gf_newa_o, gc_newa_o, ga_newa_o, nx_setf, nx_seta, nx_newo, nx_newa, su_setf, su_seta, su_newo, su_newa, sg_setf, sg_seta, sg_newo, sg_newa, okq_n]
    let N : Nat → Bool := fun q => decide (q ∈ a' ++ nx A :: b')
    have hNt : ∀ q, N q = true ↔ (q = nx A ∨ q ∈ l) := fun q => by
      show decide (q ∈ a' ++ nx A :: b') = true ↔ _
      rw [decide_eq_true_eq, hl2]
    let L1 := Ln lf' (uL L (nx A) none) p' (nx A)
    let R1 := Rn lf' (uL R (nx A) none) p' (nx A)
    let P1 := uL P (nx A) (some p')
    let C1 := upd C (nx A) (nI 1)
    have hself : tH B N m L1 R1 P1 C1 (some s) = B := by
      refine tH_self (fun q hq => ?_) ?_
      · rcases (hNt q).mp hq with e | e
        · subst e
          rw [gBe _ (Or.inr trivial), gBe _ (Or.inr trivial), gBe _ (Or.inr trivial), gBe _ (Or.inr trivial)]
          have eL : L1 (nx A) = none := (Ln_ne pe').trans (uL_is rfl)
          have eR : R1 (nx A) = none := (Rn_ne pe').trans (uL_is rfl)
          have eP : P1 (nx A) = some p' := uL_is rfl
          have eC : C1 (nx A) = nI 1 := upd_is rfl
          rw [eL, eR, eP, eC]
          unfold ndH
          simp (disch := first | omega | (simp (disch := omega) only [nx_setf, nx_seta, nx_newo, nx_newa]; omega)) only [gf_setf_ne, gf_setf_p, gf_setf_is, va_rf_s, va_rf_n, gf_seta, ga_setf, gc_setf, gc_seta, ga_seta_ne, ga_seta_eq, gf_new, gc_new, gf_newo_o, gc_newo_o, ga_newo_o, ga_new, gf_newa_o, gc_newa_o, ga_newa_o, nx_setf, nx_seta, nx_newo, nx_newa, su_setf, su_seta, su_newo, su_newa, sg_setf, sg_seta, sg_newo, sg_newa, okq_n, dv22_112, dv22_113]
          exact ⟨trivial, trivial, trivial, trivial⟩
        · have lq := hlx q e
          have qe : q ≠ nx A := Nat.ne_of_lt lq
          obtain ⟨a1, a2, a3, a4⟩ := t3 q e
          have eP : P1 q = P q := uL_ne qe
          have eC : C1 q = C q := upd_ne qe
          rw [eP, eC, gB q 114 lq (fun z => by have := z.2; omega), gB q 115 lq (fun z => by have := z.2; omega)]
          refine ⟨?_, ?_, a3, a4⟩
          · by_cases z : q = p' ∧ (112 : Nat) = fN
            · have hlf : lf' = true := by
                cases hh : lf' with
                | true => rfl
                | false => have := z.2; simp only [fN, hh] at this; exact absurd this (by decide)
              have : L1 q = some (nx A) := by
                show Ln lf' _ p' (nx A) q = _
                rw [hlf]
                exact uL_is z.1
              rw [this, z.1, z.2]
              exact gBp
            · rw [gB q 112 lq z, a1]
              congr 1
              show _ = va_rf (Ln lf' _ p' (nx A) q)
              by_cases q1 : q = p'
              · have hlf : lf' = false := by
                  cases hh : lf' with
                  | false => rfl
                  | true => exact absurd ⟨q1, by simp only [fN, hh]; rfl⟩ z
                rw [hlf]
                show _ = va_rf (uL L (nx A) none q)
                rw [uL_ne qe]
              · rw [Ln_ne q1, uL_ne qe]
          · by_cases z : q = p' ∧ (113 : Nat) = fN
            · have hlf : lf' = false := by
                cases hh : lf' with
                | false => rfl
                | true => have := z.2; simp only [fN, hh] at this; exact absurd this (by decide)
              have : R1 q = some (nx A) := by
                show Rn lf' _ p' (nx A) q = _
                rw [hlf]
                exact uL_is z.1
              rw [this, z.1, z.2]
              exact gBp
            · rw [gB q 113 lq z, a2]
              congr 1
              show _ = va_rf (Rn lf' _ p' (nx A) q)
              by_cases q1 : q = p'
              · have hlf : lf' = true := by
                  cases hh : lf' with
                  | true => rfl
                  | false => exact absurd ⟨q1, by simp only [fN, hh]; rfl⟩ z
                rw [hlf]
                show _ = va_rf (uL R (nx A) none q)
                rw [uL_ne qe]
              · rw [Rn_ne q1, uL_ne qe]
      · rw [gB m 103 lm (fun z => pm' z.1)]; exact t1
    have tn : TN B N m := ⟨fun q hq => by rw [nB]; exact ((hNt q).mp hq).elim (fun e => by omega) (fun e => Nat.lt_succ_of_lt (hlx q e)), by
      cases hh : N m with
      | false => rfl
      | true => exact ((hNt m).mp hh).elim (fun e => absurd e me) (fun e => absurd rfl (hlm m e)), by rw [nB]; omega, fB.cc c⟩
    have hse : s ≠ nx A := fun z => hel (by rw [← z]; exact isT_root ht)
    obtain ⟨L2, R2, P2, C2, rt2, q60, t2', t4', t5'⟩ := m_60 (d := d + 2) (A := B) (N := N) (m := m) (l := a' ++ nx A :: b') tn (fun y hy => decide_eq_true hy) (x := nx A) (L := L1) (R := R1) (P := P1) (C := C1) (rt := some s) ⟨⟨f + 1, hT⟩, hnd2⟩ ((hl2 _).mpr (Or.inl rfl)) (col_upd t4 (Or.inr rfl)) (fun r er => by cases er; exact (upd_ne hse).trans (t5 s rfl)) (fun z => hse (Option.some.inj z))
    rw [hself] at q60
    have hNlt : ∀ q, N q = true → q < nx B := tn.lt
    have fH : Fr A w (tH B N m L2 R2 P2 C2 rt2) (upL w (nx A) lb) (fun x => x = lb) 1 6 := fB.tH (fun q hq hNq => by
      rcases (hNt q).mp hNq with e | e
      · omega
      · exact (nd q e).1) wm
    have fF := (fH.trans (Fr.stf (p := m) (f := 104) (v := .int (nI (l.length + 1))) wm')).trans (Fr.stf (p := m) (f := 105) (v := .int (nI (mc + 1))) wm')
    have gm : ∀ f, (f < 103 ∨ 103 < f) → (f < 112 ∨ 115 < f) → gf (tH B N m L2 R2 P2 C2 rt2) m f = gf A m f := fun f h1 h2 => by rw [tH_o h2 (Or.inl (by omega)), gB m f lm (fun z => pm' z.1)]
    have lB : m < nx (tH B N m L2 R2 P2 C2 rt2) := tn.mx
    have mN := tn.mN
    have g104 : gf (tH B N m L2 R2 P2 C2 rt2) m 104 = some (.int (nI l.length)) := by rw [gm 104 (by omega) (by omega)]; exact sz
    have g105 : gf (tH B N m L2 R2 P2 C2 rt2) m 105 = some (.int (nI mc)) := by rw [gm 105 (by omega) (by omega)]; exact md
    refine ⟨setf (setf (tH B N m L2 R2 P2 C2 rt2) m 104 (.int (nI (l.length + 1)))) m 105 (.int (nI (mc + 1))), ?_, a', b', pt'.e, pt'.ka, pt'.kb, ⟨fF.cc c, ?_, ?_, ?_, ?_, wm', ⟨L2, R2, P2, C2, rt2, ?_, t2', fun x hx => ?_, t4', t5'⟩, fun x hx => ?_, ?_, l0, ?_⟩, fF.mono (fun _ h => h) (by omega) (by omega)⟩
    · have hB : B = setf (setf (setf (setf (setf (newo A 22 6 dv22) (nx A) 115 (.int (nI 1))) (nx A) 110 (.ref kO)) (nx A) 111 (.ref v)) (nx A) 114 (.ref p')) p' fN (.ref (nx A)) := rfl
      rw [hB] at q60 g104 g105 lB ⊢
      have cB : gc (tH (setf (setf (setf (setf (setf (newo A 22 6 dv22) (nx A) 115 (.int (nI 1))) (nx A) 110 (.ref kO)) (nx A) 111 (.ref v)) (nx A) 114 (.ref p')) p' fN (.ref (nx A))) N m L2 R2 P2 C2 rt2) m = some 20 := fH.cc c
      cases hh : lf' with
      | true =>
        have : fN = 112 := by simp only [fN, hh]; rfl
        rw [this] at q60 g104 g105 lB cB ⊢
        rw [hh, if_pos rfl] at e1'
        simp (disch := first | omega | (simp (disch := omega) only [nx_setf, nx_seta, nx_newo, nx_newa]; omega)) only [e_55, x_55_0, x_55_1, x_55_2, x_55_3, x_55_4, x_55_7, e_56, x_56_0, x_56_1, x_56_4, x_56_6, x_56_8n, x_56_8r, x_56_11, x_56_12, x_56_13, x_56_14, x_56_17, x_56_18, x_56_19, x_56_20, x_56_23, x_56_25, x_56_27n, x_56_27r, x_56_32, x_56_34, x_56_36, x_56_37, x_56_39, x_56_42, x_56_47, x_56_49, x_56_51, x_56_54, x_56_56, x_56_59, x_56_61, x_56_64, x_56_66, x_56_69, x_56_71, x_56_74, x_56_76, x_56_79, x_56_81, x_56_84, x_56_86, x_56_87, x_56_90, x_56_92n, x_56_92r, x_56_95, x_56_97, x_56_98, x_56_101, x_56_103, x_56_104, x_56_106n, x_56_106r, x_56_109, x_56_112, x_56_113, x_56_116, x_56_117, x_56_118n, x_56_118r, x_56_121, e_71, x_71_0, x_71_1n, x_71_1r, x_71_7, x_71_12, x_71_13, kv_s, ki_s, kj_s, kd_s, kq_s, kq_n, kq_o, ka_s, kc_r, kc_t, kc0_r, kc0_t, kch_r, kc0h_r, kw_s, kw0_s, kwh_s, kw0h_s, rg_ref, rg_null, rg_rf, ck_t, sel_some, lkn_hd, Option.isSome_some, Bool.true_and, Bool.and_true, okv_i, okv_l, okv_r, okv_n, okv_rf, okv_b, okv_0, okv_1, okv_f, okv_d, c1_i, c1_r, c1_n, c1_rf, c1_f, nI_add, n_mul, n_sub, n_pred, n_eq, n_le, n_lt, n_neN, n_Nne, N_lt, N_le, n_ltN, n_leN, rdI_n, rdJ_n, rdD_n, wrI_n, wrI_z0, wrI_z1, wrI_zb, wrJ_n, wrD_n, aln_s, okn_n, upd_is, upd_ne, Nat.add_zero, Nat.add_sub_cancel, decide_true, decide_false, cond_true, cond_false, if_true, if_false, ite_not, not_true_eq_false, not_false_eq_true, Nat.reduceEqDiff, Nat.reduceAdd, Nat.reduceMul, Nat.reduceSub, Nat.reduceLeDiff, gf_setf_ne, gf_setf_p, gf_setf_is, va_rf_s, va_rf_n, gf_seta, ga_setf, gc_setf, gc_seta, ga_seta_ne, ga_seta_eq, gf_new, gc_new, gf_newo_o, gc_newo_o, ga_newo_o, ga_new, gf_newa_o, gc_newa_o, ga_newa_o, nx_setf, nx_seta, nx_newo, nx_newa, su_setf, su_seta, su_newo, su_newa, sg_setf, sg_seta, sg_newo, sg_newa, okq_n, c, cm, t1, kcO, c45, e1']
        simp (disch := first | omega | (simp (disch := omega) only [nx_setf, nx_seta, nx_newo, nx_newa]; omega)) only [x_56_201, x_56_202, x_56_203, x_56_204, x_56_206, x_56_208, x_56_211, x_56_212, x_56_215, x_56_216, x_56_219, x_56_220, x_55_0, x_55_1, x_55_2, x_55_3, x_55_4, x_55_7, e_59, x_59_0, x_59_3, x_59_4, x_59_5, x_59_6, x_59_7, x_59_10, x_59_12, x_59_14, x_59_17, x_59_18, x_59_20, x_59_23, x_59_26, x_59_27, x_59_29, x_59_32, x_59_33, x_59_35, x_59_38, x_59_39, x_59_40, x_59_43, x_59_44, x_59_45, x_59_48, x_59_49, x_59_50, x_59_53, x_59_54, x_59_55, x_59_58, e_83, x_83_0, x_83_1, x_83_4, x_83_5, x_83_6, x_83_9, x_83_10, x_83_11, x_83_14, x_83_15, x_83_16, x_83_19, x_83_20, x_83_21, x_83_24, kv_s, ki_s, kj_s, kd_s, kq_s, kq_n, kq_o, ka_s, kc_r, kc_t, kc0_r, kc0_t, kch_r, kc0h_r, kw_s, kw0_s, kwh_s, kw0h_s, rg_ref, rg_null, rg_rf, ck_t, sel_some, lkn_hd, Option.isSome_some, Bool.true_and, Bool.and_true, okv_i, okv_l, okv_r, okv_n, okv_rf, okv_b, okv_0, okv_1, okv_f, okv_d, c1_i, c1_r, c1_n, c1_rf, c1_f, nI_add, n_mul, n_sub, n_pred, n_eq, n_le, n_lt, n_neN, n_Nne, N_lt, N_le, n_ltN, n_leN, rdI_n, rdJ_n, rdD_n, wrI_n, wrI_z0, wrI_z1, wrI_zb, wrJ_n, wrD_n, aln_s, okn_n, upd_is, upd_ne, Nat.add_zero, Nat.add_sub_cancel, decide_true, decide_false, cond_true, cond_false, if_true, if_false, ite_not, not_true_eq_false, not_false_eq_true, Nat.reduceEqDiff, Nat.reduceAdd, Nat.reduceMul, Nat.reduceSub, Nat.reduceLeDiff, gf_setf_ne, gf_setf_p, gf_setf_is, va_rf_s, va_rf_n, gf_seta, ga_setf, gc_setf, gc_seta, ga_seta_ne, ga_seta_eq, gf_new, gc_new, gf_newo_o, gc_newo_o, ga_newo_o, ga_new, gf_newa_o, gc_newa_o, ga_newa_o, nx_setf, nx_seta, nx_newo, nx_newa, su_setf, su_seta, su_newo, su_newa, sg_setf, sg_seta, sg_newo, sg_newa, okq_n, c, cm, q60, cB, g104, g105, p3.1, p3.2.1, dv22_110, dv22_111, dv22_112, dv22_113, dv22_114, dv22_115]
      | false =>
        have : fN = 113 := by simp only [fN, hh]; rfl
        rw [this] at q60 g104 g105 lB cB ⊢
        rw [hh, if_neg (by decide)] at e1'
        simp (disch := first | omega | (simp (disch := omega) only [nx_setf, nx_seta, nx_newo, nx_newa]; omega)) only [e_55, x_55_0, x_55_1, x_55_2, x_55_3, x_55_4, x_55_7, e_56, x_56_0, x_56_1, x_56_4, x_56_6, x_56_8n, x_56_8r, x_56_11, x_56_12, x_56_13, x_56_14, x_56_17, x_56_18, x_56_19, x_56_20, x_56_23, x_56_25, x_56_27n, x_56_27r, x_56_32, x_56_34, x_56_36, x_56_37, x_56_39, x_56_42, x_56_47, x_56_49, x_56_51, x_56_54, x_56_56, x_56_59, x_56_61, x_56_64, x_56_66, x_56_69, x_56_71, x_56_74, x_56_76, x_56_79, x_56_81, x_56_84, x_56_86, x_56_87, x_56_90, x_56_92n, x_56_92r, x_56_95, x_56_97, x_56_98, x_56_101, x_56_103, x_56_104, x_56_106n, x_56_106r, x_56_109, x_56_112, x_56_113, x_56_116, x_56_117, x_56_118n, x_56_118r, x_56_121, e_71, x_71_0, x_71_1n, x_71_1r, x_71_7, x_71_12, x_71_13, kv_s, ki_s, kj_s, kd_s, kq_s, kq_n, kq_o, ka_s, kc_r, kc_t, kc0_r, kc0_t, kch_r, kc0h_r, kw_s, kw0_s, kwh_s, kw0h_s, rg_ref, rg_null, rg_rf, ck_t, sel_some, lkn_hd, Option.isSome_some, Bool.true_and, Bool.and_true, okv_i, okv_l, okv_r, okv_n, okv_rf, okv_b, okv_0, okv_1, okv_f, okv_d, c1_i, c1_r, c1_n, c1_rf, c1_f, nI_add, n_mul, n_sub, n_pred, n_eq, n_le, n_lt, n_neN, n_Nne, N_lt, N_le, n_ltN, n_leN, rdI_n, rdJ_n, rdD_n, wrI_n, wrI_z0, wrI_z1, wrI_zb, wrJ_n, wrD_n, aln_s, okn_n, upd_is, upd_ne, Nat.add_zero, Nat.add_sub_cancel, decide_true, decide_false, cond_true, cond_false, if_true, if_false, ite_not, not_true_eq_false, not_false_eq_true, Nat.reduceEqDiff, Nat.reduceAdd, Nat.reduceMul, Nat.reduceSub, Nat.reduceLeDiff, gf_setf_ne, gf_setf_p, gf_setf_is, va_rf_s, va_rf_n, gf_seta, ga_setf, gc_setf, gc_seta, ga_seta_ne, ga_seta_eq, gf_new, gc_new, gf_newo_o, gc_newo_o, ga_newo_o, ga_new, gf_newa_o, gc_newa_o, ga_newa_o, nx_setf, nx_seta, nx_newo, nx_newa, su_setf, su_seta, su_newo, su_newa, sg_setf, sg_seta, sg_newo, sg_newa, okq_n, c, cm, t1, kcO, c45, e1']
        simp (disch := first | omega | (simp (disch := omega) only [nx_setf, nx_seta, nx_newo, nx_newa]; omega)) only [x_56_201, x_56_202, x_56_203, x_56_204, x_56_206, x_56_208, x_56_211, x_56_212, x_56_215, x_56_216, x_56_219, x_56_220, x_55_0, x_55_1, x_55_2, x_55_3, x_55_4, x_55_7, e_59, x_59_0, x_59_3, x_59_4, x_59_5, x_59_6, x_59_7, x_59_10, x_59_12, x_59_14, x_59_17, x_59_18, x_59_20, x_59_23, x_59_26, x_59_27, x_59_29, x_59_32, x_59_33, x_59_35, x_59_38, x_59_39, x_59_40, x_59_43, x_59_44, x_59_45, x_59_48, x_59_49, x_59_50, x_59_53, x_59_54, x_59_55, x_59_58, e_83, x_83_0, x_83_1, x_83_4, x_83_5, x_83_6, x_83_9, x_83_10, x_83_11, x_83_14, x_83_15, x_83_16, x_83_19, x_83_20, x_83_21, x_83_24, kv_s, ki_s, kj_s, kd_s, kq_s, kq_n, kq_o, ka_s, kc_r, kc_t, kc0_r, kc0_t, kch_r, kc0h_r, kw_s, kw0_s, kwh_s, kw0h_s, rg_ref, rg_null, rg_rf, ck_t, sel_some, lkn_hd, Option.isSome_some, Bool.true_and, Bool.and_true, okv_i, okv_l, okv_r, okv_n, okv_rf, okv_b, okv_0, okv_1, okv_f, okv_d, c1_i, c1_r, c1_n, c1_rf, c1_f, nI_add, n_mul, n_sub, n_pred, n_eq, n_le, n_lt, n_neN, n_Nne, N_lt, N_le, n_ltN, n_leN, rdI_n, rdJ_n, rdD_n, wrI_n, wrI_z0, wrI_z1, wrI_zb, wrJ_n, wrD_n, aln_s, okn_n, upd_is, upd_ne, Nat.add_zero, Nat.add_sub_cancel, decide_true, decide_false, cond_true, cond_false, if_true, if_false, ite_not, not_true_eq_false, not_false_eq_true, Nat.reduceEqDiff, Nat.reduceAdd, Nat.reduceMul, Nat.reduceSub, Nat.reduceLeDiff, gf_setf_ne, gf_setf_p, gf_setf_is, va_rf_s, va_rf_n, gf_seta, ga_setf, gc_setf, gc_seta, ga_seta_ne, ga_seta_eq, gf_new, gc_new, gf_newo_o, gc_newo_o, ga_newo_o, ga_new, gf_newa_o, gc_newa_o, ga_newa_o, nx_setf, nx_seta, nx_newo, nx_newa, su_setf, su_seta, su_newo, su_newa, sg_setf, sg_seta, sg_newo, sg_newa, okq_n, c, cm, q60, cB, g104, g105, p3.1, p3.2.1, nlt (show 0 ≤ 1 by omega), yle (show 0 ≤ 1 by omega), dv22_110, dv22_111, dv22_112, dv22_113, dv22_114, dv22_115]
    · rw [gf_setf_ne (by decide), gf_setf_ne (by decide), gm 102 (by omega) (by omega)]; exact cm
    · rw [gf_setf_ne (by decide), gf_setf_is lB]
      congr 3
      rw [pt'.e]
      simp only [List.length_append, List.length_cons]
      omega
    · rw [gf_setf_is (by rw [nx_setf]; exact lB)]
    · rw [gf_setf_ne (by decide), gf_setf_ne (by decide), gm 30 (by omega) (by omega)]; exact vs
    · rw [gf_setf_ne (by decide), gf_setf_ne (by decide), tH_103 mN tn.mx]
    · have hN1 : N x = true := decide_eq_true hx
      have lx := hNlt x hN1
      have xm : x ≠ m := fun z => by rw [z, mN] at hN1; cases hN1
      rw [gf_setf_ne (by decide), gf_setf_ne (by decide), gf_setf_ne (by decide), gf_setf_ne (by decide), gf_setf_ne (by decide), gf_setf_ne (by decide), gf_setf_ne (by decide), gf_setf_ne (by decide), tH_112 hN1 lx, tH_113 hN1 lx, tH_114 hN1 lx, tH_115 hN1 lx]
      exact ⟨rfl, rfl, rfl, rfl⟩
    · rcases (hl2 x).mp hx with e | e
      · subst e
        rw [updN_is rfl, updN_is rfl, updN_is rfl]
        refine ⟨upL_is rfl, ?_, ?_, hk.fr fF (by rw [hk0]; exact fun z => l0 z.symm), ?_, hk2, ?_, ci, fF.cs hv⟩
        · show gc (ndH A kO v (.ref p')) (nx A) = some 22
          unfold ndH; simp (disch := first | omega | (simp (disch := omega) only [nx_setf, nx_seta, nx_newo, nx_newa]; omega)) only [gf_setf_ne, gf_setf_p, gf_setf_is, va_rf_s, va_rf_n, gf_seta, ga_setf, gc_setf, gc_seta, ga_seta_ne, ga_seta_eq, gf_new, gc_new, gf_newo_o, gc_newo_o, ga_newo_o, ga_new, gf_newa_o, gc_newa_o, ga_newa_o, nx_setf, nx_seta, nx_newo, nx_newa, su_setf, su_seta, su_newo, su_newa, sg_setf, sg_seta, sg_newo, sg_newa, okq_n]
        · rw [gf_setf_ne (by decide), gf_setf_ne (by decide), tH_o (by omega) (Or.inl (by decide)), gBe _ (Or.inr trivial)]
          unfold ndH; simp (disch := first | omega | (simp (disch := omega) only [nx_setf, nx_seta, nx_newo, nx_newa]; omega)) only [gf_setf_ne, gf_setf_p, gf_setf_is, va_rf_s, va_rf_n, gf_seta, ga_setf, gc_setf, gc_seta, ga_seta_ne, ga_seta_eq, gf_new, gc_new, gf_newo_o, gc_newo_o, ga_newo_o, ga_new, gf_newa_o, gc_newa_o, ga_newa_o, nx_setf, nx_seta, nx_newo, nx_newa, su_setf, su_seta, su_newo, su_newa, sg_setf, sg_seta, sg_newo, sg_newa, okq_n]
        · rw [upL_ne (Nat.ne_of_lt ek)]; exact hk0
        · rw [gf_setf_ne (by decide), gf_setf_ne (by decide), tH_o (by omega) (Or.inl (by decide)), gBe _ (Or.inr trivial)]
          unfold ndH; simp (disch := first | omega | (simp (disch := omega) only [nx_setf, nx_seta, nx_newo, nx_newa]; omega)) only [gf_setf_ne, gf_setf_p, gf_setf_is, va_rf_s, va_rf_n, gf_seta, ga_setf, gc_setf, gc_seta, ga_seta_ne, ga_seta_eq, gf_new, gc_new, gf_newo_o, gc_newo_o, ga_newo_o, ga_new, gf_newa_o, gc_newa_o, ga_newa_o, nx_setf, nx_seta, nx_newo, nx_newa, su_setf, su_seta, su_newo, su_newa, sg_setf, sg_seta, sg_newo, sg_newa, okq_n]
      · have lx := hlx x e
        have xe : x ≠ nx A := Nat.ne_of_lt lx
        obtain ⟨n1, n2, n3, n4, n5, n6, n7, ci', n8⟩ := nd x e
        rw [updN_ne xe, updN_ne xe, updN_ne xe]
        refine ⟨by rw [upL_ne xe]; exact n1, fF.cc n2, ?_, n4.fr fF (by rw [n5]; exact fun z => l0 z.symm), by rw [upL_ne (Nat.ne_of_lt n4.k1.1)]; exact n5, n6, ?_, ci', fF.cs n8⟩
        · rw [gf_setf_ne (by decide), gf_setf_ne (by decide), tH_o (by omega) (Or.inl (by decide)), gB x 110 lx (fun z => by have := z.2; omega)]; exact n3
        · rw [gf_setf_ne (by decide), gf_setf_ne (by decide), tH_o (by omega) (Or.inl (by decide)), gB x 111 lx (fun z => by have := z.2; omega)]; exact n7
    · have so' := so
      rw [pt'.e] at so'
      have s1 := List.pairwise_append.mp so'
      have ev : ∀ x, x ∈ l → updN ky (nx A) k x = ky x := fun x hx => updN_ne (Nat.ne_of_lt (hlx x hx))
      have ein : ∀ x, x ∈ a' → x ∈ l := fun x hx => by rw [pt'.e]; simp [hx]
      have ein2 : ∀ x, x ∈ b' → x ∈ l := fun x hx => by rw [pt'.e]; simp [hx]
      refine List.pairwise_append.mpr ⟨s1.1.imp_of_mem (fun {x y} hx hy q => by rw [ev x (ein x hx), ev y (ein y hy)]; exact q), List.pairwise_cons.mpr ⟨fun y hy => by rw [updN_is rfl, ev y (ein2 y hy)]; exact pt'.kb y hy, s1.2.1.imp_of_mem (fun {x y} hx hy q => by rw [ev x (ein2 x hx), ev y (ein2 y hy)]; exact q)⟩, fun x hx y hy => ?_⟩
      rw [ev x (ein x hx)]
      rcases List.mem_cons.mp hy with q | q
      · rw [q, updN_is rfl]; exact pt'.ka x hx
      · rw [ev y (ein2 y q)]; exact s1.2.2 x hx y q
    · have : (a' ++ nx A :: b').length = l.length + 1 := by
        rw [pt'.e]
        simp only [List.length_append, List.length_cons]
        omega
      rw [this]
      omega
end
