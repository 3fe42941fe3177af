/-! the model lays trips -/
abbrev LyOK (S : Nat → Int32) (G D R : Nat) : Prop := (NetOK S G D) ∧ (S 8 = nI G) ∧ (S 9 = nI D) ∧ (S 12 = nI R) ∧ (R ≤ 120) ∧ (∃ g, S 0 = nI g ∧ g ≤ 600) ∧ (∃ s, S 2 = nI s ∧ s ≤ 20) ∧ (∀ r, r < R → ∃ g, g < G ∧ S (280 + 7 * r + 1) = nI g) ∧ (∀ r, r < R → ∃ t, t ≤ 100000 ∧ S (280 + 7 * r + 2) = nI t)
theorem LyOK.net {S : Nat → Int32} {G D R : Nat} (h : LyOK S G D R) : NetOK S G D := h.1
theorem LyOK.g8 {S : Nat → Int32} {G D R : Nat} (h : LyOK S G D R) : S 8 = nI G := h.2.1
theorem LyOK.d9 {S : Nat → Int32} {G D R : Nat} (h : LyOK S G D R) : S 9 = nI D := h.2.2.1
theorem LyOK.r12 {S : Nat → Int32} {G D R : Nat} (h : LyOK S G D R) : S 12 = nI R := h.2.2.2.1
theorem LyOK.R120 {S : Nat → Int32} {G D R : Nat} (h : LyOK S G D R) : R ≤ 120 := h.2.2.2.2.1
theorem LyOK.gap {S : Nat → Int32} {G D R : Nat} (h : LyOK S G D R) : ∃ g, S 0 = nI g ∧ g ≤ 600 := h.2.2.2.2.2.1
theorem LyOK.sl {S : Nat → Int32} {G D R : Nat} (h : LyOK S G D R) : ∃ s, S 2 = nI s ∧ s ≤ 20 := h.2.2.2.2.2.2.1
theorem LyOK.g {S : Nat → Int32} {G D R : Nat} (h : LyOK S G D R) : ∀ r, r < R → ∃ g, g < G ∧ S (280 + 7 * r + 1) = nI g := h.2.2.2.2.2.2.2.1
theorem LyOK.t {S : Nat → Int32} {G D R : Nat} (h : LyOK S G D R) : ∀ r, r < R → ∃ t, t ≤ 100000 ∧ S (280 + 7 * r + 2) = nI t := h.2.2.2.2.2.2.2.2
/-- what laying trips keeps -/
def FtM (M M' : Ms) : Prop := (∀ k, (k < 8 ∨ k = 14) → mA M' k = mA M k) ∧ (∀ f, (f < 172 ∨ f = 184) → mF M' f = mF M f) ∧ mW M' = mW M
theorem FtM.trans {M M1 M2 : Ms} (h : FtM M M1) (h2 : FtM M1 M2) : FtM M M2 := ⟨fun k q => (h2.1 k q).trans (h.1 k q), fun f q => (h2.2.1 f q).trans (h.2.1 f q), h2.2.2.trans h.2.2⟩
theorem FtM.rf {M : Ms} : FtM M M := ⟨fun _ _ => rfl, fun _ _ => rfl, rfl⟩
theorem Fs.ft {M M' : Ms} (h : Fs M M') : FtM M M' := ⟨fun k q => h.1 k (by omega), fun f q => h.2.1 f (by omega), h.2.2⟩
def lstI (a : Nat × (Nat → Tp)) : Int32 := if a.1 = 0 then nN else nI (a.2 (a.1 - 1)).la
theorem elp_n {S : Nat → Int32} {G D R : Nat} (ok : LyOK S G D R) {a r : Nat} (ha : a < R) (hr : r < R) (hle : ¬ S (280 + 7 * r + 2) < S (280 + 7 * a + 2)) : ∃ e, elp S a r = nI e ∧ e ≤ 100000 := by
  obtain ⟨t1, l1, e1⟩ := ok.t a ha
  obtain ⟨t2, l2, e2⟩ := ok.t r hr
  rw [e1, e2] at hle
  have : t1 ≤ t2 := Nat.not_lt.mp (fun q => hle ((nI_ltI (by omega) (by omega)).mpr q))
  exact ⟨t2 - t1, by unfold elp; rw [e1, e2, pk_sub this], by omega⟩
theorem srt_get {S : Nat → Int32} {l : List Nat} (h : SrtT S l) {i j x y : Nat} (hij : j < i) (hi : l[i]? = some y) (hj : l[j]? = some x) : ¬ S (280 + 7 * y + 2) < S (280 + 7 * x + 2) := by
  have li := lt_of_get hi
  have lj := lt_of_get hj
  have e1 : l[i] = y := by rw [List.getElem?_eq_getElem li] at hi; exact Option.some.inj hi
  have e2 : l[j] = x := by rw [List.getElem?_eq_getElem lj] at hj; exact Option.some.inj hj
  have := List.pairwise_iff_getElem.mp h j i lj li hij
  rw [e1, e2] at this
  exact this
section
variable {A : Hp} {m0 d : Nat} {M : Ms}
theorem m_368' (h : mO A m0) {k T P : Nat} (hk : k < 120) (hT : mF M 185 = nI T) (hT2 : T < 120) (hP : mF M 186 = nI P) (hP2 : P < 900) : evG TB (d + 3) 368 [.ref m0, .int (nI k)] (hM A m0 M) = some (.inl none, hM A m0 (begM M T P (mA M 0 (280 + 7 * k + 1)))) := m_368 h hk hT hT2 hP hP2
theorem FtM_beg {N P i : Nat} {g x : Int32} : FtM M (uA (begM M N P g) 15 (upd (mA M 15) i x)) := by
  refine ⟨fun k q => ?_, fun f q => ?_, rfl⟩
  · unfold begM
    rw [mA_uA, if_neg (by omega), mA_uF, mA_uF, mA_uA, if_neg (by omega), mA_uA, if_neg (by omega), mA_uA, if_neg (by omega), mA_uA, if_neg (by omega), mA_uA, if_neg (by omega)]
  · unfold begM
    rw [mF_uA, mF_uF, if_neg (by omega), mF_uF, if_neg (by omega)]
    rfl
theorem FtM_gon {M1 : Ms} {N P r i : Nat} {c t x : Int32} : FtM M1 (uA (gonM M1 N P r c t) 15 (upd (mA M1 15) i x)) := by
  refine ⟨fun k q => ?_, fun f q => ?_, rfl⟩
  · unfold gonM
    rw [mA_uA, if_neg (by omega), mA_uF, mA_uA, if_neg (by omega), mA_uA, if_neg (by omega), mA_uA, if_neg (by omega), mA_uA, if_neg (by omega)]
  · unfold gonM
    rw [mF_uA, mF_uF, if_neg (by omega)]
    rfl
/-- one round -/
def LyIt (A : Hp) (m0 d : Nat) (v : Int32) (S : Nat → Int32) (G D : Nat) (M : Ms) (l : List Nat) (i N : Nat) (T : Nat → Tp) (r : Nat) : Prop := ∀ j4 j5 : Option Value, ∃ (M' : Ms) (i4 i5 : Option Value), exG TB (d + 5) 364 19 [some (.ref m0), some (.int v), some (.int (lstI (N, T))), some (.int (nI i)), j4, j5] [] (hM A m0 M) = exG TB (d + 5) 364 19 [some (.ref m0), some (.int v), some (.int (lstI (lyS S G D (N, T) r))), some (.int (nI (i + 1))), i4, i5] [] (hM A m0 M') ∧ FtM M M' ∧ TrM M' l (i + 1) (lyS S G D (N, T) r).1 (lyS S G D (N, T) r).2
theorem m_364_it0 (h : mO A m0) {S : Nat → Int32} {G D R : Nat} (ok : LyOK S G D R) (eS : mA M 0 = S) {v : Int32} {l : List Nat} (hl : l.length ≤ 120) (hm : ∀ x, x ∈ l → x < R) (h184 : mF M 184 = nI l.length) (h14 : RwL (mA M 14) l) {i r : Nat} {T : Nat → Tp} (tm : TrM M l i 0 T) (hr : l[i]? = some r) : LyIt A m0 d v S G D M l i 0 T r := by
  intro j4 j5
  have hi := lt_of_get hr
  have hrR : r < R := hm r (List.mem_of_getElem? hr)
  have R1 := ok.R120
  obtain ⟨g, g1, g2⟩ := ok.g r hrR
  have G12 := ok.net.G12
  have e14 := h14 i r hr
  have q := m_368' (d := d + 2) (M := M) (k := r) h (by omega) tm.n (by omega) tm.p (by show 0 < 900; omega)
  rw [eS, g2] at q
  have hs : lyS S G D (0, T) r = (1, upT T 0 (tpN S r)) := by unfold lyS; rw [if_pos rfl]
  refine ⟨uA (begM M 0 (pS T 0) (nI g)) 15 (upd (mA M 15) i (nI 0)), some (.int (nI r)), some (.int (nI 0)), ?_, FtM_beg, ?_⟩
  · rw [hs]
    have e1 : lstI (1, upT T 0 (tpN S r)) = nI r := by unfold lstI; rw [if_neg (show ¬ 1 = 0 by omega)]; rfl
    have e2 : lstI (0, T) = nN := by unfold lstI; rw [if_pos rfl]
    rw [e1, e2]
    refine x_364_19.trans ?_
    unfold begM at q ⊢
    simp (disch := omega) only [x_364_0, x_364_1, x_364_2, x_364_5, x_364_6, x_364_7, x_364_10, x_364_11, x_364_12, x_364_15, x_364_16, x_364_17, x_364_18, x_364_20, x_364_21, x_364_24, x_364_27, x_364_28, x_364_31, x_364_32, x_364_33, x_364_35, x_364_36, x_364_37, x_364_40, x_364_41, x_364_42, x_364_43, x_364_46, x_364_47, x_364_49, x_364_50, x_364_53, x_364_56, x_364_57, x_364_59, x_364_60, x_364_63, x_364_64, x_364_65, x_364_66, x_364_69, x_364_70, x_364_71, x_364_72, x_364_75, x_364_78, x_364_79, x_364_82, x_364_83, x_364_85, x_364_87, x_364_90, x_364_91, x_364_92, x_364_95, x_364_96, x_364_97, x_364_99, x_364_102, x_364_105, x_364_106, x_364_108, x_364_111, x_364_113, x_364_114, x_364_115, x_364_118, x_364_119, x_364_120, x_364_123, x_364_124, x_364_125, x_364_126, x_364_129, x_364_132, x_364_133, x_364_136, x_364_137, x_364_140, x_364_141, x_364_144, x_364_145, e_331, x_331_0, x_331_1, x_331_4, x_331_7, x_331_9, x_331_10, x_331_11, x_331_12, x_331_13, x_331_14, x_331_15, e_328, x_328_0, x_328_1, x_328_4, x_328_5, x_328_6, x_328_7, x_328_8, hm_c h, hm_148 h, hg_0 h, ha_0, hm_149 h, hg_1 h, ha_1, hm_150 h, hg_2 h, ha_2, hm_151 h, hg_3 h, ha_3, hm_152 h, hg_4 h, ha_4, hm_153 h, hg_5 h, ha_5, hm_154 h, hg_6 h, ha_6, hm_155 h, hs_155, hm_156 h, hg_7 h, ha_7, hm_157 h, hs_157, hm_158 h, hs_158, hm_159 h, hs_159, hm_160 h, hs_160, hm_161 h, hs_161, hm_162 h, hs_162, hm_163 h, hs_163, hm_164 h, hs_164, hm_165 h, hs_165, hm_166 h, hg_8 h, ha_8, hm_167 h, hg_9 h, ha_9, hm_168 h, hg_10 h, ha_10, hm_169 h, hg_11 h, ha_11, hm_170 h, hg_12 h, ha_12, hm_171 h, hg_13 h, ha_13, hm_172 h, hs_172, hm_173 h, hs_173, hm_174 h, hs_174, hm_175 h, hs_175, hm_176 h, hs_176, hm_177 h, hg_14 h, ha_14, hm_178 h, hg_15 h, ha_15, hm_179 h, hg_16 h, ha_16, hm_180 h, hg_17 h, ha_17, hm_181 h, hg_18 h, ha_18, hm_182 h, hg_19 h, ha_19, hm_183 h, hg_20 h, ha_20, hm_184 h, hs_184, hm_185 h, hs_185, hm_186 h, hs_186, mA_uA, mA_uF, mA_uW, mF_uA, mF_uF, mF_uW, mW_uA, mW_uF, mW_uW, uA_uA, uA_uF, uF_uF, bI0, kv_s, ki_s, kj_s, kd_s, kq_s, kq_n, kq_o, ka_s, kc_r, kc_t, kc0_r, kc0_t, kch_r, kc0h_r, kw_s, kw0_s, kwh_s, kw0h_s, rg_ref, rg_null, rg_rf, ck_t, sel_some, lkn_hd, Option.isSome_some, Bool.true_and, Bool.and_true, okv_i, okv_l, okv_r, okv_n, okv_rf, okv_b, okv_0, okv_1, okv_f, okv_d, c1_i, c1_r, c1_n, c1_rf, c1_f, nI_add, n_mul, n_sub, n_pred, n_eq, n_le, n_lt, n_neN, n_Nne, N_lt, N_le, n_ltN, n_leN, rdI_n, rdJ_n, rdD_n, wrI_n, wrI_z0, wrI_z1, wrI_zb, wrJ_n, wrD_n, aln_s, okn_n, upd_is, upd_ne, Nat.add_zero, Nat.add_sub_cancel, decide_true, decide_false, cond_true, cond_false, if_true, if_false, ite_not, not_true_eq_false, not_false_eq_true, Nat.reduceEqDiff, Nat.reduceAdd, Nat.reduceMul, Nat.reduceSub, Nat.reduceLeDiff, h184, nle hi, e14, q, Nat.zero_add]
  · rw [hs]
    exact tm.begin hr g2 (by omega)
theorem m_364_it (h : mO A m0) {S : Nat → Int32} {G D R : Nat} (ok : LyOK S G D R) (eS : mA M 0 = S) {v : Int32} {l : List Nat} (hl : l.length ≤ 120) (hm : ∀ x, x ∈ l → x < R) (hsr : SrtT S l) (h184 : mF M 184 = nI l.length) (h14 : RwL (mA M 14) l) {i r N : Nat} {T : Nat → Tp} (tm : TrM M l i (N + 1) T) (hr : l[i]? = some r) : LyIt A m0 d v S G D M l i (N + 1) T r := by
  intro j4 j5
  have hi := lt_of_get hr
  have hrR : r < R := hm r (List.mem_of_getElem? hr)
  have R1 := ok.R120
  obtain ⟨g, g1, g2⟩ := ok.g r hrR
  have G12 := ok.net.G12
  have e14 := h14 i r hr
  obtain ⟨le1, le2⟩ := tm.le
  obtain ⟨j, hj, ej⟩ := tm.la (by omega)
  rw [Nat.add_sub_cancel] at ej
  have haR : (T N).la < R := hm _ (List.mem_of_getElem? ej)
  obtain ⟨e, ee, e100⟩ := elp_n ok haR hrR (srt_get hsr hj hr ej)
  obtain ⟨gp, gp1, gp2⟩ := ok.gap
  obtain ⟨sl, sl1, sl2⟩ := ok.sl
  subst eS
  have e2 : lstI (N + 1, T) = nI (T N).la := by unfold lstI; rw [if_neg (by omega)]; rfl
  have qb := m_368' (d := d + 2) (M := M) (k := r) h (by omega) tm.n (by omega) tm.p (by omega)
  rw [g2] at qb
  -- a trip more
  have hsB : tpK (mA M 0) G D (T N) r = none → lyS (mA M 0) G D (N + 1, T) r = (N + 1 + 1, upT T (N + 1) (tpN (mA M 0) r)) := fun hk => by
    unfold lyS
    rw [if_neg (by omega)]
    dsimp only
    rw [Nat.add_sub_cancel, hk]
  have eB : lstI (N + 1 + 1, upT T (N + 1) (tpN (mA M 0) r)) = nI r := by
    unfold lstI
    rw [if_neg (by omega)]
    dsimp only
    rw [Nat.add_sub_cancel, upT_is rfl]
    rfl
  rcases pc (mA M 0 (280 + 7 * (T N).la + 1) = mA M 0 (280 + 7 * r + 1)) with c1 | c1
  · rcases pc (elp (mA M 0) (T N).la r ≤ mA M 0 1) with c2 | c2
    · have hk : tpK (mA M 0) G D (T N) r = some ⟨(T N).rs ++ [r], (T N).ps, (T N).la, (T N).co, (T N).to⟩ := by unfold tpK; rw [if_pos (of_eq_true c1), if_pos (of_eq_true c2)]
      have hs : lyS (mA M 0) G D (N + 1, T) r = (N + 1, upT T N ⟨(T N).rs ++ [r], (T N).ps, (T N).la, (T N).co, (T N).to⟩) := by
        unfold lyS
        rw [if_neg (by omega)]
        dsimp only
        rw [Nat.add_sub_cancel, hk]
      have e3 : lstI (N + 1, upT T N ⟨(T N).rs ++ [r], (T N).ps, (T N).la, (T N).co, (T N).to⟩) = nI (T N).la := by
        unfold lstI
        rw [if_neg (by omega)]
        dsimp only
        rw [Nat.add_sub_cancel, upT_is rfl]
      obtain ⟨t1, t2, t3⟩ := tm.tr N (by omega)
      refine ⟨uA M 15 (upd (mA M 15) i (nI N)), some (.int (nI r)), some (.int (nI 1)), ?_, ⟨fun k q => by rw [mA_uA, if_neg (by omega)], fun _ _ => rfl, rfl⟩, ?_⟩
      · rw [hs, e3, e2]
        refine x_364_19.trans ?_
        have n185 := tm.n
        have c3 : (mA M 0 1 < elp (mA M 0) (T N).la r) = False := eq_false (Int32.not_lt.mpr (of_eq_true c2))
        unfold elp at c3
        simp (disch := omega) only [x_364_0, x_364_1, x_364_2, x_364_5, x_364_6, x_364_7, x_364_10, x_364_11, x_364_12, x_364_15, x_364_16, x_364_17, x_364_18, x_364_20, x_364_21, x_364_24, x_364_27, x_364_28, x_364_31, x_364_32, x_364_33, x_364_35, x_364_36, x_364_37, x_364_40, x_364_41, x_364_42, x_364_43, x_364_46, x_364_47, x_364_49, x_364_50, x_364_53, x_364_56, x_364_57, x_364_59, x_364_60, x_364_63, x_364_64, x_364_65, x_364_66, x_364_69, x_364_70, x_364_71, x_364_72, x_364_75, x_364_78, x_364_79, x_364_82, x_364_83, x_364_85, x_364_87, x_364_90, x_364_91, x_364_92, x_364_95, x_364_96, x_364_97, x_364_99, x_364_102, x_364_105, x_364_106, x_364_108, x_364_111, x_364_113, x_364_114, x_364_115, x_364_118, x_364_119, x_364_120, x_364_123, x_364_124, x_364_125, x_364_126, x_364_129, x_364_132, x_364_133, x_364_136, x_364_137, x_364_140, x_364_141, x_364_144, x_364_145, e_331, x_331_0, x_331_1, x_331_4, x_331_7, x_331_9, x_331_10, x_331_11, x_331_12, x_331_13, x_331_14, x_331_15, e_328, x_328_0, x_328_1, x_328_4, x_328_5, x_328_6, x_328_7, x_328_8, hm_c h, hm_148 h, hg_0 h, ha_0, hm_149 h, hg_1 h, ha_1, hm_150 h, hg_2 h, ha_2, hm_151 h, hg_3 h, ha_3, hm_152 h, hg_4 h, ha_4, hm_153 h, hg_5 h, ha_5, hm_154 h, hg_6 h, ha_6, hm_155 h, hs_155, hm_156 h, hg_7 h, ha_7, hm_157 h, hs_157, hm_158 h, hs_158, hm_159 h, hs_159, hm_160 h, hs_160, hm_161 h, hs_161, hm_162 h, hs_162, hm_163 h, hs_163, hm_164 h, hs_164, hm_165 h, hs_165, hm_166 h, hg_8 h, ha_8, hm_167 h, hg_9 h, ha_9, hm_168 h, hg_10 h, ha_10, hm_169 h, hg_11 h, ha_11, hm_170 h, hg_12 h, ha_12, hm_171 h, hg_13 h, ha_13, hm_172 h, hs_172, hm_173 h, hs_173, hm_174 h, hs_174, hm_175 h, hs_175, hm_176 h, hs_176, hm_177 h, hg_14 h, ha_14, hm_178 h, hg_15 h, ha_15, hm_179 h, hg_16 h, ha_16, hm_180 h, hg_17 h, ha_17, hm_181 h, hg_18 h, ha_18, hm_182 h, hg_19 h, ha_19, hm_183 h, hg_20 h, ha_20, hm_184 h, hs_184, hm_185 h, hs_185, hm_186 h, hs_186, mA_uA, mA_uF, mA_uW, mF_uA, mF_uF, mF_uW, mW_uA, mW_uF, mW_uW, uA_uA, uA_uF, uF_uF, bI0, kv_s, ki_s, kj_s, kd_s, kq_s, kq_n, kq_o, ka_s, kc_r, kc_t, kc0_r, kc0_t, kch_r, kc0h_r, kw_s, kw0_s, kwh_s, kw0h_s, rg_ref, rg_null, rg_rf, ck_t, sel_some, lkn_hd, Option.isSome_some, Bool.true_and, Bool.and_true, okv_i, okv_l, okv_r, okv_n, okv_rf, okv_b, okv_0, okv_1, okv_f, okv_d, c1_i, c1_r, c1_n, c1_rf, c1_f, nI_add, n_mul, n_sub, n_pred, n_eq, n_le, n_lt, n_neN, n_Nne, N_lt, N_le, n_ltN, n_leN, rdI_n, rdJ_n, rdD_n, wrI_n, wrI_z0, wrI_z1, wrI_zb, wrJ_n, wrD_n, aln_s, okn_n, upd_is, upd_ne, Nat.add_zero, Nat.add_sub_cancel, decide_true, decide_false, cond_true, cond_false, if_true, if_false, ite_not, not_true_eq_false, not_false_eq_true, Nat.reduceEqDiff, Nat.reduceAdd, Nat.reduceMul, Nat.reduceSub, Nat.reduceLeDiff, h184, nle hi, e14, c1, c3, n185]
      · rw [hs]
        refine tm.more (wl := []) hr rfl (by rw [List.append_nil]) (by show 0 ≤ 6; omega) rfl ?_ rfl (fun n _ => rfl) ?_ (fun n _ => rfl) ?_ (fun q _ => ⟨rfl, rfl⟩) (fun k x hx => by cases hx) (by rw [mA_uA, if_pos rfl]) (Or.inl rfl)
        · exact tm.p
        · exact t2
        · exact t3
    · have hk : tpK (mA M 0) G D (T N) r = none := by unfold tpK; rw [if_pos (of_eq_true c1), if_neg (of_eq_false c2)]
      refine ⟨uA (begM M (N + 1) (pS T (N + 1)) (nI g)) 15 (upd (mA M 15) i (nI (N + 1))), some (.int (nI r)), some (.int (nI 0)), ?_, FtM_beg, by rw [hsB hk]; exact tm.begin hr g2 (by omega)⟩
      rw [hsB hk, eB, e2]
      refine x_364_19.trans ?_
      have qg := m_366_f1 (d := d + 1) (M := M) h (a := (T N).la) (k := r) R1 haR hrR (of_eq_true c1)
      have c3 : (mA M 0 1 < elp (mA M 0) (T N).la r) = True := eq_true (Int32.not_le.mp (of_eq_false c2))
      unfold elp at c3
      unfold begM at qb ⊢
      simp (disch := omega) only [x_364_0, x_364_1, x_364_2, x_364_5, x_364_6, x_364_7, x_364_10, x_364_11, x_364_12, x_364_15, x_364_16, x_364_17, x_364_18, x_364_20, x_364_21, x_364_24, x_364_27, x_364_28, x_364_31, x_364_32, x_364_33, x_364_35, x_364_36, x_364_37, x_364_40, x_364_41, x_364_42, x_364_43, x_364_46, x_364_47, x_364_49, x_364_50, x_364_53, x_364_56, x_364_57, x_364_59, x_364_60, x_364_63, x_364_64, x_364_65, x_364_66, x_364_69, x_364_70, x_364_71, x_364_72, x_364_75, x_364_78, x_364_79, x_364_82, x_364_83, x_364_85, x_364_87, x_364_90, x_364_91, x_364_92, x_364_95, x_364_96, x_364_97, x_364_99, x_364_102, x_364_105, x_364_106, x_364_108, x_364_111, x_364_113, x_364_114, x_364_115, x_364_118, x_364_119, x_364_120, x_364_123, x_364_124, x_364_125, x_364_126, x_364_129, x_364_132, x_364_133, x_364_136, x_364_137, x_364_140, x_364_141, x_364_144, x_364_145, e_331, x_331_0, x_331_1, x_331_4, x_331_7, x_331_9, x_331_10, x_331_11, x_331_12, x_331_13, x_331_14, x_331_15, e_328, x_328_0, x_328_1, x_328_4, x_328_5, x_328_6, x_328_7, x_328_8, hm_c h, hm_148 h, hg_0 h, ha_0, hm_149 h, hg_1 h, ha_1, hm_150 h, hg_2 h, ha_2, hm_151 h, hg_3 h, ha_3, hm_152 h, hg_4 h, ha_4, hm_153 h, hg_5 h, ha_5, hm_154 h, hg_6 h, ha_6, hm_155 h, hs_155, hm_156 h, hg_7 h, ha_7, hm_157 h, hs_157, hm_158 h, hs_158, hm_159 h, hs_159, hm_160 h, hs_160, hm_161 h, hs_161, hm_162 h, hs_162, hm_163 h, hs_163, hm_164 h, hs_164, hm_165 h, hs_165, hm_166 h, hg_8 h, ha_8, hm_167 h, hg_9 h, ha_9, hm_168 h, hg_10 h, ha_10, hm_169 h, hg_11 h, ha_11, hm_170 h, hg_12 h, ha_12, hm_171 h, hg_13 h, ha_13, hm_172 h, hs_172, hm_173 h, hs_173, hm_174 h, hs_174, hm_175 h, hs_175, hm_176 h, hs_176, hm_177 h, hg_14 h, ha_14, hm_178 h, hg_15 h, ha_15, hm_179 h, hg_16 h, ha_16, hm_180 h, hg_17 h, ha_17, hm_181 h, hg_18 h, ha_18, hm_182 h, hg_19 h, ha_19, hm_183 h, hg_20 h, ha_20, hm_184 h, hs_184, hm_185 h, hs_185, hm_186 h, hs_186, mA_uA, mA_uF, mA_uW, mF_uA, mF_uF, mF_uW, mW_uA, mW_uF, mW_uW, uA_uA, uA_uF, uF_uF, bI0, kv_s, ki_s, kj_s, kd_s, kq_s, kq_n, kq_o, ka_s, kc_r, kc_t, kc0_r, kc0_t, kch_r, kc0h_r, kw_s, kw0_s, kwh_s, kw0h_s, rg_ref, rg_null, rg_rf, ck_t, sel_some, lkn_hd, Option.isSome_some, Bool.true_and, Bool.and_true, okv_i, okv_l, okv_r, okv_n, okv_rf, okv_b, okv_0, okv_1, okv_f, okv_d, c1_i, c1_r, c1_n, c1_rf, c1_f, nI_add, n_mul, n_sub, n_pred, n_eq, n_le, n_lt, n_neN, n_Nne, N_lt, N_le, n_ltN, n_leN, rdI_n, rdJ_n, rdD_n, wrI_n, wrI_z0, wrI_z1, wrI_zb, wrJ_n, wrD_n, aln_s, okn_n, upd_is, upd_ne, Nat.add_zero, Nat.add_sub_cancel, decide_true, decide_false, cond_true, cond_false, if_true, if_false, ite_not, not_true_eq_false, not_false_eq_true, Nat.reduceEqDiff, Nat.reduceAdd, Nat.reduceMul, Nat.reduceSub, Nat.reduceLeDiff, h184, nle hi, e14, c1, c3, qb, qg]
  · rcases pc (elp (mA M 0) (T N).la r ≤ mA M 0 0) with c2 | c2
    · have e600 : e ≤ 600 := by
        have := of_eq_true c2
        rw [ee, gp1] at this
        have := (nI_leI (by omega) (by omega)).mp this
        omega
      rcases pc ((tpB (mA M 0) G D (T N).la r).1 = far) with c3 | c3
      · have hk : tpK (mA M 0) G D (T N) r = none := by unfold tpK; rw [if_neg (of_eq_false c1), if_neg (Int32.not_lt.mpr (of_eq_true c2)), if_pos (of_eq_true c3)]
        obtain ⟨M1, qg, f1⟩ := m_366_n (d := d + 1) (M := M) h (a := (T N).la) (k := r) R1 haR hrR ok.net ok.g8 ok.d9 sl1 sl2 c1 g2 g1 c2 ee e600 (of_eq_true c3)
        have tm1 : TrM M1 l i (N + 1) T := tm.congr (fun k hk => f1.1 k (by omega)) (fun f hf => f1.2.1 f (by omega))
        have eS1 : mA M1 0 = mA M 0 := f1.1 0 (by omega)
        have qb1 := m_368' (d := d + 2) (M := M1) (k := r) h (by omega) tm1.n (by omega) tm1.p (by omega)
        rw [eS1, g2] at qb1
        refine ⟨uA (begM M1 (N + 1) (pS T (N + 1)) (nI g)) 15 (upd (mA M1 15) i (nI (N + 1))), some (.int (nI r)), some (.int (nI 0)), ?_, f1.ft.trans FtM_beg, by rw [hsB hk]; exact tm1.begin hr g2 (by omega)⟩
        rw [hsB hk, eB, e2]
        refine x_364_19.trans ?_
        rw [g2] at c1
        unfold begM at qb1 ⊢
        simp (disch := omega) only [x_364_0, x_364_1, x_364_2, x_364_5, x_364_6, x_364_7, x_364_10, x_364_11, x_364_12, x_364_15, x_364_16, x_364_17, x_364_18, x_364_20, x_364_21, x_364_24, x_364_27, x_364_28, x_364_31, x_364_32, x_364_33, x_364_35, x_364_36, x_364_37, x_364_40, x_364_41, x_364_42, x_364_43, x_364_46, x_364_47, x_364_49, x_364_50, x_364_53, x_364_56, x_364_57, x_364_59, x_364_60, x_364_63, x_364_64, x_364_65, x_364_66, x_364_69, x_364_70, x_364_71, x_364_72, x_364_75, x_364_78, x_364_79, x_364_82, x_364_83, x_364_85, x_364_87, x_364_90, x_364_91, x_364_92, x_364_95, x_364_96, x_364_97, x_364_99, x_364_102, x_364_105, x_364_106, x_364_108, x_364_111, x_364_113, x_364_114, x_364_115, x_364_118, x_364_119, x_364_120, x_364_123, x_364_124, x_364_125, x_364_126, x_364_129, x_364_132, x_364_133, x_364_136, x_364_137, x_364_140, x_364_141, x_364_144, x_364_145, e_331, x_331_0, x_331_1, x_331_4, x_331_7, x_331_9, x_331_10, x_331_11, x_331_12, x_331_13, x_331_14, x_331_15, e_328, x_328_0, x_328_1, x_328_4, x_328_5, x_328_6, x_328_7, x_328_8, hm_c h, hm_148 h, hg_0 h, ha_0, hm_149 h, hg_1 h, ha_1, hm_150 h, hg_2 h, ha_2, hm_151 h, hg_3 h, ha_3, hm_152 h, hg_4 h, ha_4, hm_153 h, hg_5 h, ha_5, hm_154 h, hg_6 h, ha_6, hm_155 h, hs_155, hm_156 h, hg_7 h, ha_7, hm_157 h, hs_157, hm_158 h, hs_158, hm_159 h, hs_159, hm_160 h, hs_160, hm_161 h, hs_161, hm_162 h, hs_162, hm_163 h, hs_163, hm_164 h, hs_164, hm_165 h, hs_165, hm_166 h, hg_8 h, ha_8, hm_167 h, hg_9 h, ha_9, hm_168 h, hg_10 h, ha_10, hm_169 h, hg_11 h, ha_11, hm_170 h, hg_12 h, ha_12, hm_171 h, hg_13 h, ha_13, hm_172 h, hs_172, hm_173 h, hs_173, hm_174 h, hs_174, hm_175 h, hs_175, hm_176 h, hs_176, hm_177 h, hg_14 h, ha_14, hm_178 h, hg_15 h, ha_15, hm_179 h, hg_16 h, ha_16, hm_180 h, hg_17 h, ha_17, hm_181 h, hg_18 h, ha_18, hm_182 h, hg_19 h, ha_19, hm_183 h, hg_20 h, ha_20, hm_184 h, hs_184, hm_185 h, hs_185, hm_186 h, hs_186, mA_uA, mA_uF, mA_uW, mF_uA, mF_uF, mF_uW, mW_uA, mW_uF, mW_uW, uA_uA, uA_uF, uF_uF, bI0, kv_s, ki_s, kj_s, kd_s, kq_s, kq_n, kq_o, ka_s, kc_r, kc_t, kc0_r, kc0_t, kch_r, kc0h_r, kw_s, kw0_s, kwh_s, kw0h_s, rg_ref, rg_null, rg_rf, ck_t, sel_some, lkn_hd, Option.isSome_some, Bool.true_and, Bool.and_true, okv_i, okv_l, okv_r, okv_n, okv_rf, okv_b, okv_0, okv_1, okv_f, okv_d, c1_i, c1_r, c1_n, c1_rf, c1_f, nI_add, n_mul, n_sub, n_pred, n_eq, n_le, n_lt, n_neN, n_Nne, N_lt, N_le, n_ltN, n_leN, rdI_n, rdJ_n, rdD_n, wrI_n, wrI_z0, wrI_z1, wrI_zb, wrJ_n, wrD_n, aln_s, okn_n, upd_is, upd_ne, Nat.add_zero, Nat.add_sub_cancel, decide_true, decide_false, cond_true, cond_false, if_true, if_false, ite_not, not_true_eq_false, not_false_eq_true, Nat.reduceEqDiff, Nat.reduceAdd, Nat.reduceMul, Nat.reduceSub, Nat.reduceLeDiff, h184, nle hi, e14, g2, c1, qb1, qg]
      · have hP := tm.p
        obtain ⟨M1, wr, fd, f1, wy, qg⟩ := m_366_t (d := d + 1) (M := M) h (a := (T N).la) (k := r) R1 haR hrR ok.net ok.g8 ok.d9 sl1 sl2 c1 g2 g1 c2 ee e600 (of_eq_false c3) tm.n (by omega) (by omega) tm.p (by omega)
        have hrd : (tpB (mA M 0) G D (T N).la r).2.1.toNatClampNeg = wr := by rw [fd.rd, n_cl (by have := fd.r6; omega)]
        have hk : tpK (mA M 0) G D (T N) r = some ⟨(T N).rs ++ [r], (T N).ps ++ wyP (tpB (mA M 0) G D (T N).la r).2.2.2.2.2 wr, r, (T N).co + (tpB (mA M 0) G D (T N).la r).1, (T N).to + (tpB (mA M 0) G D (T N).la r).2.2.1⟩ := by
          unfold tpK
          rw [if_neg (of_eq_false c1), if_neg (Int32.not_lt.mpr (of_eq_true c2)), if_neg (of_eq_false c3), hrd]
        have hs : lyS (mA M 0) G D (N + 1, T) r = (N + 1, upT T N ⟨(T N).rs ++ [r], (T N).ps ++ wyP (tpB (mA M 0) G D (T N).la r).2.2.2.2.2 wr, r, (T N).co + (tpB (mA M 0) G D (T N).la r).1, (T N).to + (tpB (mA M 0) G D (T N).la r).2.2.1⟩) := by
          unfold lyS
          rw [if_neg (by omega)]
          dsimp only
          rw [Nat.add_sub_cancel, hk]
        have tm1 : TrM M1 l i (N + 1) T := tm.congr (fun k hk => f1.1 k (by omega)) (fun f hf => f1.2.1 f (by omega))
        obtain ⟨t1, t2, t3⟩ := tm1.tr N (by omega)
        have r6 := fd.r6
        have wl : (wyP (tpB (mA M 0) G D (T N).la r).2.2.2.2.2 wr).length = wr := by unfold wyP; rw [List.length_map, List.length_range]
        refine ⟨uA (gonM M1 (N + 1) (pS T (N + 1)) wr (tpB (mA M 0) G D (T N).la r).1 (tpB (mA M 0) G D (T N).la r).2.2.1) 15 (upd (mA M1 15) i (nI N)), some (.int (nI r)), some (.int (nI 0)), ?_, f1.ft.trans FtM_gon, ?_⟩
        · rw [hs, e2]
          have e3 : ∀ t : Tp, t.la = r → lstI (N + 1, upT T N t) = nI r := fun t ht => by
            unfold lstI
            rw [if_neg (by omega)]
            dsimp only
            rw [Nat.add_sub_cancel, upT_is rfl, ht]
          rw [e3 _ rfl]
          refine x_364_19.trans ?_
          rw [g2] at c1
          have n185 := tm1.n
          unfold gonM at qg ⊢
          simp (disch := omega) only [x_364_0, x_364_1, x_364_2, x_364_5, x_364_6, x_364_7, x_364_10, x_364_11, x_364_12, x_364_15, x_364_16, x_364_17, x_364_18, x_364_20, x_364_21, x_364_24, x_364_27, x_364_28, x_364_31, x_364_32, x_364_33, x_364_35, x_364_36, x_364_37, x_364_40, x_364_41, x_364_42, x_364_43, x_364_46, x_364_47, x_364_49, x_364_50, x_364_53, x_364_56, x_364_57, x_364_59, x_364_60, x_364_63, x_364_64, x_364_65, x_364_66, x_364_69, x_364_70, x_364_71, x_364_72, x_364_75, x_364_78, x_364_79, x_364_82, x_364_83, x_364_85, x_364_87, x_364_90, x_364_91, x_364_92, x_364_95, x_364_96, x_364_97, x_364_99, x_364_102, x_364_105, x_364_106, x_364_108, x_364_111, x_364_113, x_364_114, x_364_115, x_364_118, x_364_119, x_364_120, x_364_123, x_364_124, x_364_125, x_364_126, x_364_129, x_364_132, x_364_133, x_364_136, x_364_137, x_364_140, x_364_141, x_364_144, x_364_145, e_331, x_331_0, x_331_1, x_331_4, x_331_7, x_331_9, x_331_10, x_331_11, x_331_12, x_331_13, x_331_14, x_331_15, e_328, x_328_0, x_328_1, x_328_4, x_328_5, x_328_6, x_328_7, x_328_8, hm_c h, hm_148 h, hg_0 h, ha_0, hm_149 h, hg_1 h, ha_1, hm_150 h, hg_2 h, ha_2, hm_151 h, hg_3 h, ha_3, hm_152 h, hg_4 h, ha_4, hm_153 h, hg_5 h, ha_5, hm_154 h, hg_6 h, ha_6, hm_155 h, hs_155, hm_156 h, hg_7 h, ha_7, hm_157 h, hs_157, hm_158 h, hs_158, hm_159 h, hs_159, hm_160 h, hs_160, hm_161 h, hs_161, hm_162 h, hs_162, hm_163 h, hs_163, hm_164 h, hs_164, hm_165 h, hs_165, hm_166 h, hg_8 h, ha_8, hm_167 h, hg_9 h, ha_9, hm_168 h, hg_10 h, ha_10, hm_169 h, hg_11 h, ha_11, hm_170 h, hg_12 h, ha_12, hm_171 h, hg_13 h, ha_13, hm_172 h, hs_172, hm_173 h, hs_173, hm_174 h, hs_174, hm_175 h, hs_175, hm_176 h, hs_176, hm_177 h, hg_14 h, ha_14, hm_178 h, hg_15 h, ha_15, hm_179 h, hg_16 h, ha_16, hm_180 h, hg_17 h, ha_17, hm_181 h, hg_18 h, ha_18, hm_182 h, hg_19 h, ha_19, hm_183 h, hg_20 h, ha_20, hm_184 h, hs_184, hm_185 h, hs_185, hm_186 h, hs_186, mA_uA, mA_uF, mA_uW, mF_uA, mF_uF, mF_uW, mW_uA, mW_uF, mW_uW, uA_uA, uA_uF, uF_uF, bI0, kv_s, ki_s, kj_s, kd_s, kq_s, kq_n, kq_o, ka_s, kc_r, kc_t, kc0_r, kc0_t, kch_r, kc0h_r, kw_s, kw0_s, kwh_s, kw0h_s, rg_ref, rg_null, rg_rf, ck_t, sel_some, lkn_hd, Option.isSome_some, Bool.true_and, Bool.and_true, okv_i, okv_l, okv_r, okv_n, okv_rf, okv_b, okv_0, okv_1, okv_f, okv_d, c1_i, c1_r, c1_n, c1_rf, c1_f, nI_add, n_mul, n_sub, n_pred, n_eq, n_le, n_lt, n_neN, n_Nne, N_lt, N_le, n_ltN, n_leN, rdI_n, rdJ_n, rdD_n, wrI_n, wrI_z0, wrI_z1, wrI_zb, wrJ_n, wrD_n, aln_s, okn_n, upd_is, upd_ne, Nat.add_zero, Nat.add_sub_cancel, decide_true, decide_false, cond_true, cond_false, if_true, if_false, ite_not, not_true_eq_false, not_false_eq_true, Nat.reduceEqDiff, Nat.reduceAdd, Nat.reduceMul, Nat.reduceSub, Nat.reduceLeDiff, h184, nle hi, e14, g2, c1, qg, n185]
        · rw [hs]
          refine tm1.more (wl := wyP (tpB (mA M 0) G D (T N).la r).2.2.2.2.2 wr) hr rfl rfl (by rw [wl]; exact r6) ?_ ?_ ?_ (fun n hn => ?_) ?_ (fun n hn => ?_) ?_ (fun q hq => ?_) (fun k x hx => ?_) ?_ (Or.inr rfl)
          all_goals unfold gonM
          · simp only [mF_uA, mF_uF, Nat.reduceEqDiff, if_false]
          · rw [wl]; simp only [mF_uA, mF_uF, if_true]
          · simp only [mA_uA, mA_uF, Nat.reduceEqDiff, if_false]
          · simp only [mA_uA, mA_uF, Nat.reduceEqDiff, if_false, if_true]
            exact upd_ne (by omega)
          · simp only [mA_uA, mA_uF, Nat.reduceEqDiff, if_false, if_true]
            rw [upd_is (by omega), Nat.add_sub_cancel, t2]
          · simp only [mA_uA, mA_uF, Nat.reduceEqDiff, if_false, if_true]
            exact upd_ne (by omega)
          · simp only [mA_uA, mA_uF, Nat.reduceEqDiff, if_false, if_true]
            rw [upd_is (by omega), Nat.add_sub_cancel, t3]
          · simp only [mA_uA, mA_uF, Nat.reduceEqDiff, if_false, if_true]
            unfold cpyR mkR
            rw [if_neg (by omega), if_neg (by omega)]
            exact ⟨rfl, rfl⟩
          · have hk1 := lt_of_get hx
            rw [wl] at hk1
            have ex : x = (((tpB (mA M 0) G D (T N).la r).2.2.2.2.2 (k + 1)).toNatClampNeg, decide (k + 1 < wr)) := by
              unfold wyP at hx
              rw [List.getElem?_map, List.getElem?_range hk1] at hx
              exact (Option.some.inj hx).symm
            subst ex
            have hw : ∃ y, y < 12 ∧ (tpB (mA M 0) G D (T N).la r).2.2.2.2.2 (k + 1) = nI y := by
              by_cases q : k + 1 = wr
              · rw [q]; exact ⟨g, by omega, fd.e⟩
              · obtain ⟨y, y1, _, y2⟩ := fd.g (k + 1) (by omega) (by omega)
                exact ⟨y, by omega, y2⟩
            obtain ⟨y, y1, y2⟩ := hw
            have w1 := wy (k + 1) (by omega)
            rw [y2] at w1
            simp only [mA_uA, mA_uF, Nat.reduceEqDiff, if_false, if_true]
            unfold cpyR mkR
            rw [if_pos (by omega), if_pos (by omega), Nat.add_sub_cancel_left, Nat.add_comm 1 k, w1, y2, n_cl (by omega)]
            exact ⟨rfl, rfl⟩
          · rw [mA_uA, if_pos rfl]
    · have hk : tpK (mA M 0) G D (T N) r = none := by unfold tpK; rw [if_neg (of_eq_false c1), if_pos (Int32.not_le.mp (of_eq_false c2))]
      refine ⟨uA (begM M (N + 1) (pS T (N + 1)) (nI g)) 15 (upd (mA M 15) i (nI (N + 1))), some (.int (nI r)), some (.int (nI 0)), ?_, FtM_beg, by rw [hsB hk]; exact tm.begin hr g2 (by omega)⟩
      rw [hsB hk, eB, e2]
      refine x_364_19.trans ?_
      have qg := m_366_f2 (d := d + 1) (M := M) h (a := (T N).la) (k := r) R1 haR hrR c1 c2
      rw [g2] at c1
      unfold begM at qb ⊢
      simp (disch := omega) only [x_364_0, x_364_1, x_364_2, x_364_5, x_364_6, x_364_7, x_364_10, x_364_11, x_364_12, x_364_15, x_364_16, x_364_17, x_364_18, x_364_20, x_364_21, x_364_24, x_364_27, x_364_28, x_364_31, x_364_32, x_364_33, x_364_35, x_364_36, x_364_37, x_364_40, x_364_41, x_364_42, x_364_43, x_364_46, x_364_47, x_364_49, x_364_50, x_364_53, x_364_56, x_364_57, x_364_59, x_364_60, x_364_63, x_364_64, x_364_65, x_364_66, x_364_69, x_364_70, x_364_71, x_364_72, x_364_75, x_364_78, x_364_79, x_364_82, x_364_83, x_364_85, x_364_87, x_364_90, x_364_91, x_364_92, x_364_95, x_364_96, x_364_97, x_364_99, x_364_102, x_364_105, x_364_106, x_364_108, x_364_111, x_364_113, x_364_114, x_364_115, x_364_118, x_364_119, x_364_120, x_364_123, x_364_124, x_364_125, x_364_126, x_364_129, x_364_132, x_364_133, x_364_136, x_364_137, x_364_140, x_364_141, x_364_144, x_364_145, e_331, x_331_0, x_331_1, x_331_4, x_331_7, x_331_9, x_331_10, x_331_11, x_331_12, x_331_13, x_331_14, x_331_15, e_328, x_328_0, x_328_1, x_328_4, x_328_5, x_328_6, x_328_7, x_328_8, hm_c h, hm_148 h, hg_0 h, ha_0, hm_149 h, hg_1 h, ha_1, hm_150 h, hg_2 h, ha_2, hm_151 h, hg_3 h, ha_3, hm_152 h, hg_4 h, ha_4, hm_153 h, hg_5 h, ha_5, hm_154 h, hg_6 h, ha_6, hm_155 h, hs_155, hm_156 h, hg_7 h, ha_7, hm_157 h, hs_157, hm_158 h, hs_158, hm_159 h, hs_159, hm_160 h, hs_160, hm_161 h, hs_161, hm_162 h, hs_162, hm_163 h, hs_163, hm_164 h, hs_164, hm_165 h, hs_165, hm_166 h, hg_8 h, ha_8, hm_167 h, hg_9 h, ha_9, hm_168 h, hg_10 h, ha_10, hm_169 h, hg_11 h, ha_11, hm_170 h, hg_12 h, ha_12, hm_171 h, hg_13 h, ha_13, hm_172 h, hs_172, hm_173 h, hs_173, hm_174 h, hs_174, hm_175 h, hs_175, hm_176 h, hs_176, hm_177 h, hg_14 h, ha_14, hm_178 h, hg_15 h, ha_15, hm_179 h, hg_16 h, ha_16, hm_180 h, hg_17 h, ha_17, hm_181 h, hg_18 h, ha_18, hm_182 h, hg_19 h, ha_19, hm_183 h, hg_20 h, ha_20, hm_184 h, hs_184, hm_185 h, hs_185, hm_186 h, hs_186, mA_uA, mA_uF, mA_uW, mF_uA, mF_uF, mF_uW, mW_uA, mW_uF, mW_uW, uA_uA, uA_uF, uF_uF, bI0, kv_s, ki_s, kj_s, kd_s, kq_s, kq_n, kq_o, ka_s, kc_r, kc_t, kc0_r, kc0_t, kch_r, kc0h_r, kw_s, kw0_s, kwh_s, kw0h_s, rg_ref, rg_null, rg_rf, ck_t, sel_some, lkn_hd, Option.isSome_some, Bool.true_and, Bool.and_true, okv_i, okv_l, okv_r, okv_n, okv_rf, okv_b, okv_0, okv_1, okv_f, okv_d, c1_i, c1_r, c1_n, c1_rf, c1_f, nI_add, n_mul, n_sub, n_pred, n_eq, n_le, n_lt, n_neN, n_Nne, N_lt, N_le, n_ltN, n_leN, rdI_n, rdJ_n, rdD_n, wrI_n, wrI_z0, wrI_z1, wrI_zb, wrJ_n, wrD_n, aln_s, okn_n, upd_is, upd_ne, Nat.add_zero, Nat.add_sub_cancel, decide_true, decide_false, cond_true, cond_false, if_true, if_false, ite_not, not_true_eq_false, not_false_eq_true, Nat.reduceEqDiff, Nat.reduceAdd, Nat.reduceMul, Nat.reduceSub, Nat.reduceLeDiff, h184, nle hi, e14, g2, c1, qb, qg]
end
