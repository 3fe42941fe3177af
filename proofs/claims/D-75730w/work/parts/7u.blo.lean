/-! the model bills a vehicle's trips -/
/-- from trip c on, of k at most: how many are billed in the end, the row then -/
def blL (T : Nat → Tp) (v : Nat) (u : Int32) : Nat → Nat → (Nat → Int32) → Nat × (Nat → Int32)
  | 0, c, S => (c, S)
  | k + 1, c, S => if S 13 < nI 60 ∧ lstT S (T c) + S 0 < u then blL T v u k (c + 1) (blT S v (S 13).toNatClampNeg (S 14).toNatClampNeg (T c)) else (c, S)
/-- one vehicle billed -/
def blO (S : Nat → Int32) (G D R v : Nat) (u : Int32) : Nat × (Nat → Int32) := blL (tps S G D R (nI v)).2 v u (tps S G D R (nI v)).1 0 S
theorem mkB_c {B j : Nat} : ∀ {rs : List Nat} {S : Nat → Int32}, (∀ r, r ∈ rs → j ≠ 280 + 7 * r + 5 ∧ j ≠ 280 + 7 * r + 6) → rs.foldl (fun S r => mkB B r S) S j = S j
  | [], _, _ => rfl
  | r :: rs, S, h => by
    show rs.foldl (fun S r => mkB B r S) (mkB B r S) j = S j
    rw [mkB_c (fun x hx => h x (List.mem_cons_of_mem _ hx))]
    unfold mkB
    rw [upd_ne (h r List.mem_cons_self).2, upd_ne (h r List.mem_cons_self).1]
/-- what billing a trip keeps -/
theorem blT_c {S : Nat → Int32} {v B P j : Nat} {t : Tp} (hv : v < 15) (ha : AcOK S v) (hj : j < 1120) (h13 : j ≠ 13) (h14 : j ≠ 14) (h2 : j < 187 ∨ 235 ≤ j) (h3 : j ≠ 235 + 3 * v + 2) (h4 : ∀ r, r ∈ t.rs → j ≠ 280 + 7 * r + 5 ∧ j ≠ 280 + 7 * r + 6) : blT S v B P t j = S j := by
  unfold blT
  rw [upd_ne h13, mkB_c h4]
  unfold chS
  have e : ∀ p j, j < 1120 → j ≠ 14 → kpS (blH S v B t p) B P t.ps j = S j := fun _ j h1 h2 => by rw [kpS_c h1 h2, blH_c h1]
  have ea : acN (kpS (blH S v B t (prcV S v (gotV S v))) B P t.ps) v = acN S v := by unfold acN; rw [e _ _ (by omega) (by omega)]
  rw [e _ (235 + 3 * v + 1) (by omega) (by omega), ea]
  have a8 : S (235 + 3 * v + 1) = nN ∨ acN S v < 8 := by
    rcases ha with ha | ⟨a, a8, ha⟩
    · exact Or.inl ha
    · refine Or.inr ?_
      unfold acN
      rw [ha, n_cl (by omega)]
      exact a8
  by_cases q : S (235 + 3 * v + 1) = nN
  · rw [if_pos q, upd_ne h3, e _ _ hj h14]
  · rw [if_neg q]
    have := a8.resolve_left q
    rw [upd_ne (by omega), upd_ne (by omega), upd_ne (by omega), e _ _ hj h14]
theorem blT_13 {S : Nat → Int32} {v B P : Nat} {t : Tp} : blT S v B P t 13 = nI (B + 1) := by
  unfold blT
  exact upd_is rfl
theorem blT_14 {S : Nat → Int32} {v B P : Nat} {t : Tp} (hv : v < 15) (ha : AcOK S v) : blT S v B P t 14 = nI (P + t.ps.length) := by
  unfold blT
  rw [upd_ne (by omega), mkB_c (fun r _ => by omega)]
  unfold chS
  have e : ∀ p j, j < 1120 → j ≠ 14 → kpS (blH S v B t p) B P t.ps j = S j := fun _ j h1 h2 => by rw [kpS_c h1 h2, blH_c h1]
  have ea : acN (kpS (blH S v B t (prcV S v (gotV S v))) B P t.ps) v = acN S v := by unfold acN; rw [e _ _ (by omega) (by omega)]
  rw [e _ (235 + 3 * v + 1) (by omega) (by omega), ea]
  have e14 : ∀ p, kpS (blH S v B t p) B P t.ps 14 = nI (P + t.ps.length) := fun p => by unfold kpS; exact upd_is rfl
  by_cases q : S (235 + 3 * v + 1) = nN
  · rw [if_pos q, upd_ne (by omega), e14]
  · rw [if_neg q, upd_ne (by omega), upd_ne (by omega), upd_ne (by omega), e14]
/-- what stands while trips are billed -/
abbrev BlI (S0 S : Nat → Int32) (v R B P : Nat) : Prop := (S 13 = nI B) ∧ (S 14 = nI P) ∧ (B ≤ 60) ∧ (S 0 = S0 0) ∧ (∀ x, x < R → S (280 + 7 * x + 2) = S0 (280 + 7 * x + 2)) ∧ (S (235 + 3 * v + 1) = S0 (235 + 3 * v + 1))
theorem BlI.b {S0 S : Nat → Int32} {v R B P : Nat} (h : BlI S0 S v R B P) : S 13 = nI B := h.1
theorem BlI.p {S0 S : Nat → Int32} {v R B P : Nat} (h : BlI S0 S v R B P) : S 14 = nI P := h.2.1
theorem BlI.B60 {S0 S : Nat → Int32} {v R B P : Nat} (h : BlI S0 S v R B P) : B ≤ 60 := h.2.2.1
theorem BlI.s0 {S0 S : Nat → Int32} {v R B P : Nat} (h : BlI S0 S v R B P) : S 0 = S0 0 := h.2.2.2.1
theorem BlI.t {S0 S : Nat → Int32} {v R B P : Nat} (h : BlI S0 S v R B P) : ∀ x, x < R → S (280 + 7 * x + 2) = S0 (280 + 7 * x + 2) := h.2.2.2.2.1
theorem BlI.a {S0 S : Nat → Int32} {v R B P : Nat} (h : BlI S0 S v R B P) : S (235 + 3 * v + 1) = S0 (235 + 3 * v + 1) := h.2.2.2.2.2
theorem BlI.next {S0 S : Nat → Int32} {v R B P : Nat} {t : Tp} (h : BlI S0 S v R B P) (hR : R ≤ 120) (hv : v < 15) (ha : AcOK S0 v) (hB : B < 60) : BlI S0 (blT S v B P t) v R (B + 1) (P + t.ps.length) := by
  have ha' : AcOK S v := by unfold AcOK; rw [h.a]; exact ha
  refine ⟨blT_13, blT_14 hv ha', by omega, ?_, fun x hx => ?_, ?_⟩
  · rw [blT_c hv ha' (by omega) (by omega) (by omega) (by omega) (by omega) (fun r _ => by omega)]; exact h.s0
  · rw [blT_c hv ha' (by omega) (by omega) (by omega) (by omega) (by omega) (fun r _ => by omega)]; exact h.t x hx
  · rw [blT_c hv ha' (by omega) (by omega) (by omega) (by omega) (by omega) (fun r _ => by omega)]; exact h.a
section
variable {A : Hp} {m0 d : Nat} {M : Ms}
theorem m_377_lp (h : mO A m0) {l : List Nat} {N R v : Nat} {T : Nat → Tp} (tw : TrW M l N T) (hR : R ≤ 120) {S0 : Nat → Int32} (hm : ∀ x, x ∈ l → x < R ∧ ∃ t, t ≤ 100000 ∧ S0 (280 + 7 * x + 2) = nI t) (hv : v < 15) (ha : AcOK S0 v) (hc : ∀ n, n < N → ∀ x, x ∈ (T n).ps → x.1 < 12) {u : Int32} : ∀ (k c B P : Nat) (S : Nat → Int32), c + k = N → BlI S0 S v R B P → P + (pS T N - pS T c) ≤ 900 →
    exG TB (d + 6) 377 7 [some (.ref m0), some (.int (nI v)), some (.int u), some (.int (nI c))] [] (hM A m0 (uA M 0 S)) = some (.inl (some (.int (nI (blL T v u k c S).1))), hM A m0 (uA M 0 (blL T v u k c S).2)) := by
  have tl := tw.len
  have tle := tw.tm.le.1
  intro k
  induction k with
  | zero =>
    intro c B P S e bi hP
    have e : c = N := e
    subst e
    have n1 := tw.tm.n
    refine x_377_7.trans ?_
    unfold blL
    simp (disch := omega) only [x_377_0, x_377_1, x_377_2, x_377_5, x_377_6, x_377_8, x_377_9, x_377_12, x_377_15, x_377_16, x_377_19, x_377_21, x_377_22, x_377_24, x_377_27, x_377_28, x_377_29, x_377_30, x_377_33, x_377_36, x_377_37, x_377_38, x_377_39, x_377_42, x_377_45, x_377_48, x_377_49, hm_c h, hm_148 h, hg_0 h, ha_0, hm_149 h, hg_1 h, ha_1, hm_150 h, hg_2 h, ha_2, hm_151 h, hg_3 h, ha_3, hm_152 h, hg_4 h, ha_4, hm_153 h, hg_5 h, ha_5, hm_154 h, hg_6 h, ha_6, hm_155 h, hs_155, hm_156 h, hg_7 h, ha_7, hm_157 h, hs_157, hm_158 h, hs_158, hm_159 h, hs_159, hm_160 h, hs_160, hm_161 h, hs_161, hm_162 h, hs_162, hm_163 h, hs_163, hm_164 h, hs_164, hm_165 h, hs_165, hm_166 h, hg_8 h, ha_8, hm_167 h, hg_9 h, ha_9, hm_168 h, hg_10 h, ha_10, hm_169 h, hg_11 h, ha_11, hm_170 h, hg_12 h, ha_12, hm_171 h, hg_13 h, ha_13, hm_172 h, hs_172, hm_173 h, hs_173, hm_174 h, hs_174, hm_175 h, hs_175, hm_176 h, hs_176, hm_177 h, hg_14 h, ha_14, hm_178 h, hg_15 h, ha_15, hm_179 h, hg_16 h, ha_16, hm_180 h, hg_17 h, ha_17, hm_181 h, hg_18 h, ha_18, hm_182 h, hg_19 h, ha_19, hm_183 h, hg_20 h, ha_20, hm_184 h, hs_184, hm_185 h, hs_185, hm_186 h, hs_186, mA_uA, mA_uF, mA_uW, mF_uA, mF_uF, mF_uW, mW_uA, mW_uF, mW_uW, uA_uA, uA_uF, uF_uF, bI0, kv_s, ki_s, kj_s, kd_s, kq_s, kq_n, kq_o, ka_s, kc_r, kc_t, kc0_r, kc0_t, kch_r, kc0h_r, kw_s, kw0_s, kwh_s, kw0h_s, rg_ref, rg_null, rg_rf, ck_t, sel_some, lkn_hd, Option.isSome_some, Bool.true_and, Bool.and_true, okv_i, okv_l, okv_r, okv_n, okv_rf, okv_b, okv_0, okv_1, okv_f, okv_d, c1_i, c1_r, c1_n, c1_rf, c1_f, nI_add, n_mul, n_sub, n_pred, n_eq, n_le, n_lt, n_neN, n_Nne, N_lt, N_le, n_ltN, n_leN, rdI_n, rdJ_n, rdD_n, wrI_n, wrI_z0, wrI_z1, wrI_zb, wrJ_n, wrD_n, aln_s, okn_n, upd_is, upd_ne, Nat.add_zero, Nat.add_sub_cancel, decide_true, decide_false, cond_true, cond_false, if_true, if_false, ite_not, not_true_eq_false, not_false_eq_true, Nat.reduceEqDiff, Nat.reduceAdd, Nat.reduceMul, Nat.reduceSub, Nat.reduceLeDiff, n1, yle (Nat.le_refl c)]
  | succ k ih =>
    intro c B P S e bi hP
    have hcN : c < N := by omega
    have n1 := tw.tm.n
    have b1 := bi.b
    have B60 := bi.B60
    have hmS : ∀ x, x ∈ l → x < R ∧ ∃ t, t ≤ 100000 ∧ mA (uA M 0 S) 0 (280 + 7 * x + 2) = nI t := fun x hx => by
      obtain ⟨a, b⟩ := hm x hx
      rw [mA_uA, if_pos rfl, bi.t x a]
      exact ⟨a, b⟩
    have q78 := m_378 (d := d + 3) (M := uA M 0 S) (u := u) h tw.u0 hcN hR hmS
    rw [mA_uA, if_pos rfl] at q78
    have pl := pS_lt (T := T) (n := N) (k := c) hcN
    have pm : pS T (c + 1) ≤ pS T N := pS_mono hcN
    have ps1 : pS T (c + 1) = pS T c + (T c).ps.length := rfl
    have q79 := fun hB : B < 60 => m_379 (d := d + 1) (M := uA M 0 S) (v := v) h tw.u0 hcN hR hmS hv (by rw [mA_uA, if_pos rfl]; unfold AcOK; rw [bi.a]; exact ha) (by rw [mA_uA, if_pos rfl]; exact b1) hB (P := P) (by rw [mA_uA, if_pos rfl]; exact bi.p) (by omega) (hc c hcN)
    simp only [mA_uA, if_true, uA_uA] at q79
    refine x_377_7.trans ?_
    unfold blL
    rcases pc (S 13 < nI 60) with c1 | c1
    · have hB : B < 60 := by rw [b1] at c1; exact (nI_ltI (by omega) (by omega)).mp (of_eq_true c1)
      rcases pc (lstT S (T c) + S 0 < u) with c2 | c2
      · rw [if_pos ⟨of_eq_true c1, of_eq_true c2⟩, b1, bi.p, n_cl (by omega), n_cl (by omega)]
        rw [decide_eq_true (of_eq_true c2), bI_t] at q78
        have ih' := ih (c + 1) (B + 1) (P + (T c).ps.length) (blT S v B P (T c)) (by omega) (bi.next hR hv ha hB) (by omega)
        simp (disch := omega) only [x_377_0, x_377_1, x_377_2, x_377_5, x_377_6, x_377_8, x_377_9, x_377_12, x_377_15, x_377_16, x_377_19, x_377_21, x_377_22, x_377_24, x_377_27, x_377_28, x_377_29, x_377_30, x_377_33, x_377_36, x_377_37, x_377_38, x_377_39, x_377_42, x_377_45, x_377_48, x_377_49, hm_c h, hm_148 h, hg_0 h, ha_0, hm_149 h, hg_1 h, ha_1, hm_150 h, hg_2 h, ha_2, hm_151 h, hg_3 h, ha_3, hm_152 h, hg_4 h, ha_4, hm_153 h, hg_5 h, ha_5, hm_154 h, hg_6 h, ha_6, hm_155 h, hs_155, hm_156 h, hg_7 h, ha_7, hm_157 h, hs_157, hm_158 h, hs_158, hm_159 h, hs_159, hm_160 h, hs_160, hm_161 h, hs_161, hm_162 h, hs_162, hm_163 h, hs_163, hm_164 h, hs_164, hm_165 h, hs_165, hm_166 h, hg_8 h, ha_8, hm_167 h, hg_9 h, ha_9, hm_168 h, hg_10 h, ha_10, hm_169 h, hg_11 h, ha_11, hm_170 h, hg_12 h, ha_12, hm_171 h, hg_13 h, ha_13, hm_172 h, hs_172, hm_173 h, hs_173, hm_174 h, hs_174, hm_175 h, hs_175, hm_176 h, hs_176, hm_177 h, hg_14 h, ha_14, hm_178 h, hg_15 h, ha_15, hm_179 h, hg_16 h, ha_16, hm_180 h, hg_17 h, ha_17, hm_181 h, hg_18 h, ha_18, hm_182 h, hg_19 h, ha_19, hm_183 h, hg_20 h, ha_20, hm_184 h, hs_184, hm_185 h, hs_185, hm_186 h, hs_186, mA_uA, mA_uF, mA_uW, mF_uA, mF_uF, mF_uW, mW_uA, mW_uF, mW_uW, uA_uA, uA_uF, uF_uF, bI0, kv_s, ki_s, kj_s, kd_s, kq_s, kq_n, kq_o, ka_s, kc_r, kc_t, kc0_r, kc0_t, kch_r, kc0h_r, kw_s, kw0_s, kwh_s, kw0h_s, rg_ref, rg_null, rg_rf, ck_t, sel_some, lkn_hd, Option.isSome_some, Bool.true_and, Bool.and_true, okv_i, okv_l, okv_r, okv_n, okv_rf, okv_b, okv_0, okv_1, okv_f, okv_d, c1_i, c1_r, c1_n, c1_rf, c1_f, nI_add, n_mul, n_sub, n_pred, n_eq, n_le, n_lt, n_neN, n_Nne, N_lt, N_le, n_ltN, n_leN, rdI_n, rdJ_n, rdD_n, wrI_n, wrI_z0, wrI_z1, wrI_zb, wrJ_n, wrD_n, aln_s, okn_n, upd_is, upd_ne, Nat.add_zero, Nat.add_sub_cancel, decide_true, decide_false, cond_true, cond_false, if_true, if_false, ite_not, not_true_eq_false, not_false_eq_true, Nat.reduceEqDiff, Nat.reduceAdd, Nat.reduceMul, Nat.reduceSub, Nat.reduceLeDiff, n1, b1, nle hcN, nle hB, q78, q79 hB, ih']
      · rw [if_neg (fun q => of_eq_false c2 q.2)]
        rw [decide_eq_false (of_eq_false c2), bI_f] at q78
        simp (disch := omega) only [x_377_0, x_377_1, x_377_2, x_377_5, x_377_6, x_377_8, x_377_9, x_377_12, x_377_15, x_377_16, x_377_19, x_377_21, x_377_22, x_377_24, x_377_27, x_377_28, x_377_29, x_377_30, x_377_33, x_377_36, x_377_37, x_377_38, x_377_39, x_377_42, x_377_45, x_377_48, x_377_49, hm_c h, hm_148 h, hg_0 h, ha_0, hm_149 h, hg_1 h, ha_1, hm_150 h, hg_2 h, ha_2, hm_151 h, hg_3 h, ha_3, hm_152 h, hg_4 h, ha_4, hm_153 h, hg_5 h, ha_5, hm_154 h, hg_6 h, ha_6, hm_155 h, hs_155, hm_156 h, hg_7 h, ha_7, hm_157 h, hs_157, hm_158 h, hs_158, hm_159 h, hs_159, hm_160 h, hs_160, hm_161 h, hs_161, hm_162 h, hs_162, hm_163 h, hs_163, hm_164 h, hs_164, hm_165 h, hs_165, hm_166 h, hg_8 h, ha_8, hm_167 h, hg_9 h, ha_9, hm_168 h, hg_10 h, ha_10, hm_169 h, hg_11 h, ha_11, hm_170 h, hg_12 h, ha_12, hm_171 h, hg_13 h, ha_13, hm_172 h, hs_172, hm_173 h, hs_173, hm_174 h, hs_174, hm_175 h, hs_175, hm_176 h, hs_176, hm_177 h, hg_14 h, ha_14, hm_178 h, hg_15 h, ha_15, hm_179 h, hg_16 h, ha_16, hm_180 h, hg_17 h, ha_17, hm_181 h, hg_18 h, ha_18, hm_182 h, hg_19 h, ha_19, hm_183 h, hg_20 h, ha_20, hm_184 h, hs_184, hm_185 h, hs_185, hm_186 h, hs_186, mA_uA, mA_uF, mA_uW, mF_uA, mF_uF, mF_uW, mW_uA, mW_uF, mW_uW, uA_uA, uA_uF, uF_uF, bI0, kv_s, ki_s, kj_s, kd_s, kq_s, kq_n, kq_o, ka_s, kc_r, kc_t, kc0_r, kc0_t, kch_r, kc0h_r, kw_s, kw0_s, kwh_s, kw0h_s, rg_ref, rg_null, rg_rf, ck_t, sel_some, lkn_hd, Option.isSome_some, Bool.true_and, Bool.and_true, okv_i, okv_l, okv_r, okv_n, okv_rf, okv_b, okv_0, okv_1, okv_f, okv_d, c1_i, c1_r, c1_n, c1_rf, c1_f, nI_add, n_mul, n_sub, n_pred, n_eq, n_le, n_lt, n_neN, n_Nne, N_lt, N_le, n_ltN, n_leN, rdI_n, rdJ_n, rdD_n, wrI_n, wrI_z0, wrI_z1, wrI_zb, wrJ_n, wrD_n, aln_s, okn_n, upd_is, upd_ne, Nat.add_zero, Nat.add_sub_cancel, decide_true, decide_false, cond_true, cond_false, if_true, if_false, ite_not, not_true_eq_false, not_false_eq_true, Nat.reduceEqDiff, Nat.reduceAdd, Nat.reduceMul, Nat.reduceSub, Nat.reduceLeDiff, n1, b1, nle hcN, nle hB, q78]
    · have hB : 60 ≤ B := by
        rw [b1] at c1
        exact Nat.not_lt.mp (fun q => of_eq_false c1 ((nI_ltI (by omega) (by omega)).mpr q))
      rw [if_neg (fun q => of_eq_false c1 q.1)]
      simp (disch := omega) only [x_377_0, x_377_1, x_377_2, x_377_5, x_377_6, x_377_8, x_377_9, x_377_12, x_377_15, x_377_16, x_377_19, x_377_21, x_377_22, x_377_24, x_377_27, x_377_28, x_377_29, x_377_30, x_377_33, x_377_36, x_377_37, x_377_38, x_377_39, x_377_42, x_377_45, x_377_48, x_377_49, hm_c h, hm_148 h, hg_0 h, ha_0, hm_149 h, hg_1 h, ha_1, hm_150 h, hg_2 h, ha_2, hm_151 h, hg_3 h, ha_3, hm_152 h, hg_4 h, ha_4, hm_153 h, hg_5 h, ha_5, hm_154 h, hg_6 h, ha_6, hm_155 h, hs_155, hm_156 h, hg_7 h, ha_7, hm_157 h, hs_157, hm_158 h, hs_158, hm_159 h, hs_159, hm_160 h, hs_160, hm_161 h, hs_161, hm_162 h, hs_162, hm_163 h, hs_163, hm_164 h, hs_164, hm_165 h, hs_165, hm_166 h, hg_8 h, ha_8, hm_167 h, hg_9 h, ha_9, hm_168 h, hg_10 h, ha_10, hm_169 h, hg_11 h, ha_11, hm_170 h, hg_12 h, ha_12, hm_171 h, hg_13 h, ha_13, hm_172 h, hs_172, hm_173 h, hs_173, hm_174 h, hs_174, hm_175 h, hs_175, hm_176 h, hs_176, hm_177 h, hg_14 h, ha_14, hm_178 h, hg_15 h, ha_15, hm_179 h, hg_16 h, ha_16, hm_180 h, hg_17 h, ha_17, hm_181 h, hg_18 h, ha_18, hm_182 h, hg_19 h, ha_19, hm_183 h, hg_20 h, ha_20, hm_184 h, hs_184, hm_185 h, hs_185, hm_186 h, hs_186, mA_uA, mA_uF, mA_uW, mF_uA, mF_uF, mF_uW, mW_uA, mW_uF, mW_uW, uA_uA, uA_uF, uF_uF, bI0, kv_s, ki_s, kj_s, kd_s, kq_s, kq_n, kq_o, ka_s, kc_r, kc_t, kc0_r, kc0_t, kch_r, kc0h_r, kw_s, kw0_s, kwh_s, kw0h_s, rg_ref, rg_null, rg_rf, ck_t, sel_some, lkn_hd, Option.isSome_some, Bool.true_and, Bool.and_true, okv_i, okv_l, okv_r, okv_n, okv_rf, okv_b, okv_0, okv_1, okv_f, okv_d, c1_i, c1_r, c1_n, c1_rf, c1_f, nI_add, n_mul, n_sub, n_pred, n_eq, n_le, n_lt, n_neN, n_Nne, N_lt, N_le, n_ltN, n_leN, rdI_n, rdJ_n, rdD_n, wrI_n, wrI_z0, wrI_z1, wrI_zb, wrJ_n, wrD_n, aln_s, okn_n, upd_is, upd_ne, Nat.add_zero, Nat.add_sub_cancel, decide_true, decide_false, cond_true, cond_false, if_true, if_false, ite_not, not_true_eq_false, not_false_eq_true, Nat.reduceEqDiff, Nat.reduceAdd, Nat.reduceMul, Nat.reduceSub, Nat.reduceLeDiff, n1, b1, nle hcN, yle hB]
/-- what billing keeps of the model -/
def FbM (M M' : Ms) (S' : Nat → Int32) : Prop := mA M' 0 = S' ∧ (∀ k, 0 < k → k < 8 → mA M' k = mA M k) ∧ (∀ f, f < 172 → mF M' f = mF M f) ∧ mW M' = mW M
theorem m_377 (h : mO A m0) {G D R v B P : Nat} (ok : LyOK (mA M 0) G D R) (hv : v < 15) (ha : AcOK (mA M 0) v) (hB : mA M 0 13 = nI B) (hB2 : B ≤ 60) (hP : mA M 0 14 = nI P) (hP2 : P + pS (tps (mA M 0) G D R (nI v)).2 (tps (mA M 0) G D R (nI v)).1 ≤ 900) {u : Int32} :
    ∃ M', evG TB (d + 7) 377 [.ref m0, .int (nI v), .int u] (hM A m0 M) = some (.inl (some (.int (nI (blO (mA M 0) G D R v u).1))), hM A m0 M') ∧ FbM M M' (blO (mA M 0) G D R v u).2 := by
  have G12 := ok.net.G12
  obtain ⟨M1, e1, f1, tw⟩ := m_364 (d := d) (M := M) (v := nI v) h ok
  have tw : TrW M1 (ordL (mA M 0) (nI v) R) (tps (mA M 0) G D R (nI v)).1 (tps (mA M 0) G D R (nI v)).2 := tw
  have oo := ordL_ok' (mA M 0) (nI v) R
  have eS : mA M1 0 = mA M 0 := f1.1 0 (by omega)
  have lp := m_377_lp (d := d) (v := v) (u := u) h tw ok.R120 (S0 := mA M 0) (tw.ok rfl ok) hv ha (fun n hn x hx => Nat.lt_of_lt_of_le ((lay_ok ok (fun y hy => ((oo.mem y).mp hy).1) oo.srt n hn).ps x hx) G12) (tps (mA M 0) G D R (nI v)).1 0 B P (mA M 0) (Nat.zero_add _) ⟨hB, hP, hB2, rfl, fun _ _ => rfl, rfl⟩ (by show P + (pS _ _ - 0) ≤ 900; rw [Nat.sub_zero]; exact hP2)
  rw [show uA M1 0 (mA M 0) = M1 by rw [← eS]; exact uA_self] at lp
  refine ⟨uA M1 0 (blO (mA M 0) G D R v u).2, ?_, ⟨rfl, fun k h0 hk => ?_, fun f hf => ?_, f1.2.2⟩⟩
  · unfold blO
    refine Eq.trans ?_ lp
    simp (disch := omega) only [e_377, x_377_0, x_377_1, x_377_2, x_377_5, x_377_6, e1, hm_c h, kv_s, ki_s, kj_s, kd_s, kq_s, kq_n, kq_o, ka_s, kc_r, kc_t, kc0_r, kc0_t, kch_r, kc0h_r, kw_s, kw0_s, kwh_s, kw0h_s, rg_ref, rg_null, rg_rf, ck_t, sel_some, lkn_hd, Option.isSome_some, Bool.true_and, Bool.and_true, okv_i, okv_l, okv_r, okv_n, okv_rf, okv_b, okv_0, okv_1, okv_f, okv_d, c1_i, c1_r, c1_n, c1_rf, c1_f, nI_add, n_mul, n_sub, n_pred, n_eq, n_le, n_lt, n_neN, n_Nne, N_lt, N_le, n_ltN, n_leN, rdI_n, rdJ_n, rdD_n, wrI_n, wrI_z0, wrI_z1, wrI_zb, wrJ_n, wrD_n, aln_s, okn_n, upd_is, upd_ne, Nat.add_zero, Nat.add_sub_cancel, decide_true, decide_false, cond_true, cond_false, if_true, if_false, ite_not, not_true_eq_false, not_false_eq_true, Nat.reduceEqDiff, Nat.reduceAdd, Nat.reduceMul, Nat.reduceSub, Nat.reduceLeDiff]
  · rw [mA_uA, if_neg (by omega)]; exact f1.1 k hk
  · exact f1.2.1 f hf
theorem m_376 (h : mO A m0) {G D R V v B P : Nat} (ok : LyOK (mA M 0) G D R) (hV : mA M 0 11 = nI V) (hV2 : V ≤ 15) (hv : v < V) (ha : AcOK (mA M 0) v) (hB : mA M 0 13 = nI B) (hB2 : B ≤ 60) (hP : mA M 0 14 = nI P) (hP2 : P + pS (tps (mA M 0) G D R (nI v)).2 (tps (mA M 0) G D R (nI v)).1 ≤ 900) {u : Int32} (hu : inB u 200001 = true) :
    ∃ M', evG TB (d + 8) 376 [.ref m0, .int (nI v), .int u] (hM A m0 M) = some (.inl (some (.int (nI (blO (mA M 0) G D R v u).1))), hM A m0 M') ∧ FbM (uF M 155 (nI 0)) M' (blO (mA M 0) G D R v u).2 := by
  obtain ⟨M', e, f⟩ := m_377 (d := d) (M := uF M 155 (nI 0)) (v := v) (u := u) h ok (by omega) ha hB hB2 hP hP2
  refine ⟨M', ?_, f⟩
  have q := m_338 (d := d + 5) (M := uF M 155 (nI 0)) (x := nI v) h (show mA (uF M 155 (nI 0)) 0 11 = nI V from hV)
  rw [inB_n hv (by omega), bI_t] at q
  simp (disch := omega) only [e_376, x_376_0, x_376_1, x_376_2, x_376_5, x_376_6, x_376_7, x_376_10, x_376_13, x_376_14, x_376_15, x_376_18, x_376_19, x_376_20, x_376_21, x_376_24, x_376_27, x_376_30, x_376_31, x_376_32, x_376_33, x_376_36, x_376_39, x_376_40, x_376_41, x_376_44, q, m_293, show (decide (nI 0 ≤ u) && decide (u ≤ nI 200000)) = true from hu, bI_t, e, hm_c h, hm_148 h, hg_0 h, ha_0, hm_149 h, hg_1 h, ha_1, hm_150 h, hg_2 h, ha_2, hm_151 h, hg_3 h, ha_3, hm_152 h, hg_4 h, ha_4, hm_153 h, hg_5 h, ha_5, hm_154 h, hg_6 h, ha_6, hm_155 h, hs_155, hm_156 h, hg_7 h, ha_7, hm_157 h, hs_157, hm_158 h, hs_158, hm_159 h, hs_159, hm_160 h, hs_160, hm_161 h, hs_161, hm_162 h, hs_162, hm_163 h, hs_163, hm_164 h, hs_164, hm_165 h, hs_165, hm_166 h, hg_8 h, ha_8, hm_167 h, hg_9 h, ha_9, hm_168 h, hg_10 h, ha_10, hm_169 h, hg_11 h, ha_11, hm_170 h, hg_12 h, ha_12, hm_171 h, hg_13 h, ha_13, hm_172 h, hs_172, hm_173 h, hs_173, hm_174 h, hs_174, hm_175 h, hs_175, hm_176 h, hs_176, hm_177 h, hg_14 h, ha_14, hm_178 h, hg_15 h, ha_15, hm_179 h, hg_16 h, ha_16, hm_180 h, hg_17 h, ha_17, hm_181 h, hg_18 h, ha_18, hm_182 h, hg_19 h, ha_19, hm_183 h, hg_20 h, ha_20, hm_184 h, hs_184, hm_185 h, hs_185, hm_186 h, hs_186, mA_uA, mA_uF, mA_uW, mF_uA, mF_uF, mF_uW, mW_uA, mW_uF, mW_uW, uA_uA, uA_uF, uF_uF, bI0, kv_s, ki_s, kj_s, kd_s, kq_s, kq_n, kq_o, ka_s, kc_r, kc_t, kc0_r, kc0_t, kch_r, kc0h_r, kw_s, kw0_s, kwh_s, kw0h_s, rg_ref, rg_null, rg_rf, ck_t, sel_some, lkn_hd, Option.isSome_some, Bool.true_and, Bool.and_true, okv_i, okv_l, okv_r, okv_n, okv_rf, okv_b, okv_0, okv_1, okv_f, okv_d, c1_i, c1_r, c1_n, c1_rf, c1_f, nI_add, n_mul, n_sub, n_pred, n_eq, n_le, n_lt, n_neN, n_Nne, N_lt, N_le, n_ltN, n_leN, rdI_n, rdJ_n, rdD_n, wrI_n, wrI_z0, wrI_z1, wrI_zb, wrJ_n, wrD_n, aln_s, okn_n, upd_is, upd_ne, Nat.add_zero, Nat.add_sub_cancel, decide_true, decide_false, cond_true, cond_false, if_true, if_false, ite_not, not_true_eq_false, not_false_eq_true, Nat.reduceEqDiff, Nat.reduceAdd, Nat.reduceMul, Nat.reduceSub, Nat.reduceLeDiff]
end
