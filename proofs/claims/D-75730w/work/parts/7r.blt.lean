/-! the model bills a trip -/
def codP (x : Nat × Bool) : Nat := x.1 + (if x.2 = true then 16 else 0)
/-- the first n of a trip's places, from P on -/
def plS (S : Nat → Int32) (P : Nat) (ps : List (Nat × Bool)) (n : Nat) : Nat → Int32 := fun q => if 2200 + P ≤ q ∧ q < 2200 + P + n then nI (codP (ps.getD (q - (2200 + P)) (0, false))) else S q
def kpS (S : Nat → Int32) (B P : Nat) (ps : List (Nat × Bool)) : Nat → Int32 := upd (plS (upd S (1120 + 18 * B + 15) (nI P)) P ps ps.length) 14 (nI (P + ps.length))
def blH (S : Nat → Int32) (v B : Nat) (t : Tp) (p : Int32) : Nat → Int32 :=
  upd (upd (upd (upd (upd (upd (upd (upd (upd (upd (upd (upd (upd (upd (upd (upd (upd S (1120 + 18 * B) (nI v)) (1120 + 18 * B + 1) (S (235 + 3 * v + 1))) (1120 + 18 * B + 2) (amtV S v t p)) (1120 + 18 * B + 3) (tllV S v t)) (1120 + 18 * B + 4) (tllV S v t * p / nI 100)) (1120 + 18 * B + 5) (S 6 * nI (imgN S t.rs))) (1120 + 18 * B + 6) (fstT S t)) (1120 + 18 * B + 7) (lstT S t)) (1120 + 18 * B + 8) (nI t.ps.length)) (1120 + 18 * B + 9) (nI (misN t.ps))) (1120 + 18 * B + 10) (nI t.rs.length)) (1120 + 18 * B + 11) (nI 0)) (1120 + 18 * B + 12) (nI 0)) (1120 + 18 * B + 13) (S (235 + 3 * v))) (1120 + 18 * B + 14) p) (1120 + 18 * B + 16) (invV S v)) (1120 + 18 * B + 17) (nI (imgN S t.rs))
def chS (S : Nat → Int32) (v : Nat) (x : Int32) : Nat → Int32 := if S (235 + 3 * v + 1) = nN then upd S (235 + 3 * v + 2) (S (235 + 3 * v + 2) + x) else
  upd (upd (upd S (187 + 6 * acN S v) (S (187 + 6 * acN S v) + -x)) (187 + 6 * acN S v + 3) (S (187 + 6 * acN S v + 3) + nI 1)) (187 + 6 * acN S v + 4) (S (187 + 6 * acN S v + 4) + x)
def mkB (B r : Nat) (S : Nat → Int32) : Nat → Int32 := upd (upd S (280 + 7 * r + 5) (nI 3)) (280 + 7 * r + 6) (nI B)
def blT (S : Nat → Int32) (v B P : Nat) (t : Tp) : Nat → Int32 :=
  upd (t.rs.foldl (fun S r => mkB B r S) (chS (kpS (blH S v B t (prcV S v (gotV S v))) B P t.ps) v (amtV S v t (prcV S v (gotV S v))))) 13 (nI (B + 1))
theorem plS_0 {S : Nat → Int32} {P : Nat} {ps : List (Nat × Bool)} : plS S P ps 0 = S := by
  funext q
  unfold plS
  rw [if_neg (by omega)]
theorem plS_s {S : Nat → Int32} {P n m : Nat} {ps : List (Nat × Bool)} {x : Nat × Bool} (hx : ps[n]? = some x) : upd (upd (upd (plS S P ps n) 14 (nI m)) (2200 + (P + n)) (nI (codP x))) 14 (nI (P + (n + 1))) = upd (plS S P ps (n + 1)) 14 (nI (P + (n + 1))) := by
  funext q
  unfold upd plS
  by_cases h1 : q = 14
  · simp only [h1, if_true]
  · simp only [h1, if_false]
    by_cases h2 : q = 2200 + (P + n)
    · rw [if_pos h2, if_pos (by omega)]
      have : q - (2200 + P) = n := by omega
      rw [this, List.getD_eq_getElem?_getD, hx]
      rfl
    · rw [if_neg h2]
      by_cases h3 : 2200 + P ≤ q ∧ q < 2200 + P + n
      · rw [if_pos h3, if_pos (by omega)]
      · rw [if_neg h3, if_neg (by omega)]
theorem upd_self {S : Nat → Int32} {k : Nat} {x : Int32} (h : S k = x) : upd S k x = S := by
  funext q
  unfold upd
  by_cases e : q = k
  · rw [if_pos e, e, h]
  · rw [if_neg e]
theorem TrW.congr {M M' : Ms} {l : List Nat} {N : Nat} {T : Nat → Tp} (h : TrW M l N T) (h1 : ∀ k, 14 ≤ k → mA M' k = mA M k) (h2 : ∀ f, 184 ≤ f → mF M' f = mF M f) : TrW M' l N T := by
  refine ⟨h.tm.congr h1 h2, by rw [h2 184 (by omega)]; exact h.o, by rw [h1 14 (by omega)]; exact h.r, by rw [h1 16 (by omega)]; exact h.e, h.len⟩
theorem TrW.u0 {M : Ms} {g : Nat → Int32} {l : List Nat} {N : Nat} {T : Nat → Tp} (h : TrW M l N T) : TrW (uA M 0 g) l N T := h.congr (fun k hk => by rw [mA_uA, if_neg (by omega)]) (fun f hf => rfl)
theorem imgN_c {S S' : Nat → Int32} {l : List Nat} {R : Nat} (hR : R ≤ 120) (hl : ∀ x, x ∈ l → x < R) (h : ∀ j, j < 1120 → S' j = S j) : imgN S' l = imgN S l := by
  unfold imgN
  refine List.countP_congr (fun x hx => ?_)
  rw [h _ (by have := hl x hx; omega)]
section
variable {A : Hp} {m0 d : Nat} {M : Ms}
theorem m_384 (h : mO A m0) {l : List Nat} {N n B P : Nat} {T : Nat → Tp} (tw : TrW M l N T) (hn : n < N) (hB : B < 60) (hP : mA M 0 14 = nI P) (hP2 : P + (T n).ps.length ≤ 900) (hc : ∀ x, x ∈ (T n).ps → x.1 < 12) : evG TB (d + 2) 384 [.ref m0, .int (nI B), .int (nI n)] (hM A m0 M) = some (.inl none, hM A m0 (uA M 0 (kpS (mA M 0) B P (T n).ps))) := by
  have tl := tw.len
  obtain ⟨le1, le2⟩ := tw.tm.le
  have s1 : mA M 16 n = nI (pS T n) := (tw.tm.tr n hn).1
  have s2 : mA M 16 (n + 1) = nI (pS T n + (T n).ps.length) := by
    by_cases q : n + 1 = N
    · rw [q, tw.e, ← q]; rfl
    · exact (tw.tm.tr (n + 1) (by omega)).1
  have hp := pS_lt (T := T) (n := N) (k := n) hn
  have key : ∀ k i, i + k = (T n).ps.length → exG TB (d + 1) 384 21 [some (.ref m0), some (.int (nI B)), some (.int (nI n)), some (.int (nI (pS T n + i)))] [] (hM A m0 (uA M 0 (upd (plS (upd (mA M 0) (1120 + 18 * B + 15) (nI P)) P (T n).ps i) 14 (nI (P + i))))) = some (.inl none, hM A m0 (uA M 0 (kpS (mA M 0) B P (T n).ps))) := by
    intro k
    induction k with
    | zero =>
      intro i e
      have e : i = (T n).ps.length := e
      subst e
      refine x_384_21.trans ?_
      unfold kpS
      simp (disch := omega) only [x_384_0, x_384_1, x_384_2, x_384_4, x_384_5, x_384_8, x_384_10, x_384_11, x_384_14, x_384_15, x_384_18, x_384_19, x_384_20, x_384_22, x_384_23, x_384_26, x_384_27, x_384_28, x_384_29, x_384_30, x_384_33, x_384_34, x_384_37, x_384_40, x_384_41, x_384_44, x_384_46, x_384_47, x_384_48, x_384_49, x_384_52, x_384_53, x_384_54, x_384_55, x_384_58, x_384_59, x_384_60, x_384_63, x_384_65, x_384_68, x_384_69, x_384_70, x_384_71, x_384_72, x_384_75, x_384_77, x_384_78, x_384_79, x_384_80, x_384_81, x_384_82, x_384_85, x_384_88, hm_c h, hm_148 h, hg_0 h, ha_0, hm_149 h, hg_1 h, ha_1, hm_150 h, hg_2 h, ha_2, hm_151 h, hg_3 h, ha_3, hm_152 h, hg_4 h, ha_4, hm_153 h, hg_5 h, ha_5, hm_154 h, hg_6 h, ha_6, hm_155 h, hs_155, hm_156 h, hg_7 h, ha_7, hm_157 h, hs_157, hm_158 h, hs_158, hm_159 h, hs_159, hm_160 h, hs_160, hm_161 h, hs_161, hm_162 h, hs_162, hm_163 h, hs_163, hm_164 h, hs_164, hm_165 h, hs_165, hm_166 h, hg_8 h, ha_8, hm_167 h, hg_9 h, ha_9, hm_168 h, hg_10 h, ha_10, hm_169 h, hg_11 h, ha_11, hm_170 h, hg_12 h, ha_12, hm_171 h, hg_13 h, ha_13, hm_172 h, hs_172, hm_173 h, hs_173, hm_174 h, hs_174, hm_175 h, hs_175, hm_176 h, hs_176, hm_177 h, hg_14 h, ha_14, hm_178 h, hg_15 h, ha_15, hm_179 h, hg_16 h, ha_16, hm_180 h, hg_17 h, ha_17, hm_181 h, hg_18 h, ha_18, hm_182 h, hg_19 h, ha_19, hm_183 h, hg_20 h, ha_20, hm_184 h, hs_184, hm_185 h, hs_185, hm_186 h, hs_186, mA_uA, mA_uF, mA_uW, mF_uA, mF_uF, mF_uW, mW_uA, mW_uF, mW_uW, uA_uA, uA_uF, uF_uF, bI0, kv_s, ki_s, kj_s, kd_s, kq_s, kq_n, kq_o, ka_s, kc_r, kc_t, kc0_r, kc0_t, kch_r, kc0h_r, kw_s, kw0_s, kwh_s, kw0h_s, rg_ref, rg_null, rg_rf, ck_t, sel_some, lkn_hd, Option.isSome_some, Bool.true_and, Bool.and_true, okv_i, okv_l, okv_r, okv_n, okv_rf, okv_b, okv_0, okv_1, okv_f, okv_d, c1_i, c1_r, c1_n, c1_rf, c1_f, nI_add, n_mul, n_sub, n_pred, n_eq, n_le, n_lt, n_neN, n_Nne, N_lt, N_le, n_ltN, n_leN, rdI_n, rdJ_n, rdD_n, wrI_n, wrI_z0, wrI_z1, wrI_zb, wrJ_n, wrD_n, aln_s, okn_n, upd_is, upd_ne, Nat.add_zero, Nat.add_sub_cancel, decide_true, decide_false, cond_true, cond_false, if_true, if_false, ite_not, not_true_eq_false, not_false_eq_true, Nat.reduceEqDiff, Nat.reduceAdd, Nat.reduceMul, Nat.reduceSub, Nat.reduceLeDiff, s2, yle (Nat.le_refl (pS T n + (T n).ps.length))]
    | succ k ih =>
      intro i e
      have hi : i < (T n).ps.length := by omega
      have hx := List.getElem?_eq_getElem hi
      obtain ⟨e19, e20⟩ := tw.tm.pl n i _ hn hx
      have c12 := hc _ (List.getElem_mem hi)
      have ih' := ih (i + 1) (by omega)
      have hs := plS_s (S := upd (mA M 0) (1120 + 18 * B + 15) (nI P)) (P := P) (m := P + i) hx
      rw [← hs] at ih'
      rw [show pS T n + (i + 1) = pS T n + i + 1 from rfl, show P + (i + 1) = P + i + 1 from rfl] at ih'
      unfold codP at ih'
      refine x_384_21.trans ?_
      cases hb : ((T n).ps[i]).2
      · rw [hb, bI_f] at e20
        rw [hb, if_neg (by decide)] at ih'
        simp (disch := omega) only [Nat.add_zero] at ih'
        simp (disch := omega) only [x_384_0, x_384_1, x_384_2, x_384_4, x_384_5, x_384_8, x_384_10, x_384_11, x_384_14, x_384_15, x_384_18, x_384_19, x_384_20, x_384_22, x_384_23, x_384_26, x_384_27, x_384_28, x_384_29, x_384_30, x_384_33, x_384_34, x_384_37, x_384_40, x_384_41, x_384_44, x_384_46, x_384_47, x_384_48, x_384_49, x_384_52, x_384_53, x_384_54, x_384_55, x_384_58, x_384_59, x_384_60, x_384_63, x_384_65, x_384_68, x_384_69, x_384_70, x_384_71, x_384_72, x_384_75, x_384_77, x_384_78, x_384_79, x_384_80, x_384_81, x_384_82, x_384_85, x_384_88, hm_c h, hm_148 h, hg_0 h, ha_0, hm_149 h, hg_1 h, ha_1, hm_150 h, hg_2 h, ha_2, hm_151 h, hg_3 h, ha_3, hm_152 h, hg_4 h, ha_4, hm_153 h, hg_5 h, ha_5, hm_154 h, hg_6 h, ha_6, hm_155 h, hs_155, hm_156 h, hg_7 h, ha_7, hm_157 h, hs_157, hm_158 h, hs_158, hm_159 h, hs_159, hm_160 h, hs_160, hm_161 h, hs_161, hm_162 h, hs_162, hm_163 h, hs_163, hm_164 h, hs_164, hm_165 h, hs_165, hm_166 h, hg_8 h, ha_8, hm_167 h, hg_9 h, ha_9, hm_168 h, hg_10 h, ha_10, hm_169 h, hg_11 h, ha_11, hm_170 h, hg_12 h, ha_12, hm_171 h, hg_13 h, ha_13, hm_172 h, hs_172, hm_173 h, hs_173, hm_174 h, hs_174, hm_175 h, hs_175, hm_176 h, hs_176, hm_177 h, hg_14 h, ha_14, hm_178 h, hg_15 h, ha_15, hm_179 h, hg_16 h, ha_16, hm_180 h, hg_17 h, ha_17, hm_181 h, hg_18 h, ha_18, hm_182 h, hg_19 h, ha_19, hm_183 h, hg_20 h, ha_20, hm_184 h, hs_184, hm_185 h, hs_185, hm_186 h, hs_186, mA_uA, mA_uF, mA_uW, mF_uA, mF_uF, mF_uW, mW_uA, mW_uF, mW_uW, uA_uA, uA_uF, uF_uF, bI0, kv_s, ki_s, kj_s, kd_s, kq_s, kq_n, kq_o, ka_s, kc_r, kc_t, kc0_r, kc0_t, kch_r, kc0h_r, kw_s, kw0_s, kwh_s, kw0h_s, rg_ref, rg_null, rg_rf, ck_t, sel_some, lkn_hd, Option.isSome_some, Bool.true_and, Bool.and_true, okv_i, okv_l, okv_r, okv_n, okv_rf, okv_b, okv_0, okv_1, okv_f, okv_d, c1_i, c1_r, c1_n, c1_rf, c1_f, nI_add, n_mul, n_sub, n_pred, n_eq, n_le, n_lt, n_neN, n_Nne, N_lt, N_le, n_ltN, n_leN, rdI_n, rdJ_n, rdD_n, wrI_n, wrI_z0, wrI_z1, wrI_zb, wrJ_n, wrD_n, aln_s, okn_n, upd_is, upd_ne, Nat.add_zero, Nat.add_sub_cancel, decide_true, decide_false, cond_true, cond_false, if_true, if_false, ite_not, not_true_eq_false, not_false_eq_true, Nat.reduceEqDiff, Nat.reduceAdd, Nat.reduceMul, Nat.reduceSub, Nat.reduceLeDiff, s2, nle (show pS T n + i < pS T n + (T n).ps.length by omega), e19, e20, ih']
      · rw [hb, bI_t] at e20
        rw [hb, if_pos rfl] at ih'
        simp (disch := omega) only [x_384_0, x_384_1, x_384_2, x_384_4, x_384_5, x_384_8, x_384_10, x_384_11, x_384_14, x_384_15, x_384_18, x_384_19, x_384_20, x_384_22, x_384_23, x_384_26, x_384_27, x_384_28, x_384_29, x_384_30, x_384_33, x_384_34, x_384_37, x_384_40, x_384_41, x_384_44, x_384_46, x_384_47, x_384_48, x_384_49, x_384_52, x_384_53, x_384_54, x_384_55, x_384_58, x_384_59, x_384_60, x_384_63, x_384_65, x_384_68, x_384_69, x_384_70, x_384_71, x_384_72, x_384_75, x_384_77, x_384_78, x_384_79, x_384_80, x_384_81, x_384_82, x_384_85, x_384_88, hm_c h, hm_148 h, hg_0 h, ha_0, hm_149 h, hg_1 h, ha_1, hm_150 h, hg_2 h, ha_2, hm_151 h, hg_3 h, ha_3, hm_152 h, hg_4 h, ha_4, hm_153 h, hg_5 h, ha_5, hm_154 h, hg_6 h, ha_6, hm_155 h, hs_155, hm_156 h, hg_7 h, ha_7, hm_157 h, hs_157, hm_158 h, hs_158, hm_159 h, hs_159, hm_160 h, hs_160, hm_161 h, hs_161, hm_162 h, hs_162, hm_163 h, hs_163, hm_164 h, hs_164, hm_165 h, hs_165, hm_166 h, hg_8 h, ha_8, hm_167 h, hg_9 h, ha_9, hm_168 h, hg_10 h, ha_10, hm_169 h, hg_11 h, ha_11, hm_170 h, hg_12 h, ha_12, hm_171 h, hg_13 h, ha_13, hm_172 h, hs_172, hm_173 h, hs_173, hm_174 h, hs_174, hm_175 h, hs_175, hm_176 h, hs_176, hm_177 h, hg_14 h, ha_14, hm_178 h, hg_15 h, ha_15, hm_179 h, hg_16 h, ha_16, hm_180 h, hg_17 h, ha_17, hm_181 h, hg_18 h, ha_18, hm_182 h, hg_19 h, ha_19, hm_183 h, hg_20 h, ha_20, hm_184 h, hs_184, hm_185 h, hs_185, hm_186 h, hs_186, mA_uA, mA_uF, mA_uW, mF_uA, mF_uF, mF_uW, mW_uA, mW_uF, mW_uW, uA_uA, uA_uF, uF_uF, bI0, kv_s, ki_s, kj_s, kd_s, kq_s, kq_n, kq_o, ka_s, kc_r, kc_t, kc0_r, kc0_t, kch_r, kc0h_r, kw_s, kw0_s, kwh_s, kw0h_s, rg_ref, rg_null, rg_rf, ck_t, sel_some, lkn_hd, Option.isSome_some, Bool.true_and, Bool.and_true, okv_i, okv_l, okv_r, okv_n, okv_rf, okv_b, okv_0, okv_1, okv_f, okv_d, c1_i, c1_r, c1_n, c1_rf, c1_f, nI_add, n_mul, n_sub, n_pred, n_eq, n_le, n_lt, n_neN, n_Nne, N_lt, N_le, n_ltN, n_leN, rdI_n, rdJ_n, rdD_n, wrI_n, wrI_z0, wrI_z1, wrI_zb, wrJ_n, wrD_n, aln_s, okn_n, upd_is, upd_ne, Nat.add_zero, Nat.add_sub_cancel, decide_true, decide_false, cond_true, cond_false, if_true, if_false, ite_not, not_true_eq_false, not_false_eq_true, Nat.reduceEqDiff, Nat.reduceAdd, Nat.reduceMul, Nat.reduceSub, Nat.reduceLeDiff, s2, nle (show pS T n + i < pS T n + (T n).ps.length by omega), e19, e20, ih']
  have k0 := key _ 0 (Nat.zero_add _)
  rw [plS_0, Nat.add_zero, Nat.add_zero, upd_self (by rw [upd_ne (by omega)]; exact hP)] at k0
  refine Eq.trans ?_ k0
  simp (disch := omega) only [e_384, x_384_0, x_384_1, x_384_2, x_384_4, x_384_5, x_384_8, x_384_10, x_384_11, x_384_14, x_384_15, x_384_18, x_384_19, x_384_20, e_383, x_383_0, x_383_1, x_383_4, x_383_7, x_383_9, x_383_10, x_383_11, x_383_12, x_383_13, x_383_14, x_383_15, x_383_16, hm_c h, hm_148 h, hg_0 h, ha_0, hm_149 h, hg_1 h, ha_1, hm_150 h, hg_2 h, ha_2, hm_151 h, hg_3 h, ha_3, hm_152 h, hg_4 h, ha_4, hm_153 h, hg_5 h, ha_5, hm_154 h, hg_6 h, ha_6, hm_155 h, hs_155, hm_156 h, hg_7 h, ha_7, hm_157 h, hs_157, hm_158 h, hs_158, hm_159 h, hs_159, hm_160 h, hs_160, hm_161 h, hs_161, hm_162 h, hs_162, hm_163 h, hs_163, hm_164 h, hs_164, hm_165 h, hs_165, hm_166 h, hg_8 h, ha_8, hm_167 h, hg_9 h, ha_9, hm_168 h, hg_10 h, ha_10, hm_169 h, hg_11 h, ha_11, hm_170 h, hg_12 h, ha_12, hm_171 h, hg_13 h, ha_13, hm_172 h, hs_172, hm_173 h, hs_173, hm_174 h, hs_174, hm_175 h, hs_175, hm_176 h, hs_176, hm_177 h, hg_14 h, ha_14, hm_178 h, hg_15 h, ha_15, hm_179 h, hg_16 h, ha_16, hm_180 h, hg_17 h, ha_17, hm_181 h, hg_18 h, ha_18, hm_182 h, hg_19 h, ha_19, hm_183 h, hg_20 h, ha_20, hm_184 h, hs_184, hm_185 h, hs_185, hm_186 h, hs_186, mA_uA, mA_uF, mA_uW, mF_uA, mF_uF, mF_uW, mW_uA, mW_uF, mW_uW, uA_uA, uA_uF, uF_uF, bI0, kv_s, ki_s, kj_s, kd_s, kq_s, kq_n, kq_o, ka_s, kc_r, kc_t, kc0_r, kc0_t, kch_r, kc0h_r, kw_s, kw0_s, kwh_s, kw0h_s, rg_ref, rg_null, rg_rf, ck_t, sel_some, lkn_hd, Option.isSome_some, Bool.true_and, Bool.and_true, okv_i, okv_l, okv_r, okv_n, okv_rf, okv_b, okv_0, okv_1, okv_f, okv_d, c1_i, c1_r, c1_n, c1_rf, c1_f, nI_add, n_mul, n_sub, n_pred, n_eq, n_le, n_lt, n_neN, n_Nne, N_lt, N_le, n_ltN, n_leN, rdI_n, rdJ_n, rdD_n, wrI_n, wrI_z0, wrI_z1, wrI_zb, wrJ_n, wrD_n, aln_s, okn_n, upd_is, upd_ne, Nat.add_zero, Nat.add_sub_cancel, decide_true, decide_false, cond_true, cond_false, if_true, if_false, ite_not, not_true_eq_false, not_false_eq_true, Nat.reduceEqDiff, Nat.reduceAdd, Nat.reduceMul, Nat.reduceSub, Nat.reduceLeDiff, s1, hP]
end
