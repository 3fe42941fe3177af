/-! the model's tokens -/
/-- the longest run of letters of a kind -/
def runP (p : Nat → Bool) (T : Nat → Nat) (n : Nat) : Nat → Nat → List Nat
  | 0, _ => []
  | f + 1, i => if i < n ∧ p (T i) = true then T i :: runP p T n f (i + 1) else []
def spP (x : Nat) : Bool := decide (x = 32) || decide (x = 10)
def leP (x : Nat) : Bool := decide (97 ≤ x) && decide (x ≤ 122)
def dgP (x : Nat) : Bool := decide (48 ≤ x) && decide (x ≤ 57)
def runA (p : Nat → Bool) (T : Nat → Nat) (n i : Nat) : List Nat := runP p T n (n - i) i
def byT (T : Nat → Nat) (n i : Nat) : Int32 := if i < n then nI (T i) else nN
/-- a number's value, as the model takes it -/
def mNv (ds : List Nat) : Nat := ds.foldl (fun v x => if 10000000 < v then v else 10 * v + x - 48) 0
/-- a word packed, as the model takes it -/
def mWd : List Nat → Nat → Int64 → Int64
  | [], _, w => w
  | x :: t, k, w => mWd t (k + 1) (if k < 11 then 27 * w + lN x - 96 else w)
def tkS (M : Ms) (p s k l m : Int32) (w : Int64) : Ms := (M.1, (fun f => if f = 158 then p else if f = 159 then s else if f = 160 then k else if f = 161 then l else if f = 162 then m else M.2.1 f), w)
section
variable {M : Ms} {p s k l m x : Int32} {w w' : Int64} {f g : Nat}
theorem tk_in : M = tkS M (mF M 158) (mF M 159) (mF M 160) (mF M 161) (mF M 162) (mW M) := by
  refine Prod.ext rfl (Prod.ext ?_ rfl)
  funext f
  show mF M f = if f = 158 then mF M 158 else if f = 159 then mF M 159 else if f = 160 then mF M 160 else if f = 161 then mF M 161 else if f = 162 then mF M 162 else mF M f
  grind
theorem tk_158 : mF (tkS M p s k l m w) 158 = p := rfl
theorem tk_159 : mF (tkS M p s k l m w) 159 = s := rfl
theorem tk_160 : mF (tkS M p s k l m w) 160 = k := rfl
theorem tk_161 : mF (tkS M p s k l m w) 161 = l := rfl
theorem tk_162 : mF (tkS M p s k l m w) 162 = m := rfl
theorem tk_157 : mF (tkS M p s k l m w) 157 = mF M 157 := rfl
theorem tk_163 : mF (tkS M p s k l m w) 163 = mF M 163 := rfl
theorem tk_164 : mF (tkS M p s k l m w) 164 = mF M 164 := rfl
theorem tk_155 : mF (tkS M p s k l m w) 155 = mF M 155 := rfl
theorem tk_A : mA (tkS M p s k l m w) g = mA M g := rfl
theorem tk_W : mW (tkS M p s k l m w) = w := rfl
theorem tk_u0 : uF (tkS M p s k l m w) 158 x = tkS M x s k l m w := by
  refine Prod.ext rfl (Prod.ext ?_ rfl)
  funext f
  dsimp only [uF, tkS]
  grind
theorem tk_u1 : uF (tkS M p s k l m w) 159 x = tkS M p x k l m w := by
  refine Prod.ext rfl (Prod.ext ?_ rfl)
  funext f
  dsimp only [uF, tkS]
  grind
theorem tk_u2 : uF (tkS M p s k l m w) 160 x = tkS M p s x l m w := by
  refine Prod.ext rfl (Prod.ext ?_ rfl)
  funext f
  dsimp only [uF, tkS]
  grind
theorem tk_u3 : uF (tkS M p s k l m w) 161 x = tkS M p s k x m w := by
  refine Prod.ext rfl (Prod.ext ?_ rfl)
  funext f
  dsimp only [uF, tkS]
  grind
theorem tk_u4 : uF (tkS M p s k l m w) 162 x = tkS M p s k l x w := by
  refine Prod.ext rfl (Prod.ext ?_ rfl)
  funext f
  dsimp only [uF, tkS]
  grind
theorem tk_u5 : uW (tkS M p s k l m w) w' = tkS M p s k l m w' := rfl
end
/-- the text that the model holds -/
abbrev TxM (M : Ms) (T : Nat → Nat) (n : Nat) : Prop := (mF M 157 = nI n) ∧ (n ≤ 700) ∧ (∀ j, j < n → mA M 7 j = nI (T j) ∧ T j < 256)
theorem TxM.n1 {M : Ms} {T : Nat → Nat} {n : Nat} (hse1f : TxM M T n) : mF M 157 = nI n := hse1f.1
theorem TxM.n2 {M : Ms} {T : Nat → Nat} {n : Nat} (hse1f : TxM M T n) : n ≤ 700 := hse1f.2.1
theorem TxM.t {M : Ms} {T : Nat → Nat} {n : Nat} (hse1f : TxM M T n) : ∀ j, j < n → mA M 7 j = nI (T j) ∧ T j < 256 := hse1f.2.2
section
variable {A : Hp} {m0 d i n : Nat} {M : Ms} {T : Nat → Nat} {p s k l m x : Int32} {w w' : Int64}
theorem TxM.tk (h : TxM M T n) : TxM (tkS M p s k l m w) T n := ⟨h.n1, h.n2, h.t⟩
theorem m_297 (h : mO A m0) (t : TxM M T n) (hi : i < 1000) : evG TB (d + 1) 297 [.ref m0, .int (nI i)] (hM A m0 M) = some (.inl (some (.int (byT T n i))), hM A m0 M) := by
  have n1 := t.n1
  have n2 := t.n2
  unfold byT
  rcases Nat.lt_or_ge i n with h1 | h1
  · rw [if_pos h1, ← (t.t i h1).1]
    simp (disch := omega) only [e_297, x_297_0, x_297_1, x_297_2, x_297_5, x_297_8, x_297_9, x_297_12, x_297_13, x_297_14, x_297_17, x_297_18, hm_c h, hm_148 h, hg_0 h, ha_0, hm_149 h, hg_1 h, ha_1, hm_150 h, hg_2 h, ha_2, hm_151 h, hg_3 h, ha_3, hm_152 h, hg_4 h, ha_4, hm_153 h, hg_5 h, ha_5, hm_154 h, hg_6 h, ha_6, hm_155 h, hs_155, hm_156 h, hg_7 h, ha_7, hm_157 h, hs_157, hm_158 h, hs_158, hm_159 h, hs_159, hm_160 h, hs_160, hm_161 h, hs_161, hm_162 h, hs_162, hm_163 h, hs_163, hm_164 h, hs_164, hm_165 h, hs_165, hm_166 h, hg_8 h, ha_8, hm_167 h, hg_9 h, ha_9, hm_168 h, hg_10 h, ha_10, hm_169 h, hg_11 h, ha_11, hm_170 h, hg_12 h, ha_12, hm_171 h, hg_13 h, ha_13, hm_172 h, hs_172, hm_173 h, hs_173, hm_174 h, hs_174, hm_175 h, hs_175, hm_176 h, hs_176, hm_177 h, hg_14 h, ha_14, hm_178 h, hg_15 h, ha_15, hm_179 h, hg_16 h, ha_16, hm_180 h, hg_17 h, ha_17, hm_181 h, hg_18 h, ha_18, hm_182 h, hg_19 h, ha_19, hm_183 h, hg_20 h, ha_20, hm_184 h, hs_184, hm_185 h, hs_185, hm_186 h, hs_186, mA_uA, mA_uF, mA_uW, mF_uA, mF_uF, mF_uW, mW_uA, mW_uF, mW_uW, uA_uA, uA_uF, uF_uF, bI0, kv_s, ki_s, kj_s, kd_s, kq_s, kq_n, kq_o, ka_s, kc_r, kc_t, kc0_r, kc0_t, kch_r, kc0h_r, kw_s, kw0_s, kwh_s, kw0h_s, rg_ref, rg_null, rg_rf, ck_t, sel_some, lkn_hd, Option.isSome_some, Bool.true_and, Bool.and_true, okv_i, okv_l, okv_r, okv_n, okv_rf, okv_b, okv_0, okv_1, okv_f, okv_d, c1_i, c1_r, c1_n, c1_rf, c1_f, nI_add, n_mul, n_sub, n_pred, n_eq, n_le, n_lt, n_neN, n_Nne, N_lt, N_le, n_ltN, n_leN, rdI_n, rdJ_n, rdD_n, wrI_n, wrI_z0, wrI_z1, wrI_zb, wrJ_n, wrD_n, aln_s, okn_n, upd_is, upd_ne, Nat.add_zero, Nat.add_sub_cancel, decide_true, decide_false, cond_true, cond_false, if_true, if_false, ite_not, not_true_eq_false, not_false_eq_true, Nat.reduceEqDiff, Nat.reduceAdd, Nat.reduceMul, Nat.reduceSub, Nat.reduceLeDiff, n1, nle h1]
  · rw [if_neg (by omega)]
    simp (disch := omega) only [e_297, x_297_0, x_297_1, x_297_2, x_297_5, x_297_8, x_297_9, x_297_12, x_297_13, x_297_14, x_297_17, x_297_18, hm_c h, hm_148 h, hg_0 h, ha_0, hm_149 h, hg_1 h, ha_1, hm_150 h, hg_2 h, ha_2, hm_151 h, hg_3 h, ha_3, hm_152 h, hg_4 h, ha_4, hm_153 h, hg_5 h, ha_5, hm_154 h, hg_6 h, ha_6, hm_155 h, hs_155, hm_156 h, hg_7 h, ha_7, hm_157 h, hs_157, hm_158 h, hs_158, hm_159 h, hs_159, hm_160 h, hs_160, hm_161 h, hs_161, hm_162 h, hs_162, hm_163 h, hs_163, hm_164 h, hs_164, hm_165 h, hs_165, hm_166 h, hg_8 h, ha_8, hm_167 h, hg_9 h, ha_9, hm_168 h, hg_10 h, ha_10, hm_169 h, hg_11 h, ha_11, hm_170 h, hg_12 h, ha_12, hm_171 h, hg_13 h, ha_13, hm_172 h, hs_172, hm_173 h, hs_173, hm_174 h, hs_174, hm_175 h, hs_175, hm_176 h, hs_176, hm_177 h, hg_14 h, ha_14, hm_178 h, hg_15 h, ha_15, hm_179 h, hg_16 h, ha_16, hm_180 h, hg_17 h, ha_17, hm_181 h, hg_18 h, ha_18, hm_182 h, hg_19 h, ha_19, hm_183 h, hg_20 h, ha_20, hm_184 h, hs_184, hm_185 h, hs_185, hm_186 h, hs_186, mA_uA, mA_uF, mA_uW, mF_uA, mF_uF, mF_uW, mW_uA, mW_uF, mW_uW, uA_uA, uA_uF, uF_uF, bI0, kv_s, ki_s, kj_s, kd_s, kq_s, kq_n, kq_o, ka_s, kc_r, kc_t, kc0_r, kc0_t, kch_r, kc0h_r, kw_s, kw0_s, kwh_s, kw0h_s, rg_ref, rg_null, rg_rf, ck_t, sel_some, lkn_hd, Option.isSome_some, Bool.true_and, Bool.and_true, okv_i, okv_l, okv_r, okv_n, okv_rf, okv_b, okv_0, okv_1, okv_f, okv_d, c1_i, c1_r, c1_n, c1_rf, c1_f, nI_add, n_mul, n_sub, n_pred, n_eq, n_le, n_lt, n_neN, n_Nne, N_lt, N_le, n_ltN, n_leN, rdI_n, rdJ_n, rdD_n, wrI_n, wrI_z0, wrI_z1, wrI_zb, wrJ_n, wrD_n, aln_s, okn_n, upd_is, upd_ne, Nat.add_zero, Nat.add_sub_cancel, decide_true, decide_false, cond_true, cond_false, if_true, if_false, ite_not, not_true_eq_false, not_false_eq_true, Nat.reduceEqDiff, Nat.reduceAdd, Nat.reduceMul, Nat.reduceSub, Nat.reduceLeDiff, n1, yle h1]
theorem btw_n {a b x : Nat} (ha : a < 1000) (hb : b < 1000) (hx : x < 256) : (decide (nI a ≤ nI x) && decide (nI x ≤ nI b)) = (decide (a ≤ x) && decide (x ≤ b)) := by
  simp (disch := omega) only [n_le]
theorem btw_N {a b : Nat} (ha : a < 1000) : (decide (nI a ≤ nN) && decide (nN ≤ nI b)) = false := by
  simp (disch := omega) only [n_leN, decide_false, Bool.false_and]
theorem m_298 (ht : ∀ j, j < n → T j < 256) : evG TB (d + 2) 298 [.int (byT T n i)] A = some (.inl (some (.int (bI (decide (i < n) && leP (T i))))), A) := by
  unfold byT
  by_cases h : i < n
  · rw [if_pos h, decide_eq_true h, Bool.true_and]
    have := btw_n (a := 97) (b := 122) (by decide) (by decide) (ht i h)
    simp (disch := omega) only [e_298, x_298_0, x_298_1, x_298_3, x_298_5, x_298_8, kv_s, ki_s, kj_s, kd_s, kq_s, kq_n, kq_o, ka_s, kc_r, kc_t, kc0_r, kc0_t, kch_r, kc0h_r, kw_s, kw0_s, kwh_s, kw0h_s, rg_ref, rg_null, rg_rf, ck_t, sel_some, lkn_hd, Option.isSome_some, Bool.true_and, Bool.and_true, okv_i, okv_l, okv_r, okv_n, okv_rf, okv_b, okv_0, okv_1, okv_f, okv_d, c1_i, c1_r, c1_n, c1_rf, c1_f, nI_add, n_mul, n_sub, n_pred, n_eq, n_le, n_lt, n_neN, n_Nne, N_lt, N_le, n_ltN, n_leN, rdI_n, rdJ_n, rdD_n, wrI_n, wrI_z0, wrI_z1, wrI_zb, wrJ_n, wrD_n, aln_s, okn_n, upd_is, upd_ne, Nat.add_zero, Nat.add_sub_cancel, decide_true, decide_false, cond_true, cond_false, if_true, if_false, ite_not, not_true_eq_false, not_false_eq_true, Nat.reduceEqDiff, Nat.reduceAdd, Nat.reduceMul, Nat.reduceSub, Nat.reduceLeDiff, m_293, this]
    rfl
  · rw [if_neg h, decide_eq_false h, Bool.false_and]
    have := btw_N (a := 97) (b := 122) (by decide)
    simp (disch := omega) only [e_298, x_298_0, x_298_1, x_298_3, x_298_5, x_298_8, kv_s, ki_s, kj_s, kd_s, kq_s, kq_n, kq_o, ka_s, kc_r, kc_t, kc0_r, kc0_t, kch_r, kc0h_r, kw_s, kw0_s, kwh_s, kw0h_s, rg_ref, rg_null, rg_rf, ck_t, sel_some, lkn_hd, Option.isSome_some, Bool.true_and, Bool.and_true, okv_i, okv_l, okv_r, okv_n, okv_rf, okv_b, okv_0, okv_1, okv_f, okv_d, c1_i, c1_r, c1_n, c1_rf, c1_f, nI_add, n_mul, n_sub, n_pred, n_eq, n_le, n_lt, n_neN, n_Nne, N_lt, N_le, n_ltN, n_leN, rdI_n, rdJ_n, rdD_n, wrI_n, wrI_z0, wrI_z1, wrI_zb, wrJ_n, wrD_n, aln_s, okn_n, upd_is, upd_ne, Nat.add_zero, Nat.add_sub_cancel, decide_true, decide_false, cond_true, cond_false, if_true, if_false, ite_not, not_true_eq_false, not_false_eq_true, Nat.reduceEqDiff, Nat.reduceAdd, Nat.reduceMul, Nat.reduceSub, Nat.reduceLeDiff, m_293, this]
theorem m_299 (ht : ∀ j, j < n → T j < 256) : evG TB (d + 2) 299 [.int (byT T n i)] A = some (.inl (some (.int (bI (decide (i < n) && dgP (T i))))), A) := by
  unfold byT
  by_cases h : i < n
  · rw [if_pos h, decide_eq_true h, Bool.true_and]
    have := btw_n (a := 48) (b := 57) (by decide) (by decide) (ht i h)
    simp (disch := omega) only [e_299, x_299_0, x_299_1, x_299_3, x_299_5, x_299_8, kv_s, ki_s, kj_s, kd_s, kq_s, kq_n, kq_o, ka_s, kc_r, kc_t, kc0_r, kc0_t, kch_r, kc0h_r, kw_s, kw0_s, kwh_s, kw0h_s, rg_ref, rg_null, rg_rf, ck_t, sel_some, lkn_hd, Option.isSome_some, Bool.true_and, Bool.and_true, okv_i, okv_l, okv_r, okv_n, okv_rf, okv_b, okv_0, okv_1, okv_f, okv_d, c1_i, c1_r, c1_n, c1_rf, c1_f, nI_add, n_mul, n_sub, n_pred, n_eq, n_le, n_lt, n_neN, n_Nne, N_lt, N_le, n_ltN, n_leN, rdI_n, rdJ_n, rdD_n, wrI_n, wrI_z0, wrI_z1, wrI_zb, wrJ_n, wrD_n, aln_s, okn_n, upd_is, upd_ne, Nat.add_zero, Nat.add_sub_cancel, decide_true, decide_false, cond_true, cond_false, if_true, if_false, ite_not, not_true_eq_false, not_false_eq_true, Nat.reduceEqDiff, Nat.reduceAdd, Nat.reduceMul, Nat.reduceSub, Nat.reduceLeDiff, m_293, this]
    rfl
  · rw [if_neg h, decide_eq_false h, Bool.false_and]
    have := btw_N (a := 48) (b := 57) (by decide)
    simp (disch := omega) only [e_299, x_299_0, x_299_1, x_299_3, x_299_5, x_299_8, kv_s, ki_s, kj_s, kd_s, kq_s, kq_n, kq_o, ka_s, kc_r, kc_t, kc0_r, kc0_t, kch_r, kc0h_r, kw_s, kw0_s, kwh_s, kw0h_s, rg_ref, rg_null, rg_rf, ck_t, sel_some, lkn_hd, Option.isSome_some, Bool.true_and, Bool.and_true, okv_i, okv_l, okv_r, okv_n, okv_rf, okv_b, okv_0, okv_1, okv_f, okv_d, c1_i, c1_r, c1_n, c1_rf, c1_f, nI_add, n_mul, n_sub, n_pred, n_eq, n_le, n_lt, n_neN, n_Nne, N_lt, N_le, n_ltN, n_leN, rdI_n, rdJ_n, rdD_n, wrI_n, wrI_z0, wrI_z1, wrI_zb, wrJ_n, wrD_n, aln_s, okn_n, upd_is, upd_ne, Nat.add_zero, Nat.add_sub_cancel, decide_true, decide_false, cond_true, cond_false, if_true, if_false, ite_not, not_true_eq_false, not_false_eq_true, Nat.reduceEqDiff, Nat.reduceAdd, Nat.reduceMul, Nat.reduceSub, Nat.reduceLeDiff, m_293, this]
theorem byT_eq {c : Nat} (hc : c < 1000) (ht : ∀ j, j < n → T j < 256) : (byT T n i = nI c) = (i < n ∧ T i = c) := by
  unfold byT
  by_cases h : i < n
  · have := ht i h
    rw [if_pos h, n_eq (by omega) (by omega)]
    simp only [h, true_and]
  · rw [if_neg h]
    simp (disch := omega) only [n_Nne, h, false_and]
/-- blanks passed -/
theorem m_296_sk (h : mO A m0) (t : TxM M T n) : ∀ (f i : Nat), i + f = n → ∀ (o : Option Value), exG TB (d + 3) 296 0 [some (.ref m0), o] [] (hM A m0 (tkS M (nI i) s k l m w)) = exG TB (d + 3) 296 39 [some (.ref m0), o] [] (hM A m0 (tkS M (nI (i + (runP spP T n f i).length)) s k l m w))
  | 0, i, hf, o => by
    have n2 := t.n2
    have q := m_297 (d := d + 2) h (t.tk (p := nI i) (s := s) (k := k) (l := l) (m := m) (w := w)) (i := i) (by omega)
    have e32 := byT_eq (T := T) (n := n) (i := i) (c := 32) (by decide) (fun j hj => (t.t j hj).2)
    have e10 := byT_eq (T := T) (n := n) (i := i) (c := 10) (by decide) (fun j hj => (t.t j hj).2)
    have hi : (i < n) = False := eq_false (by omega)
    rw [hi, eq_false (fun z => z.1 : ¬ (False ∧ T i = 32))] at e32
    rw [hi, eq_false (fun z => z.1 : ¬ (False ∧ T i = 10))] at e10
    refine x_296_0.trans ?_
    simp (disch := omega) only [x_296_1, x_296_2, x_296_5, x_296_8, x_296_10, x_296_13, x_296_14, x_296_15, x_296_18, x_296_21, x_296_23, x_296_26, x_296_27, x_296_28, x_296_31, x_296_32, x_296_33, x_296_36, hm_c h, hm_148 h, hg_0 h, ha_0, hm_149 h, hg_1 h, ha_1, hm_150 h, hg_2 h, ha_2, hm_151 h, hg_3 h, ha_3, hm_152 h, hg_4 h, ha_4, hm_153 h, hg_5 h, ha_5, hm_154 h, hg_6 h, ha_6, hm_155 h, hs_155, hm_156 h, hg_7 h, ha_7, hm_157 h, hs_157, hm_158 h, hs_158, hm_159 h, hs_159, hm_160 h, hs_160, hm_161 h, hs_161, hm_162 h, hs_162, hm_163 h, hs_163, hm_164 h, hs_164, hm_165 h, hs_165, hm_166 h, hg_8 h, ha_8, hm_167 h, hg_9 h, ha_9, hm_168 h, hg_10 h, ha_10, hm_169 h, hg_11 h, ha_11, hm_170 h, hg_12 h, ha_12, hm_171 h, hg_13 h, ha_13, hm_172 h, hs_172, hm_173 h, hs_173, hm_174 h, hs_174, hm_175 h, hs_175, hm_176 h, hs_176, hm_177 h, hg_14 h, ha_14, hm_178 h, hg_15 h, ha_15, hm_179 h, hg_16 h, ha_16, hm_180 h, hg_17 h, ha_17, hm_181 h, hg_18 h, ha_18, hm_182 h, hg_19 h, ha_19, hm_183 h, hg_20 h, ha_20, hm_184 h, hs_184, hm_185 h, hs_185, hm_186 h, hs_186, mA_uA, mA_uF, mA_uW, mF_uA, mF_uF, mF_uW, mW_uA, mW_uF, mW_uW, uA_uA, uA_uF, uF_uF, bI0, tk_155, tk_157, tk_158, tk_159, tk_160, tk_161, tk_162, tk_163, tk_164, tk_A, tk_W, tk_u0, tk_u1, tk_u2, tk_u3, tk_u4, tk_u5, kv_s, ki_s, kj_s, kd_s, kq_s, kq_n, kq_o, ka_s, kc_r, kc_t, kc0_r, kc0_t, kch_r, kc0h_r, kw_s, kw0_s, kwh_s, kw0h_s, rg_ref, rg_null, rg_rf, ck_t, sel_some, lkn_hd, Option.isSome_some, Bool.true_and, Bool.and_true, okv_i, okv_l, okv_r, okv_n, okv_rf, okv_b, okv_0, okv_1, okv_f, okv_d, c1_i, c1_r, c1_n, c1_rf, c1_f, nI_add, n_mul, n_sub, n_pred, n_eq, n_le, n_lt, n_neN, n_Nne, N_lt, N_le, n_ltN, n_leN, rdI_n, rdJ_n, rdD_n, wrI_n, wrI_z0, wrI_z1, wrI_zb, wrJ_n, wrD_n, aln_s, okn_n, upd_is, upd_ne, Nat.add_zero, Nat.add_sub_cancel, decide_true, decide_false, cond_true, cond_false, if_true, if_false, ite_not, not_true_eq_false, not_false_eq_true, Nat.reduceEqDiff, Nat.reduceAdd, Nat.reduceMul, Nat.reduceSub, Nat.reduceLeDiff, q, e32, e10, runP, List.length_nil]
  | f + 1, i, hf, o => by
    have n2 := t.n2
    have q := m_297 (d := d + 2) h (t.tk (p := nI i) (s := s) (k := k) (l := l) (m := m) (w := w)) (i := i) (by omega)
    have e32 := byT_eq (T := T) (n := n) (i := i) (c := 32) (by decide) (fun j hj => (t.t j hj).2)
    have e10 := byT_eq (T := T) (n := n) (i := i) (c := 10) (by decide) (fun j hj => (t.t j hj).2)
    have hi : (i < n) = True := eq_true (by omega)
    rw [hi, true_and] at e32 e10
    have ih := m_296_sk h t f (i + 1) (by omega) o
    unfold runP
    rcases pc (T i = 32) with h1 | h1
    · rw [h1] at e32
      have c : i < n ∧ spP (T i) = true := ⟨by omega, by unfold spP; rw [of_eq_true h1]; rfl⟩
      rw [if_pos c, List.length_cons, show i + ((runP spP T n f (i + 1)).length + 1) = i + 1 + (runP spP T n f (i + 1)).length from by omega, ← ih]
      refine x_296_0.trans ?_
      simp (disch := omega) only [x_296_1, x_296_2, x_296_5, x_296_8, x_296_10, x_296_13, x_296_14, x_296_15, x_296_18, x_296_21, x_296_23, x_296_26, x_296_27, x_296_28, x_296_31, x_296_32, x_296_33, x_296_36, hm_c h, hm_148 h, hg_0 h, ha_0, hm_149 h, hg_1 h, ha_1, hm_150 h, hg_2 h, ha_2, hm_151 h, hg_3 h, ha_3, hm_152 h, hg_4 h, ha_4, hm_153 h, hg_5 h, ha_5, hm_154 h, hg_6 h, ha_6, hm_155 h, hs_155, hm_156 h, hg_7 h, ha_7, hm_157 h, hs_157, hm_158 h, hs_158, hm_159 h, hs_159, hm_160 h, hs_160, hm_161 h, hs_161, hm_162 h, hs_162, hm_163 h, hs_163, hm_164 h, hs_164, hm_165 h, hs_165, hm_166 h, hg_8 h, ha_8, hm_167 h, hg_9 h, ha_9, hm_168 h, hg_10 h, ha_10, hm_169 h, hg_11 h, ha_11, hm_170 h, hg_12 h, ha_12, hm_171 h, hg_13 h, ha_13, hm_172 h, hs_172, hm_173 h, hs_173, hm_174 h, hs_174, hm_175 h, hs_175, hm_176 h, hs_176, hm_177 h, hg_14 h, ha_14, hm_178 h, hg_15 h, ha_15, hm_179 h, hg_16 h, ha_16, hm_180 h, hg_17 h, ha_17, hm_181 h, hg_18 h, ha_18, hm_182 h, hg_19 h, ha_19, hm_183 h, hg_20 h, ha_20, hm_184 h, hs_184, hm_185 h, hs_185, hm_186 h, hs_186, mA_uA, mA_uF, mA_uW, mF_uA, mF_uF, mF_uW, mW_uA, mW_uF, mW_uW, uA_uA, uA_uF, uF_uF, bI0, tk_155, tk_157, tk_158, tk_159, tk_160, tk_161, tk_162, tk_163, tk_164, tk_A, tk_W, tk_u0, tk_u1, tk_u2, tk_u3, tk_u4, tk_u5, kv_s, ki_s, kj_s, kd_s, kq_s, kq_n, kq_o, ka_s, kc_r, kc_t, kc0_r, kc0_t, kch_r, kc0h_r, kw_s, kw0_s, kwh_s, kw0h_s, rg_ref, rg_null, rg_rf, ck_t, sel_some, lkn_hd, Option.isSome_some, Bool.true_and, Bool.and_true, okv_i, okv_l, okv_r, okv_n, okv_rf, okv_b, okv_0, okv_1, okv_f, okv_d, c1_i, c1_r, c1_n, c1_rf, c1_f, nI_add, n_mul, n_sub, n_pred, n_eq, n_le, n_lt, n_neN, n_Nne, N_lt, N_le, n_ltN, n_leN, rdI_n, rdJ_n, rdD_n, wrI_n, wrI_z0, wrI_z1, wrI_zb, wrJ_n, wrD_n, aln_s, okn_n, upd_is, upd_ne, Nat.add_zero, Nat.add_sub_cancel, decide_true, decide_false, cond_true, cond_false, if_true, if_false, ite_not, not_true_eq_false, not_false_eq_true, Nat.reduceEqDiff, Nat.reduceAdd, Nat.reduceMul, Nat.reduceSub, Nat.reduceLeDiff, q, e32]
    · rcases pc (T i = 10) with h2 | h2
      · rw [h1] at e32
        rw [h2] at e10
        have c : i < n ∧ spP (T i) = true := ⟨by omega, by unfold spP; rw [of_eq_true h2]; rfl⟩
        rw [if_pos c, List.length_cons, show i + ((runP spP T n f (i + 1)).length + 1) = i + 1 + (runP spP T n f (i + 1)).length from by omega, ← ih]
        refine x_296_0.trans ?_
        simp (disch := omega) only [x_296_1, x_296_2, x_296_5, x_296_8, x_296_10, x_296_13, x_296_14, x_296_15, x_296_18, x_296_21, x_296_23, x_296_26, x_296_27, x_296_28, x_296_31, x_296_32, x_296_33, x_296_36, hm_c h, hm_148 h, hg_0 h, ha_0, hm_149 h, hg_1 h, ha_1, hm_150 h, hg_2 h, ha_2, hm_151 h, hg_3 h, ha_3, hm_152 h, hg_4 h, ha_4, hm_153 h, hg_5 h, ha_5, hm_154 h, hg_6 h, ha_6, hm_155 h, hs_155, hm_156 h, hg_7 h, ha_7, hm_157 h, hs_157, hm_158 h, hs_158, hm_159 h, hs_159, hm_160 h, hs_160, hm_161 h, hs_161, hm_162 h, hs_162, hm_163 h, hs_163, hm_164 h, hs_164, hm_165 h, hs_165, hm_166 h, hg_8 h, ha_8, hm_167 h, hg_9 h, ha_9, hm_168 h, hg_10 h, ha_10, hm_169 h, hg_11 h, ha_11, hm_170 h, hg_12 h, ha_12, hm_171 h, hg_13 h, ha_13, hm_172 h, hs_172, hm_173 h, hs_173, hm_174 h, hs_174, hm_175 h, hs_175, hm_176 h, hs_176, hm_177 h, hg_14 h, ha_14, hm_178 h, hg_15 h, ha_15, hm_179 h, hg_16 h, ha_16, hm_180 h, hg_17 h, ha_17, hm_181 h, hg_18 h, ha_18, hm_182 h, hg_19 h, ha_19, hm_183 h, hg_20 h, ha_20, hm_184 h, hs_184, hm_185 h, hs_185, hm_186 h, hs_186, mA_uA, mA_uF, mA_uW, mF_uA, mF_uF, mF_uW, mW_uA, mW_uF, mW_uW, uA_uA, uA_uF, uF_uF, bI0, tk_155, tk_157, tk_158, tk_159, tk_160, tk_161, tk_162, tk_163, tk_164, tk_A, tk_W, tk_u0, tk_u1, tk_u2, tk_u3, tk_u4, tk_u5, kv_s, ki_s, kj_s, kd_s, kq_s, kq_n, kq_o, ka_s, kc_r, kc_t, kc0_r, kc0_t, kch_r, kc0h_r, kw_s, kw0_s, kwh_s, kw0h_s, rg_ref, rg_null, rg_rf, ck_t, sel_some, lkn_hd, Option.isSome_some, Bool.true_and, Bool.and_true, okv_i, okv_l, okv_r, okv_n, okv_rf, okv_b, okv_0, okv_1, okv_f, okv_d, c1_i, c1_r, c1_n, c1_rf, c1_f, nI_add, n_mul, n_sub, n_pred, n_eq, n_le, n_lt, n_neN, n_Nne, N_lt, N_le, n_ltN, n_leN, rdI_n, rdJ_n, rdD_n, wrI_n, wrI_z0, wrI_z1, wrI_zb, wrJ_n, wrD_n, aln_s, okn_n, upd_is, upd_ne, Nat.add_zero, Nat.add_sub_cancel, decide_true, decide_false, cond_true, cond_false, if_true, if_false, ite_not, not_true_eq_false, not_false_eq_true, Nat.reduceEqDiff, Nat.reduceAdd, Nat.reduceMul, Nat.reduceSub, Nat.reduceLeDiff, q, e32, e10]
      · rw [h1] at e32
        rw [h2] at e10
        have c : ¬ (i < n ∧ spP (T i) = true) := fun z => by
          have := z.2
          unfold spP at this
          rw [decide_eq_false (of_eq_false h1), decide_eq_false (of_eq_false h2)] at this
          cases this
        rw [if_neg c, List.length_nil]
        refine x_296_0.trans ?_
        simp (disch := omega) only [x_296_1, x_296_2, x_296_5, x_296_8, x_296_10, x_296_13, x_296_14, x_296_15, x_296_18, x_296_21, x_296_23, x_296_26, x_296_27, x_296_28, x_296_31, x_296_32, x_296_33, x_296_36, hm_c h, hm_148 h, hg_0 h, ha_0, hm_149 h, hg_1 h, ha_1, hm_150 h, hg_2 h, ha_2, hm_151 h, hg_3 h, ha_3, hm_152 h, hg_4 h, ha_4, hm_153 h, hg_5 h, ha_5, hm_154 h, hg_6 h, ha_6, hm_155 h, hs_155, hm_156 h, hg_7 h, ha_7, hm_157 h, hs_157, hm_158 h, hs_158, hm_159 h, hs_159, hm_160 h, hs_160, hm_161 h, hs_161, hm_162 h, hs_162, hm_163 h, hs_163, hm_164 h, hs_164, hm_165 h, hs_165, hm_166 h, hg_8 h, ha_8, hm_167 h, hg_9 h, ha_9, hm_168 h, hg_10 h, ha_10, hm_169 h, hg_11 h, ha_11, hm_170 h, hg_12 h, ha_12, hm_171 h, hg_13 h, ha_13, hm_172 h, hs_172, hm_173 h, hs_173, hm_174 h, hs_174, hm_175 h, hs_175, hm_176 h, hs_176, hm_177 h, hg_14 h, ha_14, hm_178 h, hg_15 h, ha_15, hm_179 h, hg_16 h, ha_16, hm_180 h, hg_17 h, ha_17, hm_181 h, hg_18 h, ha_18, hm_182 h, hg_19 h, ha_19, hm_183 h, hg_20 h, ha_20, hm_184 h, hs_184, hm_185 h, hs_185, hm_186 h, hs_186, mA_uA, mA_uF, mA_uW, mF_uA, mF_uF, mF_uW, mW_uA, mW_uF, mW_uW, uA_uA, uA_uF, uF_uF, bI0, tk_155, tk_157, tk_158, tk_159, tk_160, tk_161, tk_162, tk_163, tk_164, tk_A, tk_W, tk_u0, tk_u1, tk_u2, tk_u3, tk_u4, tk_u5, kv_s, ki_s, kj_s, kd_s, kq_s, kq_n, kq_o, ka_s, kc_r, kc_t, kc0_r, kc0_t, kch_r, kc0h_r, kw_s, kw0_s, kwh_s, kw0h_s, rg_ref, rg_null, rg_rf, ck_t, sel_some, lkn_hd, Option.isSome_some, Bool.true_and, Bool.and_true, okv_i, okv_l, okv_r, okv_n, okv_rf, okv_b, okv_0, okv_1, okv_f, okv_d, c1_i, c1_r, c1_n, c1_rf, c1_f, nI_add, n_mul, n_sub, n_pred, n_eq, n_le, n_lt, n_neN, n_Nne, N_lt, N_le, n_ltN, n_leN, rdI_n, rdJ_n, rdD_n, wrI_n, wrI_z0, wrI_z1, wrI_zb, wrJ_n, wrD_n, aln_s, okn_n, upd_is, upd_ne, Nat.add_zero, Nat.add_sub_cancel, decide_true, decide_false, cond_true, cond_false, if_true, if_false, ite_not, not_true_eq_false, not_false_eq_true, Nat.reduceEqDiff, Nat.reduceAdd, Nat.reduceMul, Nat.reduceSub, Nat.reduceLeDiff, q, e32, e10]
theorem mWd_c {x : Nat} {t : List Nat} {c : Nat} {w : Int64} : mWd (x :: t) c w = mWd t (c + 1) (if c < 11 then 27 * w + lN x - 96 else w) := rfl
theorem run_c {q : Nat → Bool} {f : Nat} (hi : i < n) (hp : q (T i) = true) : runP q T n (f + 1) i = T i :: runP q T n f (i + 1) := if_pos ⟨hi, hp⟩
theorem run_e {q : Nat → Bool} {f : Nat} (hp : q (T i) = false) : runP q T n f i = [] := by
  cases f with
  | zero => rfl
  | succ f => exact if_neg (fun z => by rw [hp] at z; exact absurd z.2 (by decide))
/-- a word's letters -/
theorem m_296_wd (h : mO A m0) (t : TxM M T n) : ∀ (f i : Nat), i + f = n → ∀ (o : Option Value) (c : Nat) (w : Int64), c + f ≤ 1000 → exG TB (d + 3) 296 96 [some (.ref m0), o] [] (hM A m0 (tkS M (nI i) s k (nI c) m w)) = some (.inl none, hM A m0 (tkS M (nI (i + (runP leP T n f i).length)) s k (nI (c + (runP leP T n f i).length)) m (mWd (runP leP T n f i) c w)))
  | 0, i, hf, o, c, w, hc => by
    have n2 := t.n2
    have q := m_297 (d := d + 2) h (t.tk (p := nI i) (s := s) (k := k) (l := nI c) (m := m) (w := w)) (i := i) (by omega)
    have q2 := m_298 (A := hM A m0 (tkS M (nI i) s k (nI c) m w)) (d := d + 1) (T := T) (n := n) (i := i) (fun j hj => (t.t j hj).2)
    rw [decide_eq_false (show ¬ i < n by omega), Bool.false_and, bI_f] at q2
    refine x_296_96.trans ?_
    simp (disch := omega) only [x_296_97, x_296_98, x_296_101, x_296_104, x_296_107, x_296_110, x_296_111, x_296_112, x_296_115, x_296_117, x_296_120, x_296_123, x_296_124, x_296_127, x_296_128, x_296_129, x_296_130, x_296_133, x_296_136, x_296_137, x_296_138, x_296_141, x_296_142, x_296_145, x_296_146, x_296_149, x_296_152, x_296_153, x_296_154, x_296_157, x_296_158, x_296_159, x_296_162, x_296_163, x_296_164, x_296_167, x_296_168, x_296_169, x_296_172, x_296_278, hm_c h, hm_148 h, hg_0 h, ha_0, hm_149 h, hg_1 h, ha_1, hm_150 h, hg_2 h, ha_2, hm_151 h, hg_3 h, ha_3, hm_152 h, hg_4 h, ha_4, hm_153 h, hg_5 h, ha_5, hm_154 h, hg_6 h, ha_6, hm_155 h, hs_155, hm_156 h, hg_7 h, ha_7, hm_157 h, hs_157, hm_158 h, hs_158, hm_159 h, hs_159, hm_160 h, hs_160, hm_161 h, hs_161, hm_162 h, hs_162, hm_163 h, hs_163, hm_164 h, hs_164, hm_165 h, hs_165, hm_166 h, hg_8 h, ha_8, hm_167 h, hg_9 h, ha_9, hm_168 h, hg_10 h, ha_10, hm_169 h, hg_11 h, ha_11, hm_170 h, hg_12 h, ha_12, hm_171 h, hg_13 h, ha_13, hm_172 h, hs_172, hm_173 h, hs_173, hm_174 h, hs_174, hm_175 h, hs_175, hm_176 h, hs_176, hm_177 h, hg_14 h, ha_14, hm_178 h, hg_15 h, ha_15, hm_179 h, hg_16 h, ha_16, hm_180 h, hg_17 h, ha_17, hm_181 h, hg_18 h, ha_18, hm_182 h, hg_19 h, ha_19, hm_183 h, hg_20 h, ha_20, hm_184 h, hs_184, hm_185 h, hs_185, hm_186 h, hs_186, mA_uA, mA_uF, mA_uW, mF_uA, mF_uF, mF_uW, mW_uA, mW_uF, mW_uW, uA_uA, uA_uF, uF_uF, bI0, tk_155, tk_157, tk_158, tk_159, tk_160, tk_161, tk_162, tk_163, tk_164, tk_A, tk_W, tk_u0, tk_u1, tk_u2, tk_u3, tk_u4, tk_u5, kv_s, ki_s, kj_s, kd_s, kq_s, kq_n, kq_o, ka_s, kc_r, kc_t, kc0_r, kc0_t, kch_r, kc0h_r, kw_s, kw0_s, kwh_s, kw0h_s, rg_ref, rg_null, rg_rf, ck_t, sel_some, lkn_hd, Option.isSome_some, Bool.true_and, Bool.and_true, okv_i, okv_l, okv_r, okv_n, okv_rf, okv_b, okv_0, okv_1, okv_f, okv_d, c1_i, c1_r, c1_n, c1_rf, c1_f, nI_add, n_mul, n_sub, n_pred, n_eq, n_le, n_lt, n_neN, n_Nne, N_lt, N_le, n_ltN, n_leN, rdI_n, rdJ_n, rdD_n, wrI_n, wrI_z0, wrI_z1, wrI_zb, wrJ_n, wrD_n, aln_s, okn_n, upd_is, upd_ne, Nat.add_zero, Nat.add_sub_cancel, decide_true, decide_false, cond_true, cond_false, if_true, if_false, ite_not, not_true_eq_false, not_false_eq_true, Nat.reduceEqDiff, Nat.reduceAdd, Nat.reduceMul, Nat.reduceSub, Nat.reduceLeDiff, q, q2, runP, List.length_nil, mWd]
  | f + 1, i, hf, o, c, w, hc => by
    have n2 := t.n2
    have hi : i < n := by omega
    have q := m_297 (d := d + 2) h (t.tk (p := nI i) (s := s) (k := k) (l := nI c) (m := m) (w := w)) (i := i) (by omega)
    have q2 := m_298 (A := hM A m0 (tkS M (nI i) s k (nI c) m w)) (d := d + 1) (T := T) (n := n) (i := i) (fun j hj => (t.t j hj).2)
    rw [decide_eq_true hi, Bool.true_and] at q2
    cases hp : leP (T i) with
    | false =>
      rw [hp, bI_f] at q2
      rw [run_e hp]
      refine x_296_96.trans ?_
      simp (disch := omega) only [x_296_97, x_296_98, x_296_101, x_296_104, x_296_107, x_296_110, x_296_111, x_296_112, x_296_115, x_296_117, x_296_120, x_296_123, x_296_124, x_296_127, x_296_128, x_296_129, x_296_130, x_296_133, x_296_136, x_296_137, x_296_138, x_296_141, x_296_142, x_296_145, x_296_146, x_296_149, x_296_152, x_296_153, x_296_154, x_296_157, x_296_158, x_296_159, x_296_162, x_296_163, x_296_164, x_296_167, x_296_168, x_296_169, x_296_172, x_296_278, hm_c h, hm_148 h, hg_0 h, ha_0, hm_149 h, hg_1 h, ha_1, hm_150 h, hg_2 h, ha_2, hm_151 h, hg_3 h, ha_3, hm_152 h, hg_4 h, ha_4, hm_153 h, hg_5 h, ha_5, hm_154 h, hg_6 h, ha_6, hm_155 h, hs_155, hm_156 h, hg_7 h, ha_7, hm_157 h, hs_157, hm_158 h, hs_158, hm_159 h, hs_159, hm_160 h, hs_160, hm_161 h, hs_161, hm_162 h, hs_162, hm_163 h, hs_163, hm_164 h, hs_164, hm_165 h, hs_165, hm_166 h, hg_8 h, ha_8, hm_167 h, hg_9 h, ha_9, hm_168 h, hg_10 h, ha_10, hm_169 h, hg_11 h, ha_11, hm_170 h, hg_12 h, ha_12, hm_171 h, hg_13 h, ha_13, hm_172 h, hs_172, hm_173 h, hs_173, hm_174 h, hs_174, hm_175 h, hs_175, hm_176 h, hs_176, hm_177 h, hg_14 h, ha_14, hm_178 h, hg_15 h, ha_15, hm_179 h, hg_16 h, ha_16, hm_180 h, hg_17 h, ha_17, hm_181 h, hg_18 h, ha_18, hm_182 h, hg_19 h, ha_19, hm_183 h, hg_20 h, ha_20, hm_184 h, hs_184, hm_185 h, hs_185, hm_186 h, hs_186, mA_uA, mA_uF, mA_uW, mF_uA, mF_uF, mF_uW, mW_uA, mW_uF, mW_uW, uA_uA, uA_uF, uF_uF, bI0, tk_155, tk_157, tk_158, tk_159, tk_160, tk_161, tk_162, tk_163, tk_164, tk_A, tk_W, tk_u0, tk_u1, tk_u2, tk_u3, tk_u4, tk_u5, kv_s, ki_s, kj_s, kd_s, kq_s, kq_n, kq_o, ka_s, kc_r, kc_t, kc0_r, kc0_t, kch_r, kc0h_r, kw_s, kw0_s, kwh_s, kw0h_s, rg_ref, rg_null, rg_rf, ck_t, sel_some, lkn_hd, Option.isSome_some, Bool.true_and, Bool.and_true, okv_i, okv_l, okv_r, okv_n, okv_rf, okv_b, okv_0, okv_1, okv_f, okv_d, c1_i, c1_r, c1_n, c1_rf, c1_f, nI_add, n_mul, n_sub, n_pred, n_eq, n_le, n_lt, n_neN, n_Nne, N_lt, N_le, n_ltN, n_leN, rdI_n, rdJ_n, rdD_n, wrI_n, wrI_z0, wrI_z1, wrI_zb, wrJ_n, wrD_n, aln_s, okn_n, upd_is, upd_ne, Nat.add_zero, Nat.add_sub_cancel, decide_true, decide_false, cond_true, cond_false, if_true, if_false, ite_not, not_true_eq_false, not_false_eq_true, Nat.reduceEqDiff, Nat.reduceAdd, Nat.reduceMul, Nat.reduceSub, Nat.reduceLeDiff, q, q2, List.length_nil, mWd]
    | true =>
      rw [hp, bI_t] at q2
      have hx := (t.t i hi).2
      have eb : byT T n i = nI (T i) := if_pos hi
      have el := nI_l (n := T i) (by omega)
      rw [run_c hi hp, List.length_cons]
      rw [mWd_c, show i + ((runP leP T n f (i + 1)).length + 1) = i + 1 + (runP leP T n f (i + 1)).length from by omega, show c + ((runP leP T n f (i + 1)).length + 1) = c + 1 + (runP leP T n f (i + 1)).length from by omega]
      have ih := m_296_wd h t f (i + 1) (by omega) o (c + 1) (if c < 11 then 27 * w + lN (T i) - 96 else w) (by omega)
      rw [eb] at q q2
      rw [← ih]
      rcases Nat.lt_or_ge c 11 with hc | hc
      · rw [if_pos hc]
        refine x_296_96.trans ?_
        simp (disch := omega) only [x_296_97, x_296_98, x_296_101, x_296_104, x_296_107, x_296_110, x_296_111, x_296_112, x_296_115, x_296_117, x_296_120, x_296_123, x_296_124, x_296_127, x_296_128, x_296_129, x_296_130, x_296_133, x_296_136, x_296_137, x_296_138, x_296_141, x_296_142, x_296_145, x_296_146, x_296_149, x_296_152, x_296_153, x_296_154, x_296_157, x_296_158, x_296_159, x_296_162, x_296_163, x_296_164, x_296_167, x_296_168, x_296_169, x_296_172, hm_c h, hm_148 h, hg_0 h, ha_0, hm_149 h, hg_1 h, ha_1, hm_150 h, hg_2 h, ha_2, hm_151 h, hg_3 h, ha_3, hm_152 h, hg_4 h, ha_4, hm_153 h, hg_5 h, ha_5, hm_154 h, hg_6 h, ha_6, hm_155 h, hs_155, hm_156 h, hg_7 h, ha_7, hm_157 h, hs_157, hm_158 h, hs_158, hm_159 h, hs_159, hm_160 h, hs_160, hm_161 h, hs_161, hm_162 h, hs_162, hm_163 h, hs_163, hm_164 h, hs_164, hm_165 h, hs_165, hm_166 h, hg_8 h, ha_8, hm_167 h, hg_9 h, ha_9, hm_168 h, hg_10 h, ha_10, hm_169 h, hg_11 h, ha_11, hm_170 h, hg_12 h, ha_12, hm_171 h, hg_13 h, ha_13, hm_172 h, hs_172, hm_173 h, hs_173, hm_174 h, hs_174, hm_175 h, hs_175, hm_176 h, hs_176, hm_177 h, hg_14 h, ha_14, hm_178 h, hg_15 h, ha_15, hm_179 h, hg_16 h, ha_16, hm_180 h, hg_17 h, ha_17, hm_181 h, hg_18 h, ha_18, hm_182 h, hg_19 h, ha_19, hm_183 h, hg_20 h, ha_20, hm_184 h, hs_184, hm_185 h, hs_185, hm_186 h, hs_186, mA_uA, mA_uF, mA_uW, mF_uA, mF_uF, mF_uW, mW_uA, mW_uF, mW_uW, uA_uA, uA_uF, uF_uF, bI0, tk_155, tk_157, tk_158, tk_159, tk_160, tk_161, tk_162, tk_163, tk_164, tk_A, tk_W, tk_u0, tk_u1, tk_u2, tk_u3, tk_u4, tk_u5, kv_s, ki_s, kj_s, kd_s, kq_s, kq_n, kq_o, ka_s, kc_r, kc_t, kc0_r, kc0_t, kch_r, kc0h_r, kw_s, kw0_s, kwh_s, kw0h_s, rg_ref, rg_null, rg_rf, ck_t, sel_some, lkn_hd, Option.isSome_some, Bool.true_and, Bool.and_true, okv_i, okv_l, okv_r, okv_n, okv_rf, okv_b, okv_0, okv_1, okv_f, okv_d, c1_i, c1_r, c1_n, c1_rf, c1_f, nI_add, n_mul, n_sub, n_pred, n_eq, n_le, n_lt, n_neN, n_Nne, N_lt, N_le, n_ltN, n_leN, rdI_n, rdJ_n, rdD_n, wrI_n, wrI_z0, wrI_z1, wrI_zb, wrJ_n, wrD_n, aln_s, okn_n, upd_is, upd_ne, Nat.add_zero, Nat.add_sub_cancel, decide_true, decide_false, cond_true, cond_false, if_true, if_false, ite_not, not_true_eq_false, not_false_eq_true, Nat.reduceEqDiff, Nat.reduceAdd, Nat.reduceMul, Nat.reduceSub, Nat.reduceLeDiff, q, q2, el, nle hc]
      · rw [if_neg (by omega)]
        refine x_296_96.trans ?_
        simp (disch := omega) only [x_296_97, x_296_98, x_296_101, x_296_104, x_296_107, x_296_110, x_296_111, x_296_112, x_296_115, x_296_117, x_296_120, x_296_123, x_296_124, x_296_127, x_296_128, x_296_129, x_296_130, x_296_133, x_296_136, x_296_137, x_296_138, x_296_141, x_296_142, x_296_145, x_296_146, x_296_149, x_296_152, x_296_153, x_296_154, x_296_157, x_296_158, x_296_159, x_296_162, x_296_163, x_296_164, x_296_167, x_296_168, x_296_169, x_296_172, hm_c h, hm_148 h, hg_0 h, ha_0, hm_149 h, hg_1 h, ha_1, hm_150 h, hg_2 h, ha_2, hm_151 h, hg_3 h, ha_3, hm_152 h, hg_4 h, ha_4, hm_153 h, hg_5 h, ha_5, hm_154 h, hg_6 h, ha_6, hm_155 h, hs_155, hm_156 h, hg_7 h, ha_7, hm_157 h, hs_157, hm_158 h, hs_158, hm_159 h, hs_159, hm_160 h, hs_160, hm_161 h, hs_161, hm_162 h, hs_162, hm_163 h, hs_163, hm_164 h, hs_164, hm_165 h, hs_165, hm_166 h, hg_8 h, ha_8, hm_167 h, hg_9 h, ha_9, hm_168 h, hg_10 h, ha_10, hm_169 h, hg_11 h, ha_11, hm_170 h, hg_12 h, ha_12, hm_171 h, hg_13 h, ha_13, hm_172 h, hs_172, hm_173 h, hs_173, hm_174 h, hs_174, hm_175 h, hs_175, hm_176 h, hs_176, hm_177 h, hg_14 h, ha_14, hm_178 h, hg_15 h, ha_15, hm_179 h, hg_16 h, ha_16, hm_180 h, hg_17 h, ha_17, hm_181 h, hg_18 h, ha_18, hm_182 h, hg_19 h, ha_19, hm_183 h, hg_20 h, ha_20, hm_184 h, hs_184, hm_185 h, hs_185, hm_186 h, hs_186, mA_uA, mA_uF, mA_uW, mF_uA, mF_uF, mF_uW, mW_uA, mW_uF, mW_uW, uA_uA, uA_uF, uF_uF, bI0, tk_155, tk_157, tk_158, tk_159, tk_160, tk_161, tk_162, tk_163, tk_164, tk_A, tk_W, tk_u0, tk_u1, tk_u2, tk_u3, tk_u4, tk_u5, kv_s, ki_s, kj_s, kd_s, kq_s, kq_n, kq_o, ka_s, kc_r, kc_t, kc0_r, kc0_t, kch_r, kc0h_r, kw_s, kw0_s, kwh_s, kw0h_s, rg_ref, rg_null, rg_rf, ck_t, sel_some, lkn_hd, Option.isSome_some, Bool.true_and, Bool.and_true, okv_i, okv_l, okv_r, okv_n, okv_rf, okv_b, okv_0, okv_1, okv_f, okv_d, c1_i, c1_r, c1_n, c1_rf, c1_f, nI_add, n_mul, n_sub, n_pred, n_eq, n_le, n_lt, n_neN, n_Nne, N_lt, N_le, n_ltN, n_leN, rdI_n, rdJ_n, rdD_n, wrI_n, wrI_z0, wrI_z1, wrI_zb, wrJ_n, wrD_n, aln_s, okn_n, upd_is, upd_ne, Nat.add_zero, Nat.add_sub_cancel, decide_true, decide_false, cond_true, cond_false, if_true, if_false, ite_not, not_true_eq_false, not_false_eq_true, Nat.reduceEqDiff, Nat.reduceAdd, Nat.reduceMul, Nat.reduceSub, Nat.reduceLeDiff, q, q2, el, yle hc]
/-- a number's digits -/
theorem m_296_ds (h : mO A m0) (t : TxM M T n) : ∀ (f i : Nat), i + f = n → ∀ (o : Option Value) (v : Nat), v < 1000000000 → ∃ v', exG TB (d + 3) 296 187 [some (.ref m0), o] [] (hM A m0 (tkS M (nI i) s k l (nI v) w)) = some (.inl none, hM A m0 (tkS M (nI (i + (runP dgP T n f i).length)) s k l (nI v') w)) ∧ v' = (runP dgP T n f i).foldl (fun v x => if 10000000 < v then v else 10 * v + x - 48) v ∧ v' < 1000000000
  | 0, i, hf, o, v, hv => by
    have n2 := t.n2
    have q := m_297 (d := d + 2) h (t.tk (p := nI i) (s := s) (k := k) (l := l) (m := nI v) (w := w)) (i := i) (by omega)
    have q2 := m_299 (A := hM A m0 (tkS M (nI i) s k l (nI v) w)) (d := d + 1) (T := T) (n := n) (i := i) (fun j hj => (t.t j hj).2)
    rw [decide_eq_false (show ¬ i < n by omega), Bool.false_and, bI_f] at q2
    refine ⟨v, x_296_187.trans ?_, rfl, hv⟩
    simp (disch := omega) only [x_296_188, x_296_189, x_296_192, x_296_195, x_296_198, x_296_201, x_296_202, x_296_203, x_296_206, x_296_208, x_296_211, x_296_212, x_296_215, x_296_218, x_296_220, x_296_221, x_296_224, x_296_225, x_296_226, x_296_227, x_296_230, x_296_233, x_296_234, x_296_236, x_296_237, x_296_240, x_296_241, x_296_242, x_296_245, x_296_246, x_296_247, x_296_250, x_296_278, hm_c h, hm_148 h, hg_0 h, ha_0, hm_149 h, hg_1 h, ha_1, hm_150 h, hg_2 h, ha_2, hm_151 h, hg_3 h, ha_3, hm_152 h, hg_4 h, ha_4, hm_153 h, hg_5 h, ha_5, hm_154 h, hg_6 h, ha_6, hm_155 h, hs_155, hm_156 h, hg_7 h, ha_7, hm_157 h, hs_157, hm_158 h, hs_158, hm_159 h, hs_159, hm_160 h, hs_160, hm_161 h, hs_161, hm_162 h, hs_162, hm_163 h, hs_163, hm_164 h, hs_164, hm_165 h, hs_165, hm_166 h, hg_8 h, ha_8, hm_167 h, hg_9 h, ha_9, hm_168 h, hg_10 h, ha_10, hm_169 h, hg_11 h, ha_11, hm_170 h, hg_12 h, ha_12, hm_171 h, hg_13 h, ha_13, hm_172 h, hs_172, hm_173 h, hs_173, hm_174 h, hs_174, hm_175 h, hs_175, hm_176 h, hs_176, hm_177 h, hg_14 h, ha_14, hm_178 h, hg_15 h, ha_15, hm_179 h, hg_16 h, ha_16, hm_180 h, hg_17 h, ha_17, hm_181 h, hg_18 h, ha_18, hm_182 h, hg_19 h, ha_19, hm_183 h, hg_20 h, ha_20, hm_184 h, hs_184, hm_185 h, hs_185, hm_186 h, hs_186, mA_uA, mA_uF, mA_uW, mF_uA, mF_uF, mF_uW, mW_uA, mW_uF, mW_uW, uA_uA, uA_uF, uF_uF, bI0, tk_155, tk_157, tk_158, tk_159, tk_160, tk_161, tk_162, tk_163, tk_164, tk_A, tk_W, tk_u0, tk_u1, tk_u2, tk_u3, tk_u4, tk_u5, kv_s, ki_s, kj_s, kd_s, kq_s, kq_n, kq_o, ka_s, kc_r, kc_t, kc0_r, kc0_t, kch_r, kc0h_r, kw_s, kw0_s, kwh_s, kw0h_s, rg_ref, rg_null, rg_rf, ck_t, sel_some, lkn_hd, Option.isSome_some, Bool.true_and, Bool.and_true, okv_i, okv_l, okv_r, okv_n, okv_rf, okv_b, okv_0, okv_1, okv_f, okv_d, c1_i, c1_r, c1_n, c1_rf, c1_f, nI_add, n_mul, n_sub, n_pred, n_eq, n_le, n_lt, n_neN, n_Nne, N_lt, N_le, n_ltN, n_leN, rdI_n, rdJ_n, rdD_n, wrI_n, wrI_z0, wrI_z1, wrI_zb, wrJ_n, wrD_n, aln_s, okn_n, upd_is, upd_ne, Nat.add_zero, Nat.add_sub_cancel, decide_true, decide_false, cond_true, cond_false, if_true, if_false, ite_not, not_true_eq_false, not_false_eq_true, Nat.reduceEqDiff, Nat.reduceAdd, Nat.reduceMul, Nat.reduceSub, Nat.reduceLeDiff, q, q2, runP, List.length_nil]
  | f + 1, i, hf, o, v, hv => by
    have n2 := t.n2
    have hi : i < n := by omega
    have q := m_297 (d := d + 2) h (t.tk (p := nI i) (s := s) (k := k) (l := l) (m := nI v) (w := w)) (i := i) (by omega)
    have q2 := m_299 (A := hM A m0 (tkS M (nI i) s k l (nI v) w)) (d := d + 1) (T := T) (n := n) (i := i) (fun j hj => (t.t j hj).2)
    rw [decide_eq_true hi, Bool.true_and] at q2
    cases hp : dgP (T i) with
    | false =>
      rw [hp, bI_f] at q2
      rw [run_e hp]
      refine ⟨v, x_296_187.trans ?_, rfl, hv⟩
      simp (disch := omega) only [x_296_188, x_296_189, x_296_192, x_296_195, x_296_198, x_296_201, x_296_202, x_296_203, x_296_206, x_296_208, x_296_211, x_296_212, x_296_215, x_296_218, x_296_220, x_296_221, x_296_224, x_296_225, x_296_226, x_296_227, x_296_230, x_296_233, x_296_234, x_296_236, x_296_237, x_296_240, x_296_241, x_296_242, x_296_245, x_296_246, x_296_247, x_296_250, x_296_278, hm_c h, hm_148 h, hg_0 h, ha_0, hm_149 h, hg_1 h, ha_1, hm_150 h, hg_2 h, ha_2, hm_151 h, hg_3 h, ha_3, hm_152 h, hg_4 h, ha_4, hm_153 h, hg_5 h, ha_5, hm_154 h, hg_6 h, ha_6, hm_155 h, hs_155, hm_156 h, hg_7 h, ha_7, hm_157 h, hs_157, hm_158 h, hs_158, hm_159 h, hs_159, hm_160 h, hs_160, hm_161 h, hs_161, hm_162 h, hs_162, hm_163 h, hs_163, hm_164 h, hs_164, hm_165 h, hs_165, hm_166 h, hg_8 h, ha_8, hm_167 h, hg_9 h, ha_9, hm_168 h, hg_10 h, ha_10, hm_169 h, hg_11 h, ha_11, hm_170 h, hg_12 h, ha_12, hm_171 h, hg_13 h, ha_13, hm_172 h, hs_172, hm_173 h, hs_173, hm_174 h, hs_174, hm_175 h, hs_175, hm_176 h, hs_176, hm_177 h, hg_14 h, ha_14, hm_178 h, hg_15 h, ha_15, hm_179 h, hg_16 h, ha_16, hm_180 h, hg_17 h, ha_17, hm_181 h, hg_18 h, ha_18, hm_182 h, hg_19 h, ha_19, hm_183 h, hg_20 h, ha_20, hm_184 h, hs_184, hm_185 h, hs_185, hm_186 h, hs_186, mA_uA, mA_uF, mA_uW, mF_uA, mF_uF, mF_uW, mW_uA, mW_uF, mW_uW, uA_uA, uA_uF, uF_uF, bI0, tk_155, tk_157, tk_158, tk_159, tk_160, tk_161, tk_162, tk_163, tk_164, tk_A, tk_W, tk_u0, tk_u1, tk_u2, tk_u3, tk_u4, tk_u5, kv_s, ki_s, kj_s, kd_s, kq_s, kq_n, kq_o, ka_s, kc_r, kc_t, kc0_r, kc0_t, kch_r, kc0h_r, kw_s, kw0_s, kwh_s, kw0h_s, rg_ref, rg_null, rg_rf, ck_t, sel_some, lkn_hd, Option.isSome_some, Bool.true_and, Bool.and_true, okv_i, okv_l, okv_r, okv_n, okv_rf, okv_b, okv_0, okv_1, okv_f, okv_d, c1_i, c1_r, c1_n, c1_rf, c1_f, nI_add, n_mul, n_sub, n_pred, n_eq, n_le, n_lt, n_neN, n_Nne, N_lt, N_le, n_ltN, n_leN, rdI_n, rdJ_n, rdD_n, wrI_n, wrI_z0, wrI_z1, wrI_zb, wrJ_n, wrD_n, aln_s, okn_n, upd_is, upd_ne, Nat.add_zero, Nat.add_sub_cancel, decide_true, decide_false, cond_true, cond_false, if_true, if_false, ite_not, not_true_eq_false, not_false_eq_true, Nat.reduceEqDiff, Nat.reduceAdd, Nat.reduceMul, Nat.reduceSub, Nat.reduceLeDiff, q, q2, List.length_nil]
    | true =>
      rw [hp, bI_t] at q2
      have hx := (t.t i hi).2
      have hx2 : 48 ≤ T i ∧ T i ≤ 57 := by
        unfold dgP at hp
        obtain ⟨h1, h2⟩ := Bool.and_eq_true_iff.mp hp
        exact ⟨of_decide_eq_true h1, of_decide_eq_true h2⟩
      have eb : byT T n i = nI (T i) := if_pos hi
      rw [eb] at q q2
      rw [run_c hi hp, List.length_cons, List.foldl_cons]
      rw [show i + ((runP dgP T n f (i + 1)).length + 1) = i + 1 + (runP dgP T n f (i + 1)).length from by omega]
      rcases Nat.lt_or_ge 10000000 v with hv2 | hv2
      · obtain ⟨v', i1, i2, i3⟩ := m_296_ds h t f (i + 1) (by omega) o v hv
        rw [if_pos hv2]
        refine ⟨v', x_296_187.trans ?_, i2, i3⟩
        rw [← i1]
        simp (disch := omega) only [x_296_188, x_296_189, x_296_192, x_296_195, x_296_198, x_296_201, x_296_202, x_296_203, x_296_206, x_296_208, x_296_211, x_296_212, x_296_215, x_296_218, x_296_220, x_296_221, x_296_224, x_296_225, x_296_226, x_296_227, x_296_230, x_296_233, x_296_234, x_296_236, x_296_237, x_296_240, x_296_241, x_296_242, x_296_245, x_296_246, x_296_247, x_296_250, hm_c h, hm_148 h, hg_0 h, ha_0, hm_149 h, hg_1 h, ha_1, hm_150 h, hg_2 h, ha_2, hm_151 h, hg_3 h, ha_3, hm_152 h, hg_4 h, ha_4, hm_153 h, hg_5 h, ha_5, hm_154 h, hg_6 h, ha_6, hm_155 h, hs_155, hm_156 h, hg_7 h, ha_7, hm_157 h, hs_157, hm_158 h, hs_158, hm_159 h, hs_159, hm_160 h, hs_160, hm_161 h, hs_161, hm_162 h, hs_162, hm_163 h, hs_163, hm_164 h, hs_164, hm_165 h, hs_165, hm_166 h, hg_8 h, ha_8, hm_167 h, hg_9 h, ha_9, hm_168 h, hg_10 h, ha_10, hm_169 h, hg_11 h, ha_11, hm_170 h, hg_12 h, ha_12, hm_171 h, hg_13 h, ha_13, hm_172 h, hs_172, hm_173 h, hs_173, hm_174 h, hs_174, hm_175 h, hs_175, hm_176 h, hs_176, hm_177 h, hg_14 h, ha_14, hm_178 h, hg_15 h, ha_15, hm_179 h, hg_16 h, ha_16, hm_180 h, hg_17 h, ha_17, hm_181 h, hg_18 h, ha_18, hm_182 h, hg_19 h, ha_19, hm_183 h, hg_20 h, ha_20, hm_184 h, hs_184, hm_185 h, hs_185, hm_186 h, hs_186, mA_uA, mA_uF, mA_uW, mF_uA, mF_uF, mF_uW, mW_uA, mW_uF, mW_uW, uA_uA, uA_uF, uF_uF, bI0, tk_155, tk_157, tk_158, tk_159, tk_160, tk_161, tk_162, tk_163, tk_164, tk_A, tk_W, tk_u0, tk_u1, tk_u2, tk_u3, tk_u4, tk_u5, kv_s, ki_s, kj_s, kd_s, kq_s, kq_n, kq_o, ka_s, kc_r, kc_t, kc0_r, kc0_t, kch_r, kc0h_r, kw_s, kw0_s, kwh_s, kw0h_s, rg_ref, rg_null, rg_rf, ck_t, sel_some, lkn_hd, Option.isSome_some, Bool.true_and, Bool.and_true, okv_i, okv_l, okv_r, okv_n, okv_rf, okv_b, okv_0, okv_1, okv_f, okv_d, c1_i, c1_r, c1_n, c1_rf, c1_f, nI_add, n_mul, n_sub, n_pred, n_eq, n_le, n_lt, n_neN, n_Nne, N_lt, N_le, n_ltN, n_leN, rdI_n, rdJ_n, rdD_n, wrI_n, wrI_z0, wrI_z1, wrI_zb, wrJ_n, wrD_n, aln_s, okn_n, upd_is, upd_ne, Nat.add_zero, Nat.add_sub_cancel, decide_true, decide_false, cond_true, cond_false, if_true, if_false, ite_not, not_true_eq_false, not_false_eq_true, Nat.reduceEqDiff, Nat.reduceAdd, Nat.reduceMul, Nat.reduceSub, Nat.reduceLeDiff, q, q2, nle hv2]
      · obtain ⟨v', i1, i2, i3⟩ := m_296_ds h t f (i + 1) (by omega) o (10 * v + T i - 48) (by omega)
        rw [if_neg (by omega)]
        refine ⟨v', x_296_187.trans ?_, i2, i3⟩
        rw [← i1]
        simp (disch := omega) only [x_296_188, x_296_189, x_296_192, x_296_195, x_296_198, x_296_201, x_296_202, x_296_203, x_296_206, x_296_208, x_296_211, x_296_212, x_296_215, x_296_218, x_296_220, x_296_221, x_296_224, x_296_225, x_296_226, x_296_227, x_296_230, x_296_233, x_296_234, x_296_236, x_296_237, x_296_240, x_296_241, x_296_242, x_296_245, x_296_246, x_296_247, x_296_250, hm_c h, hm_148 h, hg_0 h, ha_0, hm_149 h, hg_1 h, ha_1, hm_150 h, hg_2 h, ha_2, hm_151 h, hg_3 h, ha_3, hm_152 h, hg_4 h, ha_4, hm_153 h, hg_5 h, ha_5, hm_154 h, hg_6 h, ha_6, hm_155 h, hs_155, hm_156 h, hg_7 h, ha_7, hm_157 h, hs_157, hm_158 h, hs_158, hm_159 h, hs_159, hm_160 h, hs_160, hm_161 h, hs_161, hm_162 h, hs_162, hm_163 h, hs_163, hm_164 h, hs_164, hm_165 h, hs_165, hm_166 h, hg_8 h, ha_8, hm_167 h, hg_9 h, ha_9, hm_168 h, hg_10 h, ha_10, hm_169 h, hg_11 h, ha_11, hm_170 h, hg_12 h, ha_12, hm_171 h, hg_13 h, ha_13, hm_172 h, hs_172, hm_173 h, hs_173, hm_174 h, hs_174, hm_175 h, hs_175, hm_176 h, hs_176, hm_177 h, hg_14 h, ha_14, hm_178 h, hg_15 h, ha_15, hm_179 h, hg_16 h, ha_16, hm_180 h, hg_17 h, ha_17, hm_181 h, hg_18 h, ha_18, hm_182 h, hg_19 h, ha_19, hm_183 h, hg_20 h, ha_20, hm_184 h, hs_184, hm_185 h, hs_185, hm_186 h, hs_186, mA_uA, mA_uF, mA_uW, mF_uA, mF_uF, mF_uW, mW_uA, mW_uF, mW_uW, uA_uA, uA_uF, uF_uF, bI0, tk_155, tk_157, tk_158, tk_159, tk_160, tk_161, tk_162, tk_163, tk_164, tk_A, tk_W, tk_u0, tk_u1, tk_u2, tk_u3, tk_u4, tk_u5, kv_s, ki_s, kj_s, kd_s, kq_s, kq_n, kq_o, ka_s, kc_r, kc_t, kc0_r, kc0_t, kch_r, kc0h_r, kw_s, kw0_s, kwh_s, kw0h_s, rg_ref, rg_null, rg_rf, ck_t, sel_some, lkn_hd, Option.isSome_some, Bool.true_and, Bool.and_true, okv_i, okv_l, okv_r, okv_n, okv_rf, okv_b, okv_0, okv_1, okv_f, okv_d, c1_i, c1_r, c1_n, c1_rf, c1_f, nI_add, n_mul, n_sub, n_pred, n_eq, n_le, n_lt, n_neN, n_Nne, N_lt, N_le, n_ltN, n_leN, rdI_n, rdJ_n, rdD_n, wrI_n, wrI_z0, wrI_z1, wrI_zb, wrJ_n, wrD_n, aln_s, okn_n, upd_is, upd_ne, Nat.add_zero, Nat.add_sub_cancel, decide_true, decide_false, cond_true, cond_false, if_true, if_false, ite_not, not_true_eq_false, not_false_eq_true, Nat.reduceEqDiff, Nat.reduceAdd, Nat.reduceMul, Nat.reduceSub, Nat.reduceLeDiff, q, q2, yle hv2]
/-- the next token: where it begins, its letters, its digits, its kind, where it ends -/
def tkB (T : Nat → Nat) (n i : Nat) : Nat := i + (runA spP T n i).length
def tkL (T : Nat → Nat) (n i : Nat) : List Nat := runA leP T n (tkB T n i)
def tkD (T : Nat → Nat) (n i : Nat) : List Nat := runA dgP T n (tkB T n i)
def tkK (T : Nat → Nat) (n i : Nat) : Nat := if n ≤ tkB T n i then 0 else if leP (T (tkB T n i)) = true then 2 else if dgP (T (tkB T n i)) = true then 3 else if T (tkB T n i) = 59 then 4 else 1
def tkE (T : Nat → Nat) (n i : Nat) : Nat := tkB T n i + (if tkK T n i = 0 then 0 else if tkK T n i = 2 then (tkL T n i).length else if tkK T n i = 3 then (tkD T n i).length else 1)
def tkM (M : Ms) (T : Nat → Nat) (n i : Nat) : Ms := tkS M (nI (tkE T n i)) (nI (tkB T n i)) (nI (tkK T n i)) (nI (tkL T n i).length) (nI (mNv (tkD T n i))) (mWd (tkL T n i) 0 0)
theorem run_len (q : Nat → Bool) : ∀ (f i : Nat), (runP q T n f i).length ≤ f
  | 0, _ => Nat.le_refl _
  | f + 1, i => by
    unfold runP
    split
    · rw [List.length_cons]; have := run_len q f (i + 1); omega
    · exact Nat.zero_le _
theorem m_296 (h : mO A m0) (t : TxM M T n) {i : Nat} (hp : mF M 158 = nI i) (hi : i ≤ n) : evG TB (d + 4) 296 [.ref m0] (hM A m0 M) = some (.inl none, hM A m0 (tkM M T n i)) := by
  have n2 := t.n2
  have e1 := m_296_sk (d := d) (s := mF M 159) (k := mF M 160) (l := mF M 161) (m := mF M 162) (w := mW M) h t (n - i) i (by omega) none
  rw [← hp, ← tk_in, show i + (runP spP T n (n - i) i).length = tkB T n i from rfl] at e1
  have hb : tkB T n i ≤ n := by
    have := run_len (T := T) (n := n) spP (n - i) i
    unfold tkB runA
    omega
  unfold tkM tkE tkK tkL tkD runA
  generalize hB : tkB T n i = b at e1 hb
  have q := m_297 (d := d + 2) h (t.tk (p := nI b) (s := nI b) (k := mF M 160) (l := nI 0) (m := nI 0) (w := 0)) (i := b) (by omega)
  have q8 := m_298 (A := hM A m0 (tkS M (nI b) (nI b) (mF M 160) (nI 0) (nI 0) 0)) (d := d + 1) (T := T) (n := n) (i := b) (fun j hj => (t.t j hj).2)
  have q9 := m_299 (A := hM A m0 (tkS M (nI b) (nI b) (mF M 160) (nI 0) (nI 0) 0)) (d := d + 1) (T := T) (n := n) (i := b) (fun j hj => (t.t j hj).2)
  rcases Nat.lt_or_ge b n with h1 | h1
  · have eb : byT T n b = nI (T b) := if_pos h1
    have hx := (t.t b h1).2
    rw [if_neg (show ¬ n ≤ b by omega)]
    rw [eb] at q q8 q9
    rw [decide_eq_true h1, Bool.true_and] at q8 q9
    cases hp : leP (T b) with
    | true =>
      rw [hp, bI_t] at q8
      have ed : dgP (T b) = false := by
        unfold leP at hp
        obtain ⟨z1, z2⟩ := Bool.and_eq_true_iff.mp hp
        have := of_decide_eq_true z1
        unfold dgP
        rw [decide_eq_false (show ¬ T b ≤ 57 by omega), Bool.and_false]
      have e2 := m_296_wd (d := d) (s := nI b) (k := nI 2) (m := nI 0) h t (n - b) b (by omega) (some (.int (nI (T b)))) 0 0 (by omega)
      rw [Nat.zero_add] at e2
      rw [if_pos rfl, if_neg (by decide), if_pos rfl, run_e ed]
      show _ = some (Sum.inl none, hM A m0 (tkS M _ _ _ _ (nI 0) _))
      rw [← e2]
      simp (disch := omega) only [e_296, e1, x_296_39, x_296_40, x_296_41, x_296_44, x_296_47, x_296_48, x_296_49, x_296_52, x_296_53, x_296_54, x_296_57, x_296_58, x_296_59, x_296_62, x_296_63, x_296_64, x_296_67, x_296_70, x_296_71, x_296_72, x_296_73, x_296_76, x_296_77, x_296_78, x_296_81, x_296_84, x_296_85, x_296_88, x_296_91, x_296_92, x_296_93, hm_c h, hm_148 h, hg_0 h, ha_0, hm_149 h, hg_1 h, ha_1, hm_150 h, hg_2 h, ha_2, hm_151 h, hg_3 h, ha_3, hm_152 h, hg_4 h, ha_4, hm_153 h, hg_5 h, ha_5, hm_154 h, hg_6 h, ha_6, hm_155 h, hs_155, hm_156 h, hg_7 h, ha_7, hm_157 h, hs_157, hm_158 h, hs_158, hm_159 h, hs_159, hm_160 h, hs_160, hm_161 h, hs_161, hm_162 h, hs_162, hm_163 h, hs_163, hm_164 h, hs_164, hm_165 h, hs_165, hm_166 h, hg_8 h, ha_8, hm_167 h, hg_9 h, ha_9, hm_168 h, hg_10 h, ha_10, hm_169 h, hg_11 h, ha_11, hm_170 h, hg_12 h, ha_12, hm_171 h, hg_13 h, ha_13, hm_172 h, hs_172, hm_173 h, hs_173, hm_174 h, hs_174, hm_175 h, hs_175, hm_176 h, hs_176, hm_177 h, hg_14 h, ha_14, hm_178 h, hg_15 h, ha_15, hm_179 h, hg_16 h, ha_16, hm_180 h, hg_17 h, ha_17, hm_181 h, hg_18 h, ha_18, hm_182 h, hg_19 h, ha_19, hm_183 h, hg_20 h, ha_20, hm_184 h, hs_184, hm_185 h, hs_185, hm_186 h, hs_186, mA_uA, mA_uF, mA_uW, mF_uA, mF_uF, mF_uW, mW_uA, mW_uF, mW_uW, uA_uA, uA_uF, uF_uF, bI0, tk_155, tk_157, tk_158, tk_159, tk_160, tk_161, tk_162, tk_163, tk_164, tk_A, tk_W, tk_u0, tk_u1, tk_u2, tk_u3, tk_u4, tk_u5, kv_s, ki_s, kj_s, kd_s, kq_s, kq_n, kq_o, ka_s, kc_r, kc_t, kc0_r, kc0_t, kch_r, kc0h_r, kw_s, kw0_s, kwh_s, kw0h_s, rg_ref, rg_null, rg_rf, ck_t, sel_some, lkn_hd, Option.isSome_some, Bool.true_and, Bool.and_true, okv_i, okv_l, okv_r, okv_n, okv_rf, okv_b, okv_0, okv_1, okv_f, okv_d, c1_i, c1_r, c1_n, c1_rf, c1_f, nI_add, n_mul, n_sub, n_pred, n_eq, n_le, n_lt, n_neN, n_Nne, N_lt, N_le, n_ltN, n_leN, rdI_n, rdJ_n, rdD_n, wrI_n, wrI_z0, wrI_z1, wrI_zb, wrJ_n, wrD_n, aln_s, okn_n, upd_is, upd_ne, Nat.add_zero, Nat.add_sub_cancel, decide_true, decide_false, cond_true, cond_false, if_true, if_false, ite_not, not_true_eq_false, not_false_eq_true, Nat.reduceEqDiff, Nat.reduceAdd, Nat.reduceMul, Nat.reduceSub, Nat.reduceLeDiff, q, q8]
    | false =>
      rw [hp, bI_f] at q8
      rw [if_neg (by decide : ¬ false = true), run_e hp]
      show _ = some (Sum.inl none, hM A m0 (tkS M _ _ _ (nI 0) _ 0))
      cases hp2 : dgP (T b) with
      | true =>
        rw [hp2, bI_t] at q9
        obtain ⟨v', e2, e3, e4⟩ := m_296_ds (d := d) (s := nI b) (k := nI 3) (l := nI 0) (w := 0) h t (n - b) b (by omega) (some (.int (nI (T b)))) 0 (by omega)
        rw [e3] at e2
        rw [if_pos rfl, if_neg (by decide), if_neg (by decide), if_pos rfl]
        show _ = some (Sum.inl none, hM A m0 (tkS M _ _ _ _ (nI ((runP dgP T n (n - b) b).foldl _ 0)) _))
        rw [← e2]
        simp (disch := omega) only [e_296, e1, x_296_39, x_296_40, x_296_41, x_296_44, x_296_47, x_296_48, x_296_49, x_296_52, x_296_53, x_296_54, x_296_57, x_296_58, x_296_59, x_296_62, x_296_63, x_296_64, x_296_67, x_296_70, x_296_71, x_296_72, x_296_73, x_296_76, x_296_77, x_296_78, x_296_81, x_296_84, x_296_85, x_296_88, x_296_91, x_296_92, x_296_93, x_296_175, x_296_176, x_296_179, x_296_182, x_296_183, x_296_184, hm_c h, hm_148 h, hg_0 h, ha_0, hm_149 h, hg_1 h, ha_1, hm_150 h, hg_2 h, ha_2, hm_151 h, hg_3 h, ha_3, hm_152 h, hg_4 h, ha_4, hm_153 h, hg_5 h, ha_5, hm_154 h, hg_6 h, ha_6, hm_155 h, hs_155, hm_156 h, hg_7 h, ha_7, hm_157 h, hs_157, hm_158 h, hs_158, hm_159 h, hs_159, hm_160 h, hs_160, hm_161 h, hs_161, hm_162 h, hs_162, hm_163 h, hs_163, hm_164 h, hs_164, hm_165 h, hs_165, hm_166 h, hg_8 h, ha_8, hm_167 h, hg_9 h, ha_9, hm_168 h, hg_10 h, ha_10, hm_169 h, hg_11 h, ha_11, hm_170 h, hg_12 h, ha_12, hm_171 h, hg_13 h, ha_13, hm_172 h, hs_172, hm_173 h, hs_173, hm_174 h, hs_174, hm_175 h, hs_175, hm_176 h, hs_176, hm_177 h, hg_14 h, ha_14, hm_178 h, hg_15 h, ha_15, hm_179 h, hg_16 h, ha_16, hm_180 h, hg_17 h, ha_17, hm_181 h, hg_18 h, ha_18, hm_182 h, hg_19 h, ha_19, hm_183 h, hg_20 h, ha_20, hm_184 h, hs_184, hm_185 h, hs_185, hm_186 h, hs_186, mA_uA, mA_uF, mA_uW, mF_uA, mF_uF, mF_uW, mW_uA, mW_uF, mW_uW, uA_uA, uA_uF, uF_uF, bI0, tk_155, tk_157, tk_158, tk_159, tk_160, tk_161, tk_162, tk_163, tk_164, tk_A, tk_W, tk_u0, tk_u1, tk_u2, tk_u3, tk_u4, tk_u5, kv_s, ki_s, kj_s, kd_s, kq_s, kq_n, kq_o, ka_s, kc_r, kc_t, kc0_r, kc0_t, kch_r, kc0h_r, kw_s, kw0_s, kwh_s, kw0h_s, rg_ref, rg_null, rg_rf, ck_t, sel_some, lkn_hd, Option.isSome_some, Bool.true_and, Bool.and_true, okv_i, okv_l, okv_r, okv_n, okv_rf, okv_b, okv_0, okv_1, okv_f, okv_d, c1_i, c1_r, c1_n, c1_rf, c1_f, nI_add, n_mul, n_sub, n_pred, n_eq, n_le, n_lt, n_neN, n_Nne, N_lt, N_le, n_ltN, n_leN, rdI_n, rdJ_n, rdD_n, wrI_n, wrI_z0, wrI_z1, wrI_zb, wrJ_n, wrD_n, aln_s, okn_n, upd_is, upd_ne, Nat.add_zero, Nat.add_sub_cancel, decide_true, decide_false, cond_true, cond_false, if_true, if_false, ite_not, not_true_eq_false, not_false_eq_true, Nat.reduceEqDiff, Nat.reduceAdd, Nat.reduceMul, Nat.reduceSub, Nat.reduceLeDiff, q, q8, q9]
      | false =>
        rw [hp2, bI_f] at q9
        rw [if_neg (by decide : ¬ false = true), run_e hp2]
        show _ = some (Sum.inl none, hM A m0 (tkS M _ _ _ (nI 0) (nI 0) 0))
        rcases pc (T b = 59) with h3 | h3
        · rw [if_pos (of_eq_true h3), if_neg (by decide), if_neg (by decide), if_neg (by decide)]
          simp (disch := omega) only [e_296, e1, x_296_39, x_296_40, x_296_41, x_296_44, x_296_47, x_296_48, x_296_49, x_296_52, x_296_53, x_296_54, x_296_57, x_296_58, x_296_59, x_296_62, x_296_63, x_296_64, x_296_67, x_296_70, x_296_71, x_296_72, x_296_73, x_296_76, x_296_77, x_296_78, x_296_81, x_296_84, x_296_85, x_296_88, x_296_91, x_296_92, x_296_93, x_296_175, x_296_176, x_296_179, x_296_182, x_296_183, x_296_184, x_296_253, x_296_254, x_296_255, x_296_257, x_296_260, x_296_261, x_296_264, x_296_265, x_296_268, x_296_269, x_296_270, x_296_273, x_296_274, x_296_275, x_296_278, hm_c h, hm_148 h, hg_0 h, ha_0, hm_149 h, hg_1 h, ha_1, hm_150 h, hg_2 h, ha_2, hm_151 h, hg_3 h, ha_3, hm_152 h, hg_4 h, ha_4, hm_153 h, hg_5 h, ha_5, hm_154 h, hg_6 h, ha_6, hm_155 h, hs_155, hm_156 h, hg_7 h, ha_7, hm_157 h, hs_157, hm_158 h, hs_158, hm_159 h, hs_159, hm_160 h, hs_160, hm_161 h, hs_161, hm_162 h, hs_162, hm_163 h, hs_163, hm_164 h, hs_164, hm_165 h, hs_165, hm_166 h, hg_8 h, ha_8, hm_167 h, hg_9 h, ha_9, hm_168 h, hg_10 h, ha_10, hm_169 h, hg_11 h, ha_11, hm_170 h, hg_12 h, ha_12, hm_171 h, hg_13 h, ha_13, hm_172 h, hs_172, hm_173 h, hs_173, hm_174 h, hs_174, hm_175 h, hs_175, hm_176 h, hs_176, hm_177 h, hg_14 h, ha_14, hm_178 h, hg_15 h, ha_15, hm_179 h, hg_16 h, ha_16, hm_180 h, hg_17 h, ha_17, hm_181 h, hg_18 h, ha_18, hm_182 h, hg_19 h, ha_19, hm_183 h, hg_20 h, ha_20, hm_184 h, hs_184, hm_185 h, hs_185, hm_186 h, hs_186, mA_uA, mA_uF, mA_uW, mF_uA, mF_uF, mF_uW, mW_uA, mW_uF, mW_uW, uA_uA, uA_uF, uF_uF, bI0, tk_155, tk_157, tk_158, tk_159, tk_160, tk_161, tk_162, tk_163, tk_164, tk_A, tk_W, tk_u0, tk_u1, tk_u2, tk_u3, tk_u4, tk_u5, kv_s, ki_s, kj_s, kd_s, kq_s, kq_n, kq_o, ka_s, kc_r, kc_t, kc0_r, kc0_t, kch_r, kc0h_r, kw_s, kw0_s, kwh_s, kw0h_s, rg_ref, rg_null, rg_rf, ck_t, sel_some, lkn_hd, Option.isSome_some, Bool.true_and, Bool.and_true, okv_i, okv_l, okv_r, okv_n, okv_rf, okv_b, okv_0, okv_1, okv_f, okv_d, c1_i, c1_r, c1_n, c1_rf, c1_f, nI_add, n_mul, n_sub, n_pred, n_eq, n_le, n_lt, n_neN, n_Nne, N_lt, N_le, n_ltN, n_leN, rdI_n, rdJ_n, rdD_n, wrI_n, wrI_z0, wrI_z1, wrI_zb, wrJ_n, wrD_n, aln_s, okn_n, upd_is, upd_ne, Nat.add_zero, Nat.add_sub_cancel, decide_true, decide_false, cond_true, cond_false, if_true, if_false, ite_not, not_true_eq_false, not_false_eq_true, Nat.reduceEqDiff, Nat.reduceAdd, Nat.reduceMul, Nat.reduceSub, Nat.reduceLeDiff, q, q8, q9, h3]
        · rw [if_neg (of_eq_false h3), if_neg (by decide), if_neg (by decide), if_neg (by decide)]
          simp (disch := omega) only [e_296, e1, x_296_39, x_296_40, x_296_41, x_296_44, x_296_47, x_296_48, x_296_49, x_296_52, x_296_53, x_296_54, x_296_57, x_296_58, x_296_59, x_296_62, x_296_63, x_296_64, x_296_67, x_296_70, x_296_71, x_296_72, x_296_73, x_296_76, x_296_77, x_296_78, x_296_81, x_296_84, x_296_85, x_296_88, x_296_91, x_296_92, x_296_93, x_296_175, x_296_176, x_296_179, x_296_182, x_296_183, x_296_184, x_296_253, x_296_254, x_296_255, x_296_257, x_296_260, x_296_261, x_296_264, x_296_265, x_296_268, x_296_269, x_296_270, x_296_273, x_296_274, x_296_275, x_296_278, hm_c h, hm_148 h, hg_0 h, ha_0, hm_149 h, hg_1 h, ha_1, hm_150 h, hg_2 h, ha_2, hm_151 h, hg_3 h, ha_3, hm_152 h, hg_4 h, ha_4, hm_153 h, hg_5 h, ha_5, hm_154 h, hg_6 h, ha_6, hm_155 h, hs_155, hm_156 h, hg_7 h, ha_7, hm_157 h, hs_157, hm_158 h, hs_158, hm_159 h, hs_159, hm_160 h, hs_160, hm_161 h, hs_161, hm_162 h, hs_162, hm_163 h, hs_163, hm_164 h, hs_164, hm_165 h, hs_165, hm_166 h, hg_8 h, ha_8, hm_167 h, hg_9 h, ha_9, hm_168 h, hg_10 h, ha_10, hm_169 h, hg_11 h, ha_11, hm_170 h, hg_12 h, ha_12, hm_171 h, hg_13 h, ha_13, hm_172 h, hs_172, hm_173 h, hs_173, hm_174 h, hs_174, hm_175 h, hs_175, hm_176 h, hs_176, hm_177 h, hg_14 h, ha_14, hm_178 h, hg_15 h, ha_15, hm_179 h, hg_16 h, ha_16, hm_180 h, hg_17 h, ha_17, hm_181 h, hg_18 h, ha_18, hm_182 h, hg_19 h, ha_19, hm_183 h, hg_20 h, ha_20, hm_184 h, hs_184, hm_185 h, hs_185, hm_186 h, hs_186, mA_uA, mA_uF, mA_uW, mF_uA, mF_uF, mF_uW, mW_uA, mW_uF, mW_uW, uA_uA, uA_uF, uF_uF, bI0, tk_155, tk_157, tk_158, tk_159, tk_160, tk_161, tk_162, tk_163, tk_164, tk_A, tk_W, tk_u0, tk_u1, tk_u2, tk_u3, tk_u4, tk_u5, kv_s, ki_s, kj_s, kd_s, kq_s, kq_n, kq_o, ka_s, kc_r, kc_t, kc0_r, kc0_t, kch_r, kc0h_r, kw_s, kw0_s, kwh_s, kw0h_s, rg_ref, rg_null, rg_rf, ck_t, sel_some, lkn_hd, Option.isSome_some, Bool.true_and, Bool.and_true, okv_i, okv_l, okv_r, okv_n, okv_rf, okv_b, okv_0, okv_1, okv_f, okv_d, c1_i, c1_r, c1_n, c1_rf, c1_f, nI_add, n_mul, n_sub, n_pred, n_eq, n_le, n_lt, n_neN, n_Nne, N_lt, N_le, n_ltN, n_leN, rdI_n, rdJ_n, rdD_n, wrI_n, wrI_z0, wrI_z1, wrI_zb, wrJ_n, wrD_n, aln_s, okn_n, upd_is, upd_ne, Nat.add_zero, Nat.add_sub_cancel, decide_true, decide_false, cond_true, cond_false, if_true, if_false, ite_not, not_true_eq_false, not_false_eq_true, Nat.reduceEqDiff, Nat.reduceAdd, Nat.reduceMul, Nat.reduceSub, Nat.reduceLeDiff, q, q8, q9, h3]
  · have eb : byT T n b = nN := if_neg (by omega)
    rw [eb] at q
    have e0 : n - b = 0 := by omega
    rw [if_pos h1, if_pos rfl, e0]
    show _ = some (Sum.inl none, hM A m0 (tkS M (nI b) _ _ (nI 0) (nI 0) 0))
    simp (disch := omega) only [e_296, e1, x_296_39, x_296_40, x_296_41, x_296_44, x_296_47, x_296_48, x_296_49, x_296_52, x_296_53, x_296_54, x_296_57, x_296_58, x_296_59, x_296_62, x_296_63, x_296_64, x_296_67, x_296_70, x_296_71, x_296_72, x_296_73, x_296_76, x_296_77, x_296_78, x_296_81, x_296_84, x_296_85, x_296_88, x_296_91, x_296_92, x_296_93, x_296_278, hm_c h, hm_148 h, hg_0 h, ha_0, hm_149 h, hg_1 h, ha_1, hm_150 h, hg_2 h, ha_2, hm_151 h, hg_3 h, ha_3, hm_152 h, hg_4 h, ha_4, hm_153 h, hg_5 h, ha_5, hm_154 h, hg_6 h, ha_6, hm_155 h, hs_155, hm_156 h, hg_7 h, ha_7, hm_157 h, hs_157, hm_158 h, hs_158, hm_159 h, hs_159, hm_160 h, hs_160, hm_161 h, hs_161, hm_162 h, hs_162, hm_163 h, hs_163, hm_164 h, hs_164, hm_165 h, hs_165, hm_166 h, hg_8 h, ha_8, hm_167 h, hg_9 h, ha_9, hm_168 h, hg_10 h, ha_10, hm_169 h, hg_11 h, ha_11, hm_170 h, hg_12 h, ha_12, hm_171 h, hg_13 h, ha_13, hm_172 h, hs_172, hm_173 h, hs_173, hm_174 h, hs_174, hm_175 h, hs_175, hm_176 h, hs_176, hm_177 h, hg_14 h, ha_14, hm_178 h, hg_15 h, ha_15, hm_179 h, hg_16 h, ha_16, hm_180 h, hg_17 h, ha_17, hm_181 h, hg_18 h, ha_18, hm_182 h, hg_19 h, ha_19, hm_183 h, hg_20 h, ha_20, hm_184 h, hs_184, hm_185 h, hs_185, hm_186 h, hs_186, mA_uA, mA_uF, mA_uW, mF_uA, mF_uF, mF_uW, mW_uA, mW_uF, mW_uW, uA_uA, uA_uF, uF_uF, bI0, tk_155, tk_157, tk_158, tk_159, tk_160, tk_161, tk_162, tk_163, tk_164, tk_A, tk_W, tk_u0, tk_u1, tk_u2, tk_u3, tk_u4, tk_u5, kv_s, ki_s, kj_s, kd_s, kq_s, kq_n, kq_o, ka_s, kc_r, kc_t, kc0_r, kc0_t, kch_r, kc0h_r, kw_s, kw0_s, kwh_s, kw0h_s, rg_ref, rg_null, rg_rf, ck_t, sel_some, lkn_hd, Option.isSome_some, Bool.true_and, Bool.and_true, okv_i, okv_l, okv_r, okv_n, okv_rf, okv_b, okv_0, okv_1, okv_f, okv_d, c1_i, c1_r, c1_n, c1_rf, c1_f, nI_add, n_mul, n_sub, n_pred, n_eq, n_le, n_lt, n_neN, n_Nne, N_lt, N_le, n_ltN, n_leN, rdI_n, rdJ_n, rdD_n, wrI_n, wrI_z0, wrI_z1, wrI_zb, wrJ_n, wrD_n, aln_s, okn_n, upd_is, upd_ne, Nat.add_zero, Nat.add_sub_cancel, decide_true, decide_false, cond_true, cond_false, if_true, if_false, ite_not, not_true_eq_false, not_false_eq_true, Nat.reduceEqDiff, Nat.reduceAdd, Nat.reduceMul, Nat.reduceSub, Nat.reduceLeDiff, q]
end
