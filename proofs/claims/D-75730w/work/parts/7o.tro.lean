/-! the model's trips, whole; what is asked of them -/
abbrev TrW (M : Ms) (l : List Nat) (N : Nat) (T : Nat → Tp) : Prop := (TrM M l l.length N T) ∧ (mF M 184 = nI l.length) ∧ (RwL (mA M 14) l) ∧ (mA M 16 N = nI (pS T N)) ∧ (l.length ≤ 120)
theorem TrW.tm {M : Ms} {l : List Nat} {N : Nat} {T : Nat → Tp} (h : TrW M l N T) : TrM M l l.length N T := h.1
theorem TrW.o {M : Ms} {l : List Nat} {N : Nat} {T : Nat → Tp} (h : TrW M l N T) : mF M 184 = nI l.length := h.2.1
theorem TrW.r {M : Ms} {l : List Nat} {N : Nat} {T : Nat → Tp} (h : TrW M l N T) : RwL (mA M 14) l := h.2.2.1
theorem TrW.e {M : Ms} {l : List Nat} {N : Nat} {T : Nat → Tp} (h : TrW M l N T) : mA M 16 N = nI (pS T N) := h.2.2.2.1
theorem TrW.len {M : Ms} {l : List Nat} {N : Nat} {T : Nat → Tp} (h : TrW M l N T) : l.length ≤ 120 := h.2.2.2.2
def FlM (M M' : Ms) : Prop := (∀ k, k < 8 → mA M' k = mA M k) ∧ (∀ f, f < 172 → mF M' f = mF M f) ∧ mW M' = mW M
theorem FlM.trans {M M1 M2 : Ms} (h : FlM M M1) (h2 : FlM M1 M2) : FlM M M2 := ⟨fun k q => (h2.1 k q).trans (h.1 k q), fun f q => (h2.2.1 f q).trans (h.2.1 f q), h2.2.2.trans h.2.2⟩
theorem Fs.fl {M M' : Ms} (h : Fs M M') : FlM M M' := ⟨fun k q => h.1 k (by omega), fun f q => h.2.1 f (by omega), h.2.2⟩
theorem FtM.fl {M M' : Ms} (h : FtM M M') : FlM M M' := ⟨fun k q => h.1 k (by omega), fun f q => h.2.1 f (by omega), h.2.2⟩
theorem Fo.fl {M M' : Ms} (h : Fo M M') : FlM M M' := ⟨fun k q => h.1 k (by omega), fun f q => h.2.1 f (by omega), h.2.2⟩
theorem lpF_list {α β : Type} : ∀ (l : List α) (i : Nat) (f : Nat → β → β) (g : α → β → β) (a : β), (∀ k x, l[k]? = some x → f (i + k) = g x) → lpF f i l.length a = l.foldl (fun a x => g x a) a
  | [], _, _, _, _, _ => rfl
  | x :: l, i, f, g, a, h => by
    show lpF f (i + 1) l.length (f i a) = l.foldl (fun a x => g x a) (g x a)
    rw [show f i = g x from h 0 x rfl]
    exact lpF_list l (i + 1) f g (g x a) (fun k y hy => by rw [show i + 1 + k = i + (k + 1) by omega]; exact h (k + 1) y hy)
theorem lpF_id {α : Type} {f : Nat → α → α} : ∀ (k i : Nat) (a : α), (∀ j b, i ≤ j → j < i + k → f j b = b) → lpF f i k a = a
  | 0, _, _, _ => rfl
  | k + 1, i, a, h => by
    show lpF f (i + 1) k (f i a) = a
    rw [h i a (Nat.le_refl _) (by omega)]
    exact lpF_id k (i + 1) a (fun j b h1 h2 => h j b (by omega) (by omega))
theorem rS_find {T : Nat → Tp} : ∀ {N q : Nat}, q < rS T N → ∃ n, n < N ∧ rS T n ≤ q ∧ q < rS T n + (T n).rs.length
  | 0, q, h => absurd h (Nat.not_lt_zero _)
  | N + 1, q, h => by
    rcases Nat.lt_or_ge q (rS T N) with h1 | h1
    · obtain ⟨n, h2, h3⟩ := rS_find h1
      exact ⟨n, by omega, h3⟩
    · exact ⟨N, by omega, h1, h⟩
theorem TrW.trip {M : Ms} {l : List Nat} {N : Nat} {T : Nat → Tp} (h : TrW M l N T) {n q : Nat} (hn : n < N) (hq : q < l.length) : (mA M 15 q = nI n) = (rS T n ≤ q ∧ q < rS T n + (T n).rs.length) := by
  have hi := h.tm.i
  obtain ⟨n', h1, h2, h3⟩ := rS_find (T := T) (N := N) (q := q) (by omega)
  have e := h.tm.of n' (q - rS T n') h1 (by omega)
  rw [show rS T n' + (q - rS T n') = q by omega] at e
  have hle := h.tm.le.1
  have hl := h.len
  rw [e]
  apply propext
  constructor
  · intro q2
    have := (nI_eq (by omega) (by omega)).mp q2
    subst this
    exact ⟨h2, h3⟩
  · rintro ⟨g1, g2⟩
    congr 1
    rcases Nat.lt_trichotomy n' n with c | c | c
    · have := rS_lt (T := T) (n := n) (k := n') c
      omega
    · exact c
    · have := rS_lt (T := T) (n := n') (k := n) c
      omega
/-- a loop over the order that looks at one trip's reads alone -/
theorem TrW.loop {α : Type} {M : Ms} {l : List Nat} {N : Nat} {T : Nat → Tp} (h : TrW M l N T) {n : Nat} (hn : n < N) {f : Nat → α → α} {g : Nat → α → α} (a : α) (h1 : ∀ q b, q < l.length → mA M 15 q ≠ nI n → f q b = b) (h2 : ∀ q x, q < l.length → mA M 15 q = nI n → l[q]? = some x → f q = g x) : lpF f 0 l.length a = (T n).rs.foldl (fun a x => g x a) a := by
  have hi := h.tm.i
  have hl := rS_lt (T := T) (n := N) (k := n) hn
  have e : l.length = rS T n + ((T n).rs.length + (l.length - (rS T n + (T n).rs.length))) := by omega
  rw [e, lpF_add, lpF_add, Nat.zero_add]
  rw [lpF_id (rS T n) 0 a (fun j b _ hj => h1 j b (by omega) (fun q => by rw [h.trip hn (by omega)] at q; omega))]
  rw [lpF_id (l.length - (rS T n + (T n).rs.length)) _ _ (fun j b h3 h4 => h1 j b (by omega) (fun q => by rw [h.trip hn (by omega)] at q; omega))]
  refine lpF_list _ _ _ _ _ (fun k x hx => ?_)
  have hk := lt_of_get hx
  have := h.tm.or n k x hn hx
  exact h2 _ x (by omega) (by rw [h.trip hn (by omega)]; omega) this
def fstT (S : Nat → Int32) (t : Tp) : Int32 := S (280 + 7 * t.rs.headD 0 + 2)
def lstT (S : Nat → Int32) (t : Tp) : Int32 := S (280 + 7 * t.rs.getLastD 0 + 2)
def imgN (S : Nat → Int32) (l : List Nat) : Nat := l.countP (fun r => decide (S (280 + 7 * r + 3) = nI 1))
def misN (l : List (Nat × Bool)) : Nat := l.countP (fun x => x.2)
theorem fold_last {α β : Type} {g : α → β} : ∀ (l : List α) (a : β) (d : α), l ≠ [] → l.foldl (fun _ x => g x) a = g (l.getLastD d)
  | [], _, _, h => absurd rfl h
  | [x], _, _, _ => rfl
  | x :: y :: l, a, d, _ => by
    show (y :: l).foldl (fun _ x => g x) (g x) = _
    rw [fold_last (y :: l) (g x) x (by simp)]
    rfl
theorem fold_first {α β : Type} {g : α → β} {z : β} [DecidableEq β] : ∀ (l : List α), (∀ x, x ∈ l → g x ≠ z) → ∀ (a : β), a ≠ z → l.foldl (fun a x => if a = z then g x else a) a = a
  | [], _, _, _ => rfl
  | x :: l, h, a, ha => by
    show l.foldl _ (if a = z then g x else a) = a
    rw [if_neg ha]
    exact fold_first l (fun y hy => h y (List.mem_cons_of_mem _ hy)) a ha
theorem fold_cnt {α : Type} {p : α → Bool} : ∀ (l : List α) (a : Nat), l.foldl (fun c x => c + bI (p x)) (nI a) = nI (a + l.countP p)
  | [], a => rfl
  | x :: l, a => by
    show l.foldl _ (nI a + bI (p x)) = _
    rw [List.countP_cons]
    cases h : p x
    · rw [bI_f, nI_add, fold_cnt l (a + 0)]
      simp
    · rw [bI_t, nI_add, fold_cnt l (a + 1)]
      simp only [if_true]
      congr 1
      omega
section
variable {A : Hp} {m0 d : Nat} {M : Ms}
theorem m_364 (h : mO A m0) {G D R : Nat} (ok : LyOK (mA M 0) G D R) {v : Int32} :
    ∃ M' : Ms, evG TB (d + 6) 364 [.ref m0, .int v] (hM A m0 M) = some (.inl none, hM A m0 M') ∧ FlM M M' ∧ TrW M' (ordL (mA M 0) v R) (lay (mA M 0) G D (ordL (mA M 0) v R)).1 (lay (mA M 0) G D (ordL (mA M 0) v R)).2 := by
  obtain ⟨M1, e1, f1, g1, r1⟩ := m_365 (d := d + 3) (M := M) (v := v) h ok.r12 ok.R120
  have oo := ordL_ok' (mA M 0) v R
  have hlen : (ordL (mA M 0) v R).length ≤ 120 := Nat.le_trans oo.len ok.R120
  have key : ∀ k i, i + k = (ordL (mA M 0) v R).length → ∀ (N : Ms) (a : Nat × (Nat → Tp)) (j4 j5 : Option Value), FtM M1 N → TrM N (ordL (mA M 0) v R) i a.1 a.2 →
      ∃ M' : Ms, exG TB (d + 5) 364 19 [some (.ref m0), some (.int v), some (.int (lstI a)), some (.int (nI i)), j4, j5] [] (hM A m0 N) = some (.inl none, hM A m0 M') ∧ FlM M1 M' ∧ TrW M' (ordL (mA M 0) v R) (((ordL (mA M 0) v R).drop i).foldl (lyS (mA M 0) G D) a).1 (((ordL (mA M 0) v R).drop i).foldl (lyS (mA M 0) G D) a).2 := by
    intro k
    induction k with
    | zero =>
      intro i e N a j4 j5 f tm
      have e : i = (ordL (mA M 0) v R).length := e
      rw [e, List.drop_length]
      have h184 : mF N 184 = nI (ordL (mA M 0) v R).length := (f.2.1 184 (by omega)).trans g1
      have le := tm.le.1
      have p1 := tm.n
      have p2 := tm.p
      refine ⟨uA N 16 (upd (mA N 16) a.1 (nI (pS a.2 a.1))), x_364_19.trans ?_, f.fl.trans ⟨fun k hk => by rw [mA_uA, if_neg (by omega)], fun _ _ => rfl, rfl⟩, ⟨?_, h184, ?_, ?_, hlen⟩⟩
      · simp (disch := omega) only [x_364_0, x_364_1, x_364_2, x_364_5, x_364_6, x_364_7, x_364_10, x_364_11, x_364_12, x_364_15, x_364_16, x_364_17, x_364_18, x_364_20, x_364_21, x_364_24, x_364_27, x_364_28, x_364_31, x_364_32, x_364_33, x_364_35, x_364_36, x_364_37, x_364_40, x_364_41, x_364_42, x_364_43, x_364_46, x_364_47, x_364_49, x_364_50, x_364_53, x_364_56, x_364_57, x_364_59, x_364_60, x_364_63, x_364_64, x_364_65, x_364_66, x_364_69, x_364_70, x_364_71, x_364_72, x_364_75, x_364_78, x_364_79, x_364_82, x_364_83, x_364_85, x_364_87, x_364_90, x_364_91, x_364_92, x_364_95, x_364_96, x_364_97, x_364_99, x_364_102, x_364_105, x_364_106, x_364_108, x_364_111, x_364_113, x_364_114, x_364_115, x_364_118, x_364_119, x_364_120, x_364_123, x_364_124, x_364_125, x_364_126, x_364_129, x_364_132, x_364_133, x_364_136, x_364_137, x_364_140, x_364_141, x_364_144, x_364_145, hm_c h, hm_148 h, hg_0 h, ha_0, hm_149 h, hg_1 h, ha_1, hm_150 h, hg_2 h, ha_2, hm_151 h, hg_3 h, ha_3, hm_152 h, hg_4 h, ha_4, hm_153 h, hg_5 h, ha_5, hm_154 h, hg_6 h, ha_6, hm_155 h, hs_155, hm_156 h, hg_7 h, ha_7, hm_157 h, hs_157, hm_158 h, hs_158, hm_159 h, hs_159, hm_160 h, hs_160, hm_161 h, hs_161, hm_162 h, hs_162, hm_163 h, hs_163, hm_164 h, hs_164, hm_165 h, hs_165, hm_166 h, hg_8 h, ha_8, hm_167 h, hg_9 h, ha_9, hm_168 h, hg_10 h, ha_10, hm_169 h, hg_11 h, ha_11, hm_170 h, hg_12 h, ha_12, hm_171 h, hg_13 h, ha_13, hm_172 h, hs_172, hm_173 h, hs_173, hm_174 h, hs_174, hm_175 h, hs_175, hm_176 h, hs_176, hm_177 h, hg_14 h, ha_14, hm_178 h, hg_15 h, ha_15, hm_179 h, hg_16 h, ha_16, hm_180 h, hg_17 h, ha_17, hm_181 h, hg_18 h, ha_18, hm_182 h, hg_19 h, ha_19, hm_183 h, hg_20 h, ha_20, hm_184 h, hs_184, hm_185 h, hs_185, hm_186 h, hs_186, mA_uA, mA_uF, mA_uW, mF_uA, mF_uF, mF_uW, mW_uA, mW_uF, mW_uW, uA_uA, uA_uF, uF_uF, bI0, kv_s, ki_s, kj_s, kd_s, kq_s, kq_n, kq_o, ka_s, kc_r, kc_t, kc0_r, kc0_t, kch_r, kc0h_r, kw_s, kw0_s, kwh_s, kw0h_s, rg_ref, rg_null, rg_rf, ck_t, sel_some, lkn_hd, Option.isSome_some, Bool.true_and, Bool.and_true, okv_i, okv_l, okv_r, okv_n, okv_rf, okv_b, okv_0, okv_1, okv_f, okv_d, c1_i, c1_r, c1_n, c1_rf, c1_f, nI_add, n_mul, n_sub, n_pred, n_eq, n_le, n_lt, n_neN, n_Nne, N_lt, N_le, n_ltN, n_leN, rdI_n, rdJ_n, rdD_n, wrI_n, wrI_z0, wrI_z1, wrI_zb, wrJ_n, wrD_n, aln_s, okn_n, upd_is, upd_ne, Nat.add_zero, Nat.add_sub_cancel, decide_true, decide_false, cond_true, cond_false, if_true, if_false, ite_not, not_true_eq_false, not_false_eq_true, Nat.reduceEqDiff, Nat.reduceAdd, Nat.reduceMul, Nat.reduceSub, Nat.reduceLeDiff, h184, yle (Nat.le_refl (ordL (mA M 0) v R).length), p1, p2]
      · rw [e] at tm
        refine ⟨tm.n, tm.p, tm.i, fun n hn => ?_, tm.pl, tm.of, tm.or, tm.w, tm.la⟩
        show upd (mA N 16) a.1 _ n = _ ∧ _
        rw [upd_ne (by have : n < a.1 := hn; omega)]
        exact tm.tr n hn
      · rw [mA_uA, if_neg (by omega), f.1 14 (by omega)]
        exact r1
      · show upd (mA N 16) a.1 (nI (pS a.2 a.1)) a.1 = _
        exact upd_is rfl
    | succ k ih =>
      intro i e N a j4 j5 f tm
      have hi : i < (ordL (mA M 0) v R).length := by omega
      have hr := List.getElem?_eq_getElem hi
      have eS : mA N 0 = mA M 0 := (f.1 0 (by omega)).trans (f1.1 0 (by omega))
      have h184 : mF N 184 = nI (ordL (mA M 0) v R).length := (f.2.1 184 (by omega)).trans g1
      have h14 : RwL (mA N 14) (ordL (mA M 0) v R) := by rw [f.1 14 (by omega)]; exact r1
      have it : LyIt A m0 d v (mA M 0) G D N (ordL (mA M 0) v R) i a.1 a.2 (ordL (mA M 0) v R)[i] := by
        rcases hN : a.1 with _ | n
        · rw [hN] at tm
          exact m_364_it0 h ok eS hlen (fun x hx => ((oo.mem x).mp hx).1) h184 h14 tm hr
        · rw [hN] at tm
          exact m_364_it h ok eS hlen (fun x hx => ((oo.mem x).mp hx).1) oo.srt h184 h14 tm hr
      obtain ⟨M2, i4, i5, e2, f2, t2⟩ := it j4 j5
      obtain ⟨M3, e3, f3, w3⟩ := ih (i + 1) (by omega) M2 (lyS (mA M 0) G D (a.1, a.2) (ordL (mA M 0) v R)[i]) i4 i5 (f.trans f2) t2
      refine ⟨M3, e2.trans e3, f3, ?_⟩
      rw [List.drop_eq_getElem_cons hi]
      exact w3
  obtain ⟨M2, e2, f2, w2⟩ := key _ 0 (Nat.zero_add _) (uF (uF M1 185 (nI 0)) 186 (nI 0)) (0, fun _ => tp0) none none ⟨fun _ _ => rfl, fun f hf => by rw [mF_uF, if_neg (by omega), mF_uF, if_neg (by omega)], rfl⟩ (TrM.zero (by simp only [mF_uF, Nat.reduceEqDiff, if_true, if_false]) (by simp only [mF_uF, if_true]))
  refine ⟨M2, ?_, f1.fl.trans f2, w2⟩
  refine Eq.trans ?_ e2
  have : lstI (0, fun _ => tp0) = nN := by unfold lstI; rw [if_pos rfl]
  rw [this]
  simp (disch := omega) only [e_364, x_364_0, x_364_1, x_364_2, x_364_5, x_364_6, x_364_7, x_364_10, x_364_11, x_364_12, x_364_15, x_364_16, x_364_17, x_364_18, e1, hm_c h, hm_148 h, hg_0 h, ha_0, hm_149 h, hg_1 h, ha_1, hm_150 h, hg_2 h, ha_2, hm_151 h, hg_3 h, ha_3, hm_152 h, hg_4 h, ha_4, hm_153 h, hg_5 h, ha_5, hm_154 h, hg_6 h, ha_6, hm_155 h, hs_155, hm_156 h, hg_7 h, ha_7, hm_157 h, hs_157, hm_158 h, hs_158, hm_159 h, hs_159, hm_160 h, hs_160, hm_161 h, hs_161, hm_162 h, hs_162, hm_163 h, hs_163, hm_164 h, hs_164, hm_165 h, hs_165, hm_166 h, hg_8 h, ha_8, hm_167 h, hg_9 h, ha_9, hm_168 h, hg_10 h, ha_10, hm_169 h, hg_11 h, ha_11, hm_170 h, hg_12 h, ha_12, hm_171 h, hg_13 h, ha_13, hm_172 h, hs_172, hm_173 h, hs_173, hm_174 h, hs_174, hm_175 h, hs_175, hm_176 h, hs_176, hm_177 h, hg_14 h, ha_14, hm_178 h, hg_15 h, ha_15, hm_179 h, hg_16 h, ha_16, hm_180 h, hg_17 h, ha_17, hm_181 h, hg_18 h, ha_18, hm_182 h, hg_19 h, ha_19, hm_183 h, hg_20 h, ha_20, hm_184 h, hs_184, hm_185 h, hs_185, hm_186 h, hs_186, mA_uA, mA_uF, mA_uW, mF_uA, mF_uF, mF_uW, mW_uA, mW_uF, mW_uW, uA_uA, uA_uF, uF_uF, bI0, kv_s, ki_s, kj_s, kd_s, kq_s, kq_n, kq_o, ka_s, kc_r, kc_t, kc0_r, kc0_t, kch_r, kc0h_r, kw_s, kw0_s, kwh_s, kw0h_s, rg_ref, rg_null, rg_rf, ck_t, sel_some, lkn_hd, Option.isSome_some, Bool.true_and, Bool.and_true, okv_i, okv_l, okv_r, okv_n, okv_rf, okv_b, okv_0, okv_1, okv_f, okv_d, c1_i, c1_r, c1_n, c1_rf, c1_f, nI_add, n_mul, n_sub, n_pred, n_eq, n_le, n_lt, n_neN, n_Nne, N_lt, N_le, n_ltN, n_leN, rdI_n, rdJ_n, rdD_n, wrI_n, wrI_z0, wrI_z1, wrI_zb, wrJ_n, wrD_n, aln_s, okn_n, upd_is, upd_ne, Nat.add_zero, Nat.add_sub_cancel, decide_true, decide_false, cond_true, cond_false, if_true, if_false, ite_not, not_true_eq_false, not_false_eq_true, Nat.reduceEqDiff, Nat.reduceAdd, Nat.reduceMul, Nat.reduceSub, Nat.reduceLeDiff]
theorem m_371 (h : mO A m0) {l : List Nat} {N n R : Nat} {T : Nat → Tp} (tw : TrW M l N T) (hn : n < N) (hR : R ≤ 120) (hm : ∀ x, x ∈ l → x < R ∧ ∃ t, t ≤ 100000 ∧ mA M 0 (280 + 7 * x + 2) = nI t) {b : Bool} : evG TB (d + 2) 371 [.ref m0, .int (nI n), .int (bI b)] (hM A m0 M) = some (.inl (some (.int (if b = true then lstT (mA M 0) (T n) else fstT (mA M 0) (T n)))), hM A m0 M) := by
  have hl := tw.len
  have hle := tw.tm.le.1
  have h184 := tw.o
  have step : evG TB (d + 2) 371 [.ref m0, .int (nI n), .int (bI b)] (hM A m0 M) = some (.inl (some (.int (lpF (fun i c => if mA M 15 i = nI n ∧ (b = true ∨ c = nN) then mA M 0 (280 + 7 * (mA M 14 i).toNatClampNeg + 2) else c) 0 l.length nN))), hM A m0 M) := by
    simp only [e_371, x_371_0, x_371_1, x_371_2, x_371_3]
    refine loop0 (H := fun i c => exG TB (d + 1) 371 5 [some (.ref m0), some (.int (nI n)), some (.int (bI b)), some (.int c), some (.int (nI i))] [] (hM A m0 M)) (E := fun c => some (.inl (some (.int c)), hM A m0 M)) nN (fun i c hi => ?_) (fun c => ?_)
    · have hr := List.getElem?_eq_getElem hi
      have e14 := tw.r i _ hr
      have hx := (hm _ (List.mem_of_getElem? hr)).1
      refine x_371_5.trans ?_
      rw [e14, n_cl (by omega)]
      rcases pc (mA M 15 i = nI n) with h1 | h1
      · cases b
        · rcases pc (c = nN) with h2 | h2 <;> simp (disch := omega) only [x_371_0, x_371_1, x_371_2, x_371_3, x_371_7, x_371_8, x_371_11, x_371_14, x_371_15, x_371_18, x_371_20, x_371_21, x_371_22, x_371_25, x_371_26, x_371_29, x_371_30, x_371_31, x_371_34, x_371_35, x_371_36, x_371_39, x_371_41, x_371_42, x_371_43, x_371_46, x_371_47, x_371_50, x_371_53, x_371_54, e_331, x_331_0, x_331_1, x_331_4, x_331_7, x_331_9, x_331_10, x_331_11, x_331_12, x_331_13, x_331_14, x_331_15, hm_c h, hm_148 h, hg_0 h, ha_0, hm_149 h, hg_1 h, ha_1, hm_150 h, hg_2 h, ha_2, hm_151 h, hg_3 h, ha_3, hm_152 h, hg_4 h, ha_4, hm_153 h, hg_5 h, ha_5, hm_154 h, hg_6 h, ha_6, hm_155 h, hs_155, hm_156 h, hg_7 h, ha_7, hm_157 h, hs_157, hm_158 h, hs_158, hm_159 h, hs_159, hm_160 h, hs_160, hm_161 h, hs_161, hm_162 h, hs_162, hm_163 h, hs_163, hm_164 h, hs_164, hm_165 h, hs_165, hm_166 h, hg_8 h, ha_8, hm_167 h, hg_9 h, ha_9, hm_168 h, hg_10 h, ha_10, hm_169 h, hg_11 h, ha_11, hm_170 h, hg_12 h, ha_12, hm_171 h, hg_13 h, ha_13, hm_172 h, hs_172, hm_173 h, hs_173, hm_174 h, hs_174, hm_175 h, hs_175, hm_176 h, hs_176, hm_177 h, hg_14 h, ha_14, hm_178 h, hg_15 h, ha_15, hm_179 h, hg_16 h, ha_16, hm_180 h, hg_17 h, ha_17, hm_181 h, hg_18 h, ha_18, hm_182 h, hg_19 h, ha_19, hm_183 h, hg_20 h, ha_20, hm_184 h, hs_184, hm_185 h, hs_185, hm_186 h, hs_186, mA_uA, mA_uF, mA_uW, mF_uA, mF_uF, mF_uW, mW_uA, mW_uF, mW_uW, uA_uA, uA_uF, uF_uF, bI0, kv_s, ki_s, kj_s, kd_s, kq_s, kq_n, kq_o, ka_s, kc_r, kc_t, kc0_r, kc0_t, kch_r, kc0h_r, kw_s, kw0_s, kwh_s, kw0h_s, rg_ref, rg_null, rg_rf, ck_t, sel_some, lkn_hd, Option.isSome_some, Bool.true_and, Bool.and_true, okv_i, okv_l, okv_r, okv_n, okv_rf, okv_b, okv_0, okv_1, okv_f, okv_d, c1_i, c1_r, c1_n, c1_rf, c1_f, nI_add, n_mul, n_sub, n_pred, n_eq, n_le, n_lt, n_neN, n_Nne, N_lt, N_le, n_ltN, n_leN, rdI_n, rdJ_n, rdD_n, wrI_n, wrI_z0, wrI_z1, wrI_zb, wrJ_n, wrD_n, aln_s, okn_n, upd_is, upd_ne, Nat.add_zero, Nat.add_sub_cancel, decide_true, decide_false, cond_true, cond_false, if_true, if_false, ite_not, not_true_eq_false, not_false_eq_true, Nat.reduceEqDiff, Nat.reduceAdd, Nat.reduceMul, Nat.reduceSub, Nat.reduceLeDiff, h184, nle hi, e14, h1, h2, bI_f, and_true, or_true, or_false, false_or, and_false, Bool.false_eq_true]
        · simp (disch := omega) only [x_371_0, x_371_1, x_371_2, x_371_3, x_371_7, x_371_8, x_371_11, x_371_14, x_371_15, x_371_18, x_371_20, x_371_21, x_371_22, x_371_25, x_371_26, x_371_29, x_371_30, x_371_31, x_371_34, x_371_35, x_371_36, x_371_39, x_371_41, x_371_42, x_371_43, x_371_46, x_371_47, x_371_50, x_371_53, x_371_54, e_331, x_331_0, x_331_1, x_331_4, x_331_7, x_331_9, x_331_10, x_331_11, x_331_12, x_331_13, x_331_14, x_331_15, hm_c h, hm_148 h, hg_0 h, ha_0, hm_149 h, hg_1 h, ha_1, hm_150 h, hg_2 h, ha_2, hm_151 h, hg_3 h, ha_3, hm_152 h, hg_4 h, ha_4, hm_153 h, hg_5 h, ha_5, hm_154 h, hg_6 h, ha_6, hm_155 h, hs_155, hm_156 h, hg_7 h, ha_7, hm_157 h, hs_157, hm_158 h, hs_158, hm_159 h, hs_159, hm_160 h, hs_160, hm_161 h, hs_161, hm_162 h, hs_162, hm_163 h, hs_163, hm_164 h, hs_164, hm_165 h, hs_165, hm_166 h, hg_8 h, ha_8, hm_167 h, hg_9 h, ha_9, hm_168 h, hg_10 h, ha_10, hm_169 h, hg_11 h, ha_11, hm_170 h, hg_12 h, ha_12, hm_171 h, hg_13 h, ha_13, hm_172 h, hs_172, hm_173 h, hs_173, hm_174 h, hs_174, hm_175 h, hs_175, hm_176 h, hs_176, hm_177 h, hg_14 h, ha_14, hm_178 h, hg_15 h, ha_15, hm_179 h, hg_16 h, ha_16, hm_180 h, hg_17 h, ha_17, hm_181 h, hg_18 h, ha_18, hm_182 h, hg_19 h, ha_19, hm_183 h, hg_20 h, ha_20, hm_184 h, hs_184, hm_185 h, hs_185, hm_186 h, hs_186, mA_uA, mA_uF, mA_uW, mF_uA, mF_uF, mF_uW, mW_uA, mW_uF, mW_uW, uA_uA, uA_uF, uF_uF, bI0, kv_s, ki_s, kj_s, kd_s, kq_s, kq_n, kq_o, ka_s, kc_r, kc_t, kc0_r, kc0_t, kch_r, kc0h_r, kw_s, kw0_s, kwh_s, kw0h_s, rg_ref, rg_null, rg_rf, ck_t, sel_some, lkn_hd, Option.isSome_some, Bool.true_and, Bool.and_true, okv_i, okv_l, okv_r, okv_n, okv_rf, okv_b, okv_0, okv_1, okv_f, okv_d, c1_i, c1_r, c1_n, c1_rf, c1_f, nI_add, n_mul, n_sub, n_pred, n_eq, n_le, n_lt, n_neN, n_Nne, N_lt, N_le, n_ltN, n_leN, rdI_n, rdJ_n, rdD_n, wrI_n, wrI_z0, wrI_z1, wrI_zb, wrJ_n, wrD_n, aln_s, okn_n, upd_is, upd_ne, Nat.add_zero, Nat.add_sub_cancel, decide_true, decide_false, cond_true, cond_false, if_true, if_false, ite_not, not_true_eq_false, not_false_eq_true, Nat.reduceEqDiff, Nat.reduceAdd, Nat.reduceMul, Nat.reduceSub, Nat.reduceLeDiff, h184, nle hi, e14, h1, bI_t, and_true, true_or]
      · simp (disch := omega) only [x_371_0, x_371_1, x_371_2, x_371_3, x_371_7, x_371_8, x_371_11, x_371_14, x_371_15, x_371_18, x_371_20, x_371_21, x_371_22, x_371_25, x_371_26, x_371_29, x_371_30, x_371_31, x_371_34, x_371_35, x_371_36, x_371_39, x_371_41, x_371_42, x_371_43, x_371_46, x_371_47, x_371_50, x_371_53, x_371_54, e_331, x_331_0, x_331_1, x_331_4, x_331_7, x_331_9, x_331_10, x_331_11, x_331_12, x_331_13, x_331_14, x_331_15, hm_c h, hm_148 h, hg_0 h, ha_0, hm_149 h, hg_1 h, ha_1, hm_150 h, hg_2 h, ha_2, hm_151 h, hg_3 h, ha_3, hm_152 h, hg_4 h, ha_4, hm_153 h, hg_5 h, ha_5, hm_154 h, hg_6 h, ha_6, hm_155 h, hs_155, hm_156 h, hg_7 h, ha_7, hm_157 h, hs_157, hm_158 h, hs_158, hm_159 h, hs_159, hm_160 h, hs_160, hm_161 h, hs_161, hm_162 h, hs_162, hm_163 h, hs_163, hm_164 h, hs_164, hm_165 h, hs_165, hm_166 h, hg_8 h, ha_8, hm_167 h, hg_9 h, ha_9, hm_168 h, hg_10 h, ha_10, hm_169 h, hg_11 h, ha_11, hm_170 h, hg_12 h, ha_12, hm_171 h, hg_13 h, ha_13, hm_172 h, hs_172, hm_173 h, hs_173, hm_174 h, hs_174, hm_175 h, hs_175, hm_176 h, hs_176, hm_177 h, hg_14 h, ha_14, hm_178 h, hg_15 h, ha_15, hm_179 h, hg_16 h, ha_16, hm_180 h, hg_17 h, ha_17, hm_181 h, hg_18 h, ha_18, hm_182 h, hg_19 h, ha_19, hm_183 h, hg_20 h, ha_20, hm_184 h, hs_184, hm_185 h, hs_185, hm_186 h, hs_186, mA_uA, mA_uF, mA_uW, mF_uA, mF_uF, mF_uW, mW_uA, mW_uF, mW_uW, uA_uA, uA_uF, uF_uF, bI0, kv_s, ki_s, kj_s, kd_s, kq_s, kq_n, kq_o, ka_s, kc_r, kc_t, kc0_r, kc0_t, kch_r, kc0h_r, kw_s, kw0_s, kwh_s, kw0h_s, rg_ref, rg_null, rg_rf, ck_t, sel_some, lkn_hd, Option.isSome_some, Bool.true_and, Bool.and_true, okv_i, okv_l, okv_r, okv_n, okv_rf, okv_b, okv_0, okv_1, okv_f, okv_d, c1_i, c1_r, c1_n, c1_rf, c1_f, nI_add, n_mul, n_sub, n_pred, n_eq, n_le, n_lt, n_neN, n_Nne, N_lt, N_le, n_ltN, n_leN, rdI_n, rdJ_n, rdD_n, wrI_n, wrI_z0, wrI_z1, wrI_zb, wrJ_n, wrD_n, aln_s, okn_n, upd_is, upd_ne, Nat.add_zero, Nat.add_sub_cancel, decide_true, decide_false, cond_true, cond_false, if_true, if_false, ite_not, not_true_eq_false, not_false_eq_true, Nat.reduceEqDiff, Nat.reduceAdd, Nat.reduceMul, Nat.reduceSub, Nat.reduceLeDiff, h184, nle hi, e14, h1, false_and]
    · refine x_371_5.trans ?_
      simp (disch := omega) only [x_371_0, x_371_1, x_371_2, x_371_3, x_371_7, x_371_8, x_371_11, x_371_14, x_371_15, x_371_18, x_371_20, x_371_21, x_371_22, x_371_25, x_371_26, x_371_29, x_371_30, x_371_31, x_371_34, x_371_35, x_371_36, x_371_39, x_371_41, x_371_42, x_371_43, x_371_46, x_371_47, x_371_50, x_371_53, x_371_54, hm_c h, hm_148 h, hg_0 h, ha_0, hm_149 h, hg_1 h, ha_1, hm_150 h, hg_2 h, ha_2, hm_151 h, hg_3 h, ha_3, hm_152 h, hg_4 h, ha_4, hm_153 h, hg_5 h, ha_5, hm_154 h, hg_6 h, ha_6, hm_155 h, hs_155, hm_156 h, hg_7 h, ha_7, hm_157 h, hs_157, hm_158 h, hs_158, hm_159 h, hs_159, hm_160 h, hs_160, hm_161 h, hs_161, hm_162 h, hs_162, hm_163 h, hs_163, hm_164 h, hs_164, hm_165 h, hs_165, hm_166 h, hg_8 h, ha_8, hm_167 h, hg_9 h, ha_9, hm_168 h, hg_10 h, ha_10, hm_169 h, hg_11 h, ha_11, hm_170 h, hg_12 h, ha_12, hm_171 h, hg_13 h, ha_13, hm_172 h, hs_172, hm_173 h, hs_173, hm_174 h, hs_174, hm_175 h, hs_175, hm_176 h, hs_176, hm_177 h, hg_14 h, ha_14, hm_178 h, hg_15 h, ha_15, hm_179 h, hg_16 h, ha_16, hm_180 h, hg_17 h, ha_17, hm_181 h, hg_18 h, ha_18, hm_182 h, hg_19 h, ha_19, hm_183 h, hg_20 h, ha_20, hm_184 h, hs_184, hm_185 h, hs_185, hm_186 h, hs_186, mA_uA, mA_uF, mA_uW, mF_uA, mF_uF, mF_uW, mW_uA, mW_uF, mW_uW, uA_uA, uA_uF, uF_uF, bI0, kv_s, ki_s, kj_s, kd_s, kq_s, kq_n, kq_o, ka_s, kc_r, kc_t, kc0_r, kc0_t, kch_r, kc0h_r, kw_s, kw0_s, kwh_s, kw0h_s, rg_ref, rg_null, rg_rf, ck_t, sel_some, lkn_hd, Option.isSome_some, Bool.true_and, Bool.and_true, okv_i, okv_l, okv_r, okv_n, okv_rf, okv_b, okv_0, okv_1, okv_f, okv_d, c1_i, c1_r, c1_n, c1_rf, c1_f, nI_add, n_mul, n_sub, n_pred, n_eq, n_le, n_lt, n_neN, n_Nne, N_lt, N_le, n_ltN, n_leN, rdI_n, rdJ_n, rdD_n, wrI_n, wrI_z0, wrI_z1, wrI_zb, wrJ_n, wrD_n, aln_s, okn_n, upd_is, upd_ne, Nat.add_zero, Nat.add_sub_cancel, decide_true, decide_false, cond_true, cond_false, if_true, if_false, ite_not, not_true_eq_false, not_false_eq_true, Nat.reduceEqDiff, Nat.reduceAdd, Nat.reduceMul, Nat.reduceSub, Nat.reduceLeDiff, h184, yle (Nat.le_refl l.length)]
  rw [step]
  congr 5
  have hne : (T n).rs ≠ [] := fun q => by have := (tw.tm.w n hn).1; rw [q] at this; exact absurd this (by decide)
  cases b
  · rw [tw.loop hn (g := fun x c => if c = nN then mA M 0 (280 + 7 * x + 2) else c) nN (fun q b hq h1 => if_neg (fun z => h1 z.1)) (fun q x hq h1 hx => by
      funext c
      rw [tw.r q x hx, n_cl (by have := (hm x (List.mem_of_getElem? hx)).1; omega)]
      by_cases h2 : c = nN
      · rw [if_pos ⟨h1, Or.inr h2⟩, if_pos h2]
      · rw [if_neg (fun z => z.2.elim (fun z => by cases z) h2), if_neg h2])]
    rw [if_neg (by decide)]
    unfold fstT
    cases hrs : (T n).rs with
    | nil => exact absurd hrs hne
    | cons x rs =>
      show rs.foldl _ (if nN = nN then mA M 0 (280 + 7 * x + 2) else nN) = _
      rw [if_pos rfl]
      have hmm : ∀ y, y ∈ (T n).rs → mA M 0 (280 + 7 * y + 2) ≠ nN := fun y hy => by
        obtain ⟨k, hk, ek⟩ := List.mem_iff_getElem.mp hy
        have hg : (T n).rs[k]? = some y := by rw [List.getElem?_eq_getElem hk, ek]
        obtain ⟨t, t1, t2⟩ := (hm y (List.mem_of_getElem? (tw.tm.or n k y hn hg))).2
        rw [t2]
        exact of_eq_false (n_neN (by omega))
      exact fold_first rs (fun y hy => hmm y (by rw [hrs]; exact List.mem_cons_of_mem _ hy)) _ (hmm x (by rw [hrs]; exact List.mem_cons_self))
  · rw [tw.loop hn (g := fun x c => mA M 0 (280 + 7 * x + 2)) nN (fun q b hq h1 => if_neg (fun z => h1 z.1)) (fun q x hq h1 hx => by
      funext c
      rw [tw.r q x hx, n_cl (by have := (hm x (List.mem_of_getElem? hx)).1; omega), if_pos ⟨h1, Or.inl rfl⟩])]
    rw [if_pos rfl]
    exact fold_last (T n).rs nN 0 hne
theorem m_372 (h : mO A m0) {l : List Nat} {N n R : Nat} {T : Nat → Tp} (tw : TrW M l N T) (hn : n < N) (hR : R ≤ 120) (hm : ∀ x, x ∈ l → x < R) {b : Bool} : evG TB (d + 2) 372 [.ref m0, .int (nI n), .int (bI b)] (hM A m0 M) = some (.inl (some (.int (nI (if b = true then imgN (mA M 0) (T n).rs else (T n).rs.length)))), hM A m0 M) := by
  have hl := tw.len
  have hle := tw.tm.le.1
  have h184 := tw.o
  have step : evG TB (d + 2) 372 [.ref m0, .int (nI n), .int (bI b)] (hM A m0 M) = some (.inl (some (.int (lpF (fun i c => c + bI (decide (mA M 15 i = nI n) && (!b || decide (mA M 0 (280 + 7 * (mA M 14 i).toNatClampNeg + 3) = nI 1)))) 0 l.length (nI 0)))), hM A m0 M) := by
    simp only [e_372, x_372_0, x_372_1, x_372_2, x_372_3]
    refine loop0j (H := fun i c z => exG TB (d + 1) 372 5 [some (.ref m0), some (.int (nI n)), some (.int (bI b)), some (.int c), some (.int (nI i)), z] [] (hM A m0 M)) (E := fun c => some (.inl (some (.int c)), hM A m0 M)) (nI 0) none (fun i c z hi => ⟨some (.int (bI (decide (mA M 15 i = nI n) && (!b || decide (mA M 0 (280 + 7 * (mA M 14 i).toNatClampNeg + 3) = nI 1))))), ?_⟩) (fun c z => ?_)
    · have hr := List.getElem?_eq_getElem hi
      have e14 := tw.r i _ hr
      have hx := hm _ (List.mem_of_getElem? hr)
      refine x_372_5.trans ?_
      rw [e14, n_cl (by omega)]
      rcases pc (mA M 15 i = nI n) with h1 | h1
      · cases b
        · simp (disch := omega) only [x_372_0, x_372_1, x_372_2, x_372_3, x_372_7, x_372_8, x_372_11, x_372_14, x_372_15, x_372_18, x_372_20, x_372_21, x_372_22, x_372_25, x_372_26, x_372_29, x_372_30, x_372_31, x_372_34, x_372_36, x_372_37, x_372_38, x_372_41, x_372_42, x_372_45, x_372_46, x_372_49, x_372_50, x_372_52, x_372_53, x_372_55, x_372_58, x_372_59, x_372_62, x_372_63, x_372_64, x_372_65, x_372_68, x_372_71, x_372_72, e_331, x_331_0, x_331_1, x_331_4, x_331_7, x_331_9, x_331_10, x_331_11, x_331_12, x_331_13, x_331_14, x_331_15, hm_c h, hm_148 h, hg_0 h, ha_0, hm_149 h, hg_1 h, ha_1, hm_150 h, hg_2 h, ha_2, hm_151 h, hg_3 h, ha_3, hm_152 h, hg_4 h, ha_4, hm_153 h, hg_5 h, ha_5, hm_154 h, hg_6 h, ha_6, hm_155 h, hs_155, hm_156 h, hg_7 h, ha_7, hm_157 h, hs_157, hm_158 h, hs_158, hm_159 h, hs_159, hm_160 h, hs_160, hm_161 h, hs_161, hm_162 h, hs_162, hm_163 h, hs_163, hm_164 h, hs_164, hm_165 h, hs_165, hm_166 h, hg_8 h, ha_8, hm_167 h, hg_9 h, ha_9, hm_168 h, hg_10 h, ha_10, hm_169 h, hg_11 h, ha_11, hm_170 h, hg_12 h, ha_12, hm_171 h, hg_13 h, ha_13, hm_172 h, hs_172, hm_173 h, hs_173, hm_174 h, hs_174, hm_175 h, hs_175, hm_176 h, hs_176, hm_177 h, hg_14 h, ha_14, hm_178 h, hg_15 h, ha_15, hm_179 h, hg_16 h, ha_16, hm_180 h, hg_17 h, ha_17, hm_181 h, hg_18 h, ha_18, hm_182 h, hg_19 h, ha_19, hm_183 h, hg_20 h, ha_20, hm_184 h, hs_184, hm_185 h, hs_185, hm_186 h, hs_186, mA_uA, mA_uF, mA_uW, mF_uA, mF_uF, mF_uW, mW_uA, mW_uF, mW_uW, uA_uA, uA_uF, uF_uF, bI0, kv_s, ki_s, kj_s, kd_s, kq_s, kq_n, kq_o, ka_s, kc_r, kc_t, kc0_r, kc0_t, kch_r, kc0h_r, kw_s, kw0_s, kwh_s, kw0h_s, rg_ref, rg_null, rg_rf, ck_t, sel_some, lkn_hd, Option.isSome_some, Bool.true_and, Bool.and_true, okv_i, okv_l, okv_r, okv_n, okv_rf, okv_b, okv_0, okv_1, okv_f, okv_d, c1_i, c1_r, c1_n, c1_rf, c1_f, nI_add, n_mul, n_sub, n_pred, n_eq, n_le, n_lt, n_neN, n_Nne, N_lt, N_le, n_ltN, n_leN, rdI_n, rdJ_n, rdD_n, wrI_n, wrI_z0, wrI_z1, wrI_zb, wrJ_n, wrD_n, aln_s, okn_n, upd_is, upd_ne, Nat.add_zero, Nat.add_sub_cancel, decide_true, decide_false, cond_true, cond_false, if_true, if_false, ite_not, not_true_eq_false, not_false_eq_true, Nat.reduceEqDiff, Nat.reduceAdd, Nat.reduceMul, Nat.reduceSub, Nat.reduceLeDiff, h184, nle hi, e14, h1, bI_f, bI_t, Bool.not_false, Bool.true_or, Bool.and_true]
        · rcases pc (mA M 0 (280 + 7 * l[i] + 3) = nI 1) with h2 | h2 <;> simp (disch := omega) only [x_372_0, x_372_1, x_372_2, x_372_3, x_372_7, x_372_8, x_372_11, x_372_14, x_372_15, x_372_18, x_372_20, x_372_21, x_372_22, x_372_25, x_372_26, x_372_29, x_372_30, x_372_31, x_372_34, x_372_36, x_372_37, x_372_38, x_372_41, x_372_42, x_372_45, x_372_46, x_372_49, x_372_50, x_372_52, x_372_53, x_372_55, x_372_58, x_372_59, x_372_62, x_372_63, x_372_64, x_372_65, x_372_68, x_372_71, x_372_72, e_331, x_331_0, x_331_1, x_331_4, x_331_7, x_331_9, x_331_10, x_331_11, x_331_12, x_331_13, x_331_14, x_331_15, hm_c h, hm_148 h, hg_0 h, ha_0, hm_149 h, hg_1 h, ha_1, hm_150 h, hg_2 h, ha_2, hm_151 h, hg_3 h, ha_3, hm_152 h, hg_4 h, ha_4, hm_153 h, hg_5 h, ha_5, hm_154 h, hg_6 h, ha_6, hm_155 h, hs_155, hm_156 h, hg_7 h, ha_7, hm_157 h, hs_157, hm_158 h, hs_158, hm_159 h, hs_159, hm_160 h, hs_160, hm_161 h, hs_161, hm_162 h, hs_162, hm_163 h, hs_163, hm_164 h, hs_164, hm_165 h, hs_165, hm_166 h, hg_8 h, ha_8, hm_167 h, hg_9 h, ha_9, hm_168 h, hg_10 h, ha_10, hm_169 h, hg_11 h, ha_11, hm_170 h, hg_12 h, ha_12, hm_171 h, hg_13 h, ha_13, hm_172 h, hs_172, hm_173 h, hs_173, hm_174 h, hs_174, hm_175 h, hs_175, hm_176 h, hs_176, hm_177 h, hg_14 h, ha_14, hm_178 h, hg_15 h, ha_15, hm_179 h, hg_16 h, ha_16, hm_180 h, hg_17 h, ha_17, hm_181 h, hg_18 h, ha_18, hm_182 h, hg_19 h, ha_19, hm_183 h, hg_20 h, ha_20, hm_184 h, hs_184, hm_185 h, hs_185, hm_186 h, hs_186, mA_uA, mA_uF, mA_uW, mF_uA, mF_uF, mF_uW, mW_uA, mW_uF, mW_uW, uA_uA, uA_uF, uF_uF, bI0, kv_s, ki_s, kj_s, kd_s, kq_s, kq_n, kq_o, ka_s, kc_r, kc_t, kc0_r, kc0_t, kch_r, kc0h_r, kw_s, kw0_s, kwh_s, kw0h_s, rg_ref, rg_null, rg_rf, ck_t, sel_some, lkn_hd, Option.isSome_some, Bool.true_and, Bool.and_true, okv_i, okv_l, okv_r, okv_n, okv_rf, okv_b, okv_0, okv_1, okv_f, okv_d, c1_i, c1_r, c1_n, c1_rf, c1_f, nI_add, n_mul, n_sub, n_pred, n_eq, n_le, n_lt, n_neN, n_Nne, N_lt, N_le, n_ltN, n_leN, rdI_n, rdJ_n, rdD_n, wrI_n, wrI_z0, wrI_z1, wrI_zb, wrJ_n, wrD_n, aln_s, okn_n, upd_is, upd_ne, Nat.add_zero, Nat.add_sub_cancel, decide_true, decide_false, cond_true, cond_false, if_true, if_false, ite_not, not_true_eq_false, not_false_eq_true, Nat.reduceEqDiff, Nat.reduceAdd, Nat.reduceMul, Nat.reduceSub, Nat.reduceLeDiff, h184, nle hi, e14, h1, h2, bI_t, bI_f, Bool.not_true, Bool.false_or, Bool.and_true, Bool.and_false]
      · simp (disch := omega) only [x_372_0, x_372_1, x_372_2, x_372_3, x_372_7, x_372_8, x_372_11, x_372_14, x_372_15, x_372_18, x_372_20, x_372_21, x_372_22, x_372_25, x_372_26, x_372_29, x_372_30, x_372_31, x_372_34, x_372_36, x_372_37, x_372_38, x_372_41, x_372_42, x_372_45, x_372_46, x_372_49, x_372_50, x_372_52, x_372_53, x_372_55, x_372_58, x_372_59, x_372_62, x_372_63, x_372_64, x_372_65, x_372_68, x_372_71, x_372_72, e_331, x_331_0, x_331_1, x_331_4, x_331_7, x_331_9, x_331_10, x_331_11, x_331_12, x_331_13, x_331_14, x_331_15, hm_c h, hm_148 h, hg_0 h, ha_0, hm_149 h, hg_1 h, ha_1, hm_150 h, hg_2 h, ha_2, hm_151 h, hg_3 h, ha_3, hm_152 h, hg_4 h, ha_4, hm_153 h, hg_5 h, ha_5, hm_154 h, hg_6 h, ha_6, hm_155 h, hs_155, hm_156 h, hg_7 h, ha_7, hm_157 h, hs_157, hm_158 h, hs_158, hm_159 h, hs_159, hm_160 h, hs_160, hm_161 h, hs_161, hm_162 h, hs_162, hm_163 h, hs_163, hm_164 h, hs_164, hm_165 h, hs_165, hm_166 h, hg_8 h, ha_8, hm_167 h, hg_9 h, ha_9, hm_168 h, hg_10 h, ha_10, hm_169 h, hg_11 h, ha_11, hm_170 h, hg_12 h, ha_12, hm_171 h, hg_13 h, ha_13, hm_172 h, hs_172, hm_173 h, hs_173, hm_174 h, hs_174, hm_175 h, hs_175, hm_176 h, hs_176, hm_177 h, hg_14 h, ha_14, hm_178 h, hg_15 h, ha_15, hm_179 h, hg_16 h, ha_16, hm_180 h, hg_17 h, ha_17, hm_181 h, hg_18 h, ha_18, hm_182 h, hg_19 h, ha_19, hm_183 h, hg_20 h, ha_20, hm_184 h, hs_184, hm_185 h, hs_185, hm_186 h, hs_186, mA_uA, mA_uF, mA_uW, mF_uA, mF_uF, mF_uW, mW_uA, mW_uF, mW_uW, uA_uA, uA_uF, uF_uF, bI0, kv_s, ki_s, kj_s, kd_s, kq_s, kq_n, kq_o, ka_s, kc_r, kc_t, kc0_r, kc0_t, kch_r, kc0h_r, kw_s, kw0_s, kwh_s, kw0h_s, rg_ref, rg_null, rg_rf, ck_t, sel_some, lkn_hd, Option.isSome_some, Bool.true_and, Bool.and_true, okv_i, okv_l, okv_r, okv_n, okv_rf, okv_b, okv_0, okv_1, okv_f, okv_d, c1_i, c1_r, c1_n, c1_rf, c1_f, nI_add, n_mul, n_sub, n_pred, n_eq, n_le, n_lt, n_neN, n_Nne, N_lt, N_le, n_ltN, n_leN, rdI_n, rdJ_n, rdD_n, wrI_n, wrI_z0, wrI_z1, wrI_zb, wrJ_n, wrD_n, aln_s, okn_n, upd_is, upd_ne, Nat.add_zero, Nat.add_sub_cancel, decide_true, decide_false, cond_true, cond_false, if_true, if_false, ite_not, not_true_eq_false, not_false_eq_true, Nat.reduceEqDiff, Nat.reduceAdd, Nat.reduceMul, Nat.reduceSub, Nat.reduceLeDiff, h184, nle hi, e14, h1, Bool.false_and, bI_f]
    · refine x_372_5.trans ?_
      simp (disch := omega) only [x_372_0, x_372_1, x_372_2, x_372_3, x_372_7, x_372_8, x_372_11, x_372_14, x_372_15, x_372_18, x_372_20, x_372_21, x_372_22, x_372_25, x_372_26, x_372_29, x_372_30, x_372_31, x_372_34, x_372_36, x_372_37, x_372_38, x_372_41, x_372_42, x_372_45, x_372_46, x_372_49, x_372_50, x_372_52, x_372_53, x_372_55, x_372_58, x_372_59, x_372_62, x_372_63, x_372_64, x_372_65, x_372_68, x_372_71, x_372_72, hm_c h, hm_148 h, hg_0 h, ha_0, hm_149 h, hg_1 h, ha_1, hm_150 h, hg_2 h, ha_2, hm_151 h, hg_3 h, ha_3, hm_152 h, hg_4 h, ha_4, hm_153 h, hg_5 h, ha_5, hm_154 h, hg_6 h, ha_6, hm_155 h, hs_155, hm_156 h, hg_7 h, ha_7, hm_157 h, hs_157, hm_158 h, hs_158, hm_159 h, hs_159, hm_160 h, hs_160, hm_161 h, hs_161, hm_162 h, hs_162, hm_163 h, hs_163, hm_164 h, hs_164, hm_165 h, hs_165, hm_166 h, hg_8 h, ha_8, hm_167 h, hg_9 h, ha_9, hm_168 h, hg_10 h, ha_10, hm_169 h, hg_11 h, ha_11, hm_170 h, hg_12 h, ha_12, hm_171 h, hg_13 h, ha_13, hm_172 h, hs_172, hm_173 h, hs_173, hm_174 h, hs_174, hm_175 h, hs_175, hm_176 h, hs_176, hm_177 h, hg_14 h, ha_14, hm_178 h, hg_15 h, ha_15, hm_179 h, hg_16 h, ha_16, hm_180 h, hg_17 h, ha_17, hm_181 h, hg_18 h, ha_18, hm_182 h, hg_19 h, ha_19, hm_183 h, hg_20 h, ha_20, hm_184 h, hs_184, hm_185 h, hs_185, hm_186 h, hs_186, mA_uA, mA_uF, mA_uW, mF_uA, mF_uF, mF_uW, mW_uA, mW_uF, mW_uW, uA_uA, uA_uF, uF_uF, bI0, kv_s, ki_s, kj_s, kd_s, kq_s, kq_n, kq_o, ka_s, kc_r, kc_t, kc0_r, kc0_t, kch_r, kc0h_r, kw_s, kw0_s, kwh_s, kw0h_s, rg_ref, rg_null, rg_rf, ck_t, sel_some, lkn_hd, Option.isSome_some, Bool.true_and, Bool.and_true, okv_i, okv_l, okv_r, okv_n, okv_rf, okv_b, okv_0, okv_1, okv_f, okv_d, c1_i, c1_r, c1_n, c1_rf, c1_f, nI_add, n_mul, n_sub, n_pred, n_eq, n_le, n_lt, n_neN, n_Nne, N_lt, N_le, n_ltN, n_leN, rdI_n, rdJ_n, rdD_n, wrI_n, wrI_z0, wrI_z1, wrI_zb, wrJ_n, wrD_n, aln_s, okn_n, upd_is, upd_ne, Nat.add_zero, Nat.add_sub_cancel, decide_true, decide_false, cond_true, cond_false, if_true, if_false, ite_not, not_true_eq_false, not_false_eq_true, Nat.reduceEqDiff, Nat.reduceAdd, Nat.reduceMul, Nat.reduceSub, Nat.reduceLeDiff, h184, yle (Nat.le_refl l.length)]
  rw [step]
  congr 5
  rw [tw.loop hn (g := fun x c => c + bI (!b || decide (mA M 0 (280 + 7 * x + 3) = nI 1))) (nI 0) (fun q c hq h1 => by rw [decide_eq_false h1, Bool.false_and, bI_f, show c + nI 0 = c from Int32.add_zero c]) (fun q x hq h1 hx => by
      funext c
      rw [tw.r q x hx, n_cl (by have := hm x (List.mem_of_getElem? hx); omega), decide_eq_true h1, Bool.true_and])]
  rw [fold_cnt, Nat.zero_add]
  cases b
  · rw [if_neg (by decide)]
    congr 1
    exact List.countP_eq_length.mpr (fun x _ => rfl)
  · rw [if_pos rfl]
    rfl
theorem m_374 (h : mO A m0) {l : List Nat} {N n : Nat} {T : Nat → Tp} (tw : TrW M l N T) (hn : n < N) : evG TB (d + 2) 374 [.ref m0, .int (nI n)] (hM A m0 M) = some (.inl (some (.int (nI (misN (T n).ps)))), hM A m0 M) := by
  have hl := tw.len
  obtain ⟨le1, le2⟩ := tw.tm.le
  have s1 : mA M 16 n = nI (pS T n) := (tw.tm.tr n hn).1
  have s2 : mA M 16 (n + 1) = nI (pS T n + (T n).ps.length) := by
    by_cases q : n + 1 = N
    · rw [q, tw.e, ← q]; rfl
    · exact (tw.tm.tr (n + 1) (by omega)).1
  have hp := pS_lt (T := T) (n := N) (k := n) hn
  have key : ∀ k i c, i + k = (T n).ps.length → exG TB (d + 1) 374 9 [some (.ref m0), some (.int (nI n)), some (.int c), some (.int (nI (pS T n + i)))] [] (hM A m0 M) = some (.inl (some (.int (((T n).ps.drop i).foldl (fun c x => c + bI x.2) c))), hM A m0 M) := by
    intro k
    induction k with
    | zero =>
      intro i c e
      have e : i = (T n).ps.length := e
      subst e
      refine x_374_9.trans ?_
      rw [List.drop_length]
      simp (disch := omega) only [x_374_0, x_374_1, x_374_2, x_374_3, x_374_6, x_374_7, x_374_8, x_374_10, x_374_11, x_374_14, x_374_15, x_374_16, x_374_17, x_374_18, x_374_21, x_374_22, x_374_23, x_374_26, x_374_27, x_374_28, x_374_31, x_374_32, x_374_35, x_374_36, x_374_37, x_374_38, x_374_41, x_374_44, x_374_45, hm_c h, hm_148 h, hg_0 h, ha_0, hm_149 h, hg_1 h, ha_1, hm_150 h, hg_2 h, ha_2, hm_151 h, hg_3 h, ha_3, hm_152 h, hg_4 h, ha_4, hm_153 h, hg_5 h, ha_5, hm_154 h, hg_6 h, ha_6, hm_155 h, hs_155, hm_156 h, hg_7 h, ha_7, hm_157 h, hs_157, hm_158 h, hs_158, hm_159 h, hs_159, hm_160 h, hs_160, hm_161 h, hs_161, hm_162 h, hs_162, hm_163 h, hs_163, hm_164 h, hs_164, hm_165 h, hs_165, hm_166 h, hg_8 h, ha_8, hm_167 h, hg_9 h, ha_9, hm_168 h, hg_10 h, ha_10, hm_169 h, hg_11 h, ha_11, hm_170 h, hg_12 h, ha_12, hm_171 h, hg_13 h, ha_13, hm_172 h, hs_172, hm_173 h, hs_173, hm_174 h, hs_174, hm_175 h, hs_175, hm_176 h, hs_176, hm_177 h, hg_14 h, ha_14, hm_178 h, hg_15 h, ha_15, hm_179 h, hg_16 h, ha_16, hm_180 h, hg_17 h, ha_17, hm_181 h, hg_18 h, ha_18, hm_182 h, hg_19 h, ha_19, hm_183 h, hg_20 h, ha_20, hm_184 h, hs_184, hm_185 h, hs_185, hm_186 h, hs_186, mA_uA, mA_uF, mA_uW, mF_uA, mF_uF, mF_uW, mW_uA, mW_uF, mW_uW, uA_uA, uA_uF, uF_uF, bI0, kv_s, ki_s, kj_s, kd_s, kq_s, kq_n, kq_o, ka_s, kc_r, kc_t, kc0_r, kc0_t, kch_r, kc0h_r, kw_s, kw0_s, kwh_s, kw0h_s, rg_ref, rg_null, rg_rf, ck_t, sel_some, lkn_hd, Option.isSome_some, Bool.true_and, Bool.and_true, okv_i, okv_l, okv_r, okv_n, okv_rf, okv_b, okv_0, okv_1, okv_f, okv_d, c1_i, c1_r, c1_n, c1_rf, c1_f, nI_add, n_mul, n_sub, n_pred, n_eq, n_le, n_lt, n_neN, n_Nne, N_lt, N_le, n_ltN, n_leN, rdI_n, rdJ_n, rdD_n, wrI_n, wrI_z0, wrI_z1, wrI_zb, wrJ_n, wrD_n, aln_s, okn_n, upd_is, upd_ne, Nat.add_zero, Nat.add_sub_cancel, decide_true, decide_false, cond_true, cond_false, if_true, if_false, ite_not, not_true_eq_false, not_false_eq_true, Nat.reduceEqDiff, Nat.reduceAdd, Nat.reduceMul, Nat.reduceSub, Nat.reduceLeDiff, s2, yle (Nat.le_refl (pS T n + (T n).ps.length)), List.foldl_nil]
    | succ k ih =>
      intro i c e
      have hi : i < (T n).ps.length := by omega
      have e20 := (tw.tm.pl n i _ hn (List.getElem?_eq_getElem hi)).2
      refine x_374_9.trans ?_
      rw [List.drop_eq_getElem_cons hi, List.foldl_cons]
      have ih' := fun c => ih (i + 1) c (by omega)
      rw [show pS T n + (i + 1) = pS T n + i + 1 from rfl] at ih'
      cases hb : ((T n).ps[i]).2 <;> rw [hb] at e20 <;> simp only [bI_f, bI_t] at e20 <;> simp (disch := omega) only [x_374_0, x_374_1, x_374_2, x_374_3, x_374_6, x_374_7, x_374_8, x_374_10, x_374_11, x_374_14, x_374_15, x_374_16, x_374_17, x_374_18, x_374_21, x_374_22, x_374_23, x_374_26, x_374_27, x_374_28, x_374_31, x_374_32, x_374_35, x_374_36, x_374_37, x_374_38, x_374_41, x_374_44, x_374_45, hm_c h, hm_148 h, hg_0 h, ha_0, hm_149 h, hg_1 h, ha_1, hm_150 h, hg_2 h, ha_2, hm_151 h, hg_3 h, ha_3, hm_152 h, hg_4 h, ha_4, hm_153 h, hg_5 h, ha_5, hm_154 h, hg_6 h, ha_6, hm_155 h, hs_155, hm_156 h, hg_7 h, ha_7, hm_157 h, hs_157, hm_158 h, hs_158, hm_159 h, hs_159, hm_160 h, hs_160, hm_161 h, hs_161, hm_162 h, hs_162, hm_163 h, hs_163, hm_164 h, hs_164, hm_165 h, hs_165, hm_166 h, hg_8 h, ha_8, hm_167 h, hg_9 h, ha_9, hm_168 h, hg_10 h, ha_10, hm_169 h, hg_11 h, ha_11, hm_170 h, hg_12 h, ha_12, hm_171 h, hg_13 h, ha_13, hm_172 h, hs_172, hm_173 h, hs_173, hm_174 h, hs_174, hm_175 h, hs_175, hm_176 h, hs_176, hm_177 h, hg_14 h, ha_14, hm_178 h, hg_15 h, ha_15, hm_179 h, hg_16 h, ha_16, hm_180 h, hg_17 h, ha_17, hm_181 h, hg_18 h, ha_18, hm_182 h, hg_19 h, ha_19, hm_183 h, hg_20 h, ha_20, hm_184 h, hs_184, hm_185 h, hs_185, hm_186 h, hs_186, mA_uA, mA_uF, mA_uW, mF_uA, mF_uF, mF_uW, mW_uA, mW_uF, mW_uW, uA_uA, uA_uF, uF_uF, bI0, kv_s, ki_s, kj_s, kd_s, kq_s, kq_n, kq_o, ka_s, kc_r, kc_t, kc0_r, kc0_t, kch_r, kc0h_r, kw_s, kw0_s, kwh_s, kw0h_s, rg_ref, rg_null, rg_rf, ck_t, sel_some, lkn_hd, Option.isSome_some, Bool.true_and, Bool.and_true, okv_i, okv_l, okv_r, okv_n, okv_rf, okv_b, okv_0, okv_1, okv_f, okv_d, c1_i, c1_r, c1_n, c1_rf, c1_f, nI_add, n_mul, n_sub, n_pred, n_eq, n_le, n_lt, n_neN, n_Nne, N_lt, N_le, n_ltN, n_leN, rdI_n, rdJ_n, rdD_n, wrI_n, wrI_z0, wrI_z1, wrI_zb, wrJ_n, wrD_n, aln_s, okn_n, upd_is, upd_ne, Nat.add_zero, Nat.add_sub_cancel, decide_true, decide_false, cond_true, cond_false, if_true, if_false, ite_not, not_true_eq_false, not_false_eq_true, Nat.reduceEqDiff, Nat.reduceAdd, Nat.reduceMul, Nat.reduceSub, Nat.reduceLeDiff, s2, nle (show pS T n + i < pS T n + (T n).ps.length by omega), e20, hb, bI_f, bI_t, ih']
  have k0 := key _ 0 (nI 0) (Nat.zero_add _)
  rw [List.drop_zero, Nat.add_zero, fold_cnt, Nat.zero_add] at k0
  refine Eq.trans ?_ k0
  simp (disch := omega) only [e_374, x_374_0, x_374_1, x_374_2, x_374_3, x_374_6, x_374_7, x_374_8, hm_c h, hm_148 h, hg_0 h, ha_0, hm_149 h, hg_1 h, ha_1, hm_150 h, hg_2 h, ha_2, hm_151 h, hg_3 h, ha_3, hm_152 h, hg_4 h, ha_4, hm_153 h, hg_5 h, ha_5, hm_154 h, hg_6 h, ha_6, hm_155 h, hs_155, hm_156 h, hg_7 h, ha_7, hm_157 h, hs_157, hm_158 h, hs_158, hm_159 h, hs_159, hm_160 h, hs_160, hm_161 h, hs_161, hm_162 h, hs_162, hm_163 h, hs_163, hm_164 h, hs_164, hm_165 h, hs_165, hm_166 h, hg_8 h, ha_8, hm_167 h, hg_9 h, ha_9, hm_168 h, hg_10 h, ha_10, hm_169 h, hg_11 h, ha_11, hm_170 h, hg_12 h, ha_12, hm_171 h, hg_13 h, ha_13, hm_172 h, hs_172, hm_173 h, hs_173, hm_174 h, hs_174, hm_175 h, hs_175, hm_176 h, hs_176, hm_177 h, hg_14 h, ha_14, hm_178 h, hg_15 h, ha_15, hm_179 h, hg_16 h, ha_16, hm_180 h, hg_17 h, ha_17, hm_181 h, hg_18 h, ha_18, hm_182 h, hg_19 h, ha_19, hm_183 h, hg_20 h, ha_20, hm_184 h, hs_184, hm_185 h, hs_185, hm_186 h, hs_186, mA_uA, mA_uF, mA_uW, mF_uA, mF_uF, mF_uW, mW_uA, mW_uF, mW_uW, uA_uA, uA_uF, uF_uF, bI0, kv_s, ki_s, kj_s, kd_s, kq_s, kq_n, kq_o, ka_s, kc_r, kc_t, kc0_r, kc0_t, kch_r, kc0h_r, kw_s, kw0_s, kwh_s, kw0h_s, rg_ref, rg_null, rg_rf, ck_t, sel_some, lkn_hd, Option.isSome_some, Bool.true_and, Bool.and_true, okv_i, okv_l, okv_r, okv_n, okv_rf, okv_b, okv_0, okv_1, okv_f, okv_d, c1_i, c1_r, c1_n, c1_rf, c1_f, nI_add, n_mul, n_sub, n_pred, n_eq, n_le, n_lt, n_neN, n_Nne, N_lt, N_le, n_ltN, n_leN, rdI_n, rdJ_n, rdD_n, wrI_n, wrI_z0, wrI_z1, wrI_zb, wrJ_n, wrD_n, aln_s, okn_n, upd_is, upd_ne, Nat.add_zero, Nat.add_sub_cancel, decide_true, decide_false, cond_true, cond_false, if_true, if_false, ite_not, not_true_eq_false, not_false_eq_true, Nat.reduceEqDiff, Nat.reduceAdd, Nat.reduceMul, Nat.reduceSub, Nat.reduceLeDiff, s1]
end
