/-! the model's constructor -/
section
variable {A : Hp} {m0 d : Nat} {M : Ms} {w : Lb}
theorem hM_of {H : Hp} (h1 : ∀ f, H.1 f m0 = mfd m0 M f) (h2 : ∀ k, k < 21 → H.2.2.1 (m0 + 1 + k) = some (mTg k, (mSz k, .inl (mA M k)))) : H = hM H m0 M := by
  unfold hM
  refine Prod.ext ?_ (Prod.ext rfl (Prod.ext ?_ rfl))
  · funext f q
    dsimp only
    by_cases h : q = m0
    · rw [if_pos h, h]; exact h1 f
    · rw [if_neg h]
  · funext q
    dsimp only
    by_cases h : m0 < q ∧ q ≤ m0 + 21
    · rw [if_pos h]
      have := h2 (q - m0 - 1) (by omega)
      rw [show m0 + 1 + (q - m0 - 1) = q from by omega] at this
      exact this
    · rw [if_neg h]
/-- the heap while the constructor runs -/
def kH (A : Hp) (m0 j s : Nat) (fm : Nat → Option Value) (am : Nat → Option ArC) : Hp :=
  (fun f q => if q = m0 then fm f else if m0 < q ∧ q ≤ m0 + j then none else A.1 f q, (fun q => if m0 < q ∧ q ≤ m0 + j then none else A.2.1 q, (fun q => if m0 < q ∧ q ≤ m0 + j then am (q - m0 - 1) else A.2.2.1 q, (m0 + (j + 1), (s, A.2.2.2.2.2)))))
def upo {α : Type} (g : Nat → Option α) (k : Nat) (x : α) : Nat → Option α := fun i => if i = k then some x else g i
theorem upo_is {α : Type} {g : Nat → Option α} {k : Nat} {x : α} : upo g k x k = some x := if_pos rfl
theorem upo_ne {α : Type} {g : Nat → Option α} {k j : Nat} {x : α} (h : j ≠ k) : upo g k x j = g j := if_neg h
theorem upo_up {α : Type} {g : Nat → Option α} {k : Nat} {x y : α} : upo (upo g k x) k y = upo g k y := by
  funext i
  unfold upo
  by_cases h : i = k
  · rw [if_pos h, if_pos h]
  · rw [if_neg h, if_neg h, if_neg h]
variable {j s n k : Nat} {fm : Nat → Option Value} {am : Nat → Option ArC} {c : ArC} {v : Value} {f : Nat}
theorem kH_nx : nx (kH A m0 j s fm am) = m0 + (j + 1) := rfl
theorem kH_na : newa (kH A m0 j s fm am) c = kH A m0 (j + 1) (s + c.2.1) fm (upo am j c) := by
  unfold newa kH upo
  refine Prod.ext ?_ (Prod.ext ?_ (Prod.ext ?_ (Prod.ext ?_ rfl)))
  · funext f q
    dsimp only [nx]
    grind
  · funext q
    dsimp only [nx]
    grind
  · funext q
    dsimp only [nx]
    grind
  · rfl
theorem kH_sf : setf (kH A m0 j s fm am) m0 f v = kH A m0 j s (upo fm f v) am := by
  unfold setf kH upo
  refine Prod.ext ?_ rfl
  funext g q
  dsimp only
  grind
theorem kH_sa (h1 : 0 < n) (h2 : n ≤ j) : seta (kH A m0 j s fm am) (m0 + n) c = kH A m0 j s fm (upo am (n - 1) c) := by
  unfold seta kH upo
  refine Prod.ext rfl (Prod.ext rfl (Prod.ext ?_ rfl))
  funext q
  dsimp only
  grind
theorem kH_gf : gf (kH A m0 j s fm am) m0 f = fm f := by
  unfold gf
  rw [if_pos (by rw [kH_nx]; omega)]
  exact if_pos rfl
theorem kH_ga (h1 : 0 < n) (h2 : n ≤ j) : ga (kH A m0 j s fm am) (m0 + n) = am (n - 1) := by
  unfold ga
  rw [if_pos (by rw [kH_nx]; omega)]
  show (if m0 < m0 + n ∧ m0 + n ≤ m0 + j then am (m0 + n - m0 - 1) else _) = _
  rw [if_pos (by omega), show m0 + n - m0 - 1 = n - 1 from by omega]
theorem kH_gc (h : gc A m0 = some 30) : gc (kH A m0 j s fm am) m0 = some 30 := by
  have h2 := gc_spec h
  unfold gc
  rw [if_pos (by rw [kH_nx]; omega)]
  show (if m0 < m0 ∧ m0 ≤ m0 + j then none else A.2.1 m0) = some 30
  rw [if_neg (by omega)]
  exact h2.2
theorem kH_0 (hx : nx A = m0 + 1) : A = kH A m0 0 (su A) (fun f => A.1 f m0) (fun _ => none) := by
  unfold kH
  refine Prod.ext ?_ (Prod.ext ?_ (Prod.ext ?_ (Prod.ext hx rfl)))
  · funext f q
    dsimp only
    grind
  · funext q
    dsimp only
    grind
  · funext q
    dsimp only
    grind
def fv0 (k : Nat) : Nat := if k = 0 then 120 else if k = 1 then 5 else if k = 2 then 2 else if k = 3 then 80 else if k = 4 then 70 else if k = 5 then 90 else if k = 6 then 25 else 150
def z32 : Nat → Int32 := fun _ => 0
def mI4 : Nat → Int32 := upd (upd (upd (upd (upd (upd (upd (upd z32 0 (nI 120)) 1 (nI 5)) 2 (nI 2)) 3 (nI 80)) 4 (nI 70)) 5 (nI 90)) 6 (nI 25)) 7 (nI 150)
def mI5 : Nat → Int32 := upd (upd (upd (upd (upd (upd (upd (upd z32 0 (nI 1)) 1 (nI 0)) 2 (nI 0)) 3 (nI 50)) 4 (nI 0)) 5 (nI 0)) 6 (nI 0)) 7 (nI 0)
def mI6 : Nat → Int32 := upd (upd (upd (upd (upd (upd (upd (upd z32 0 (nI 600)) 1 (nI 60)) 2 (nI 20)) 3 (nI 100)) 4 (nI 100)) 5 (nI 100)) 6 (nI 999)) 7 (nI 999)
/-- the model as it begins -/
def mI0 : Ms := (fun k => if k = 4 then mI4 else if k = 5 then mI5 else if k = 6 then mI6 else z32, (fun f => if f = 164 then nN else nI 0, 0))
def mI : Ms := uA mI0 0 (cpyR (mA mI0 4) (zrR (mA mI0 0) 3100) 0 0 8)
theorem dv30_s (h1 : 148 ≤ f) (h2 : f < 187) : (dv30 f).isSome = true := by
  obtain ⟨i, hi⟩ : ∃ i, f = 148 + i := ⟨f - 148, by omega⟩
  subst hi
  have h3 : i < 39 := by omega
  clear h1 h2
  match i, h3 with
  | 0, _ => rfl
  | 1, _ => rfl
  | 2, _ => rfl
  | 3, _ => rfl
  | 4, _ => rfl
  | 5, _ => rfl
  | 6, _ => rfl
  | 7, _ => rfl
  | 8, _ => rfl
  | 9, _ => rfl
  | 10, _ => rfl
  | 11, _ => rfl
  | 12, _ => rfl
  | 13, _ => rfl
  | 14, _ => rfl
  | 15, _ => rfl
  | 16, _ => rfl
  | 17, _ => rfl
  | 18, _ => rfl
  | 19, _ => rfl
  | 20, _ => rfl
  | 21, _ => rfl
  | 22, _ => rfl
  | 23, _ => rfl
  | 24, _ => rfl
  | 25, _ => rfl
  | 26, _ => rfl
  | 27, _ => rfl
  | 28, _ => rfl
  | 29, _ => rfl
  | 30, _ => rfl
  | 31, _ => rfl
  | 32, _ => rfl
  | 33, _ => rfl
  | 34, _ => rfl
  | 35, _ => rfl
  | 36, _ => rfl
  | 37, _ => rfl
  | 38, _ => rfl
  | i + 39, h => exact absurd h (by omega)
theorem dv30_n (h : f < 148 ∨ 187 ≤ f) : dv30 f = none := by
  unfold dv30
  split
  all_goals first | omega | rfl
theorem mfd_n {M : Ms} (h : f < 148 ∨ 187 ≤ f) : mfd m0 M f = none := by
  have : mK f = 0 := by
    unfold mK
    rcases h with h | h
    · rw [if_pos h]
    · rw [if_neg (by omega), List.getD_eq_getElem?_getD, List.getElem?_eq_none (by show 39 ≤ _; omega)]
      rfl
  unfold mfd
  rw [this]
  rfl
def kF (m0 : Nat) : Nat → Option Value := upo (upo (upo (upo (upo (upo (upo (upo (upo (upo (upo (upo (upo (upo (upo (upo (upo (upo (upo (upo (upo (upo (dv30) 148 (.ref (m0 + 1))) 149 (.ref (m0 + 2))) 150 (.ref (m0 + 3))) 151 (.ref (m0 + 4))) 152 (.ref (m0 + 5))) 153 (.ref (m0 + 6))) 154 (.ref (m0 + 7))) 156 (.ref (m0 + 8))) 164 (.int nN)) 166 (.ref (m0 + 9))) 167 (.ref (m0 + 10))) 168 (.ref (m0 + 11))) 169 (.ref (m0 + 12))) 170 (.ref (m0 + 13))) 171 (.ref (m0 + 14))) 177 (.ref (m0 + 15))) 178 (.ref (m0 + 16))) 179 (.ref (m0 + 17))) 180 (.ref (m0 + 18))) 181 (.ref (m0 + 19))) 182 (.ref (m0 + 20))) 183 (.ref (m0 + 21))
def kA : Nat → Option ArC := upo (upo (upo (upo (upo (upo (upo (upo (upo (upo (upo (upo (upo (upo (upo (upo (upo (upo (upo (upo (upo (fun _ => none) 0 (0, (3100, .inl z32))) 1 (0, (3100, .inl z32))) 2 (0, (6200, .inl z32))) 3 (2, (2, .inl z32))) 4 (0, (8, .inl mI4))) 5 (0, (8, .inl mI5))) 6 (0, (8, .inl mI6))) 7 (0, (700, .inl z32))) 8 (0, (7, .inl z32))) 9 (0, (7, .inl z32))) 10 (0, (7, .inl z32))) 11 (0, (7, .inl z32))) 12 (0, (7, .inl z32))) 13 (0, (7, .inl z32))) 14 (0, (120, .inl z32))) 15 (0, (120, .inl z32))) 16 (0, (121, .inl z32))) 17 (0, (120, .inl z32))) 18 (0, (120, .inl z32))) 19 (0, (900, .inl z32))) 20 (2, (900, .inl z32))
theorem kF_m : kF m0 f = mfd m0 mI0 f := by
  by_cases h1 : 148 ≤ f
  · by_cases h2 : f < 187
    · obtain ⟨i, hi⟩ : ∃ i, f = 148 + i := ⟨f - 148, by omega⟩
      subst hi
      have h3 : i < 39 := by omega
      clear h1 h2
      match i, h3 with
      | 0, _ => rfl
      | 1, _ => rfl
      | 2, _ => rfl
      | 3, _ => rfl
      | 4, _ => rfl
      | 5, _ => rfl
      | 6, _ => rfl
      | 7, _ => rfl
      | 8, _ => rfl
      | 9, _ => rfl
      | 10, _ => rfl
      | 11, _ => rfl
      | 12, _ => rfl
      | 13, _ => rfl
      | 14, _ => rfl
      | 15, _ => rfl
      | 16, _ => rfl
      | 17, _ => rfl
      | 18, _ => rfl
      | 19, _ => rfl
      | 20, _ => rfl
      | 21, _ => rfl
      | 22, _ => rfl
      | 23, _ => rfl
      | 24, _ => rfl
      | 25, _ => rfl
      | 26, _ => rfl
      | 27, _ => rfl
      | 28, _ => rfl
      | 29, _ => rfl
      | 30, _ => rfl
      | 31, _ => rfl
      | 32, _ => rfl
      | 33, _ => rfl
      | 34, _ => rfl
      | 35, _ => rfl
      | 36, _ => rfl
      | 37, _ => rfl
      | 38, _ => rfl
      | i + 39, h => exact absurd h (by omega)
    · rw [mfd_n (Or.inr (by omega))]
      unfold kF
      simp (disch := omega) only [upo_ne]
      exact dv30_n (Or.inr (by omega))
  · rw [mfd_n (Or.inl (by omega))]
    unfold kF
    simp (disch := omega) only [upo_ne]
    exact dv30_n (Or.inl (by omega))
theorem kA_m {k : Nat} (h : k < 21) : kA k = some (mTg k, (mSz k, .inl (mA mI0 k))) := by
  match k, h with
  | 0, _ => rfl
  | 1, _ => rfl
  | 2, _ => rfl
  | 3, _ => rfl
  | 4, _ => rfl
  | 5, _ => rfl
  | 6, _ => rfl
  | 7, _ => rfl
  | 8, _ => rfl
  | 9, _ => rfl
  | 10, _ => rfl
  | 11, _ => rfl
  | 12, _ => rfl
  | 13, _ => rfl
  | 14, _ => rfl
  | 15, _ => rfl
  | 16, _ => rfl
  | 17, _ => rfl
  | 18, _ => rfl
  | 19, _ => rfl
  | 20, _ => rfl
  | k + 21, h => exact absurd h (by omega)
theorem m_287 (hc : gc A m0 = some 30) (hx : nx A = m0 + 1) (hf : ∀ f, A.1 f m0 = dv30 f) {l : Nat} {X : Nat → Prop} (hX : X (w m0)) : ∃ H', evG TB (d + 3) 287 [.ref m0] A = some (.inl none, hM H' m0 mI) ∧ mO H' m0 ∧ nx H' = m0 + 22 ∧ Fr A w (hM H' m0 mI) (fun q => if m0 < q ∧ q ≤ m0 + 21 then l else w q) X 21 16000 := by
  have k := fun j s fm am => kH_gc (A := A) (m0 := m0) (j := j) (s := s) (fm := fm) (am := am) hc
  have hA : A = kH A m0 0 (su A) dv30 (fun _ => none) := by
    have e : (fun f => A.1 f m0) = dv30 := funext hf
    have := kH_0 hx
    rw [e] at this
    exact this
  have hH : ∀ s, kH A m0 21 s (kF m0) kA = hM (kH A m0 21 s (kF m0) kA) m0 mI0 := fun s => hM_of (fun f => by
      show (if m0 = m0 then kF m0 f else _) = _
      rw [if_pos rfl]; exact kF_m) (fun k hk => by
      show (if m0 < m0 + 1 + k ∧ m0 + 1 + k ≤ m0 + 21 then kA (m0 + 1 + k - m0 - 1) else _) = _
      rw [if_pos (by omega), show m0 + 1 + k - m0 - 1 = k from by omega]
      exact kA_m hk)
  have ho : ∀ s, mO (kH A m0 21 s (kF m0) kA) m0 := fun s => ⟨Nat.le_refl _, by
    show (if m0 < m0 ∧ m0 ≤ m0 + 21 then none else A.2.1 m0) = some 30
    rw [if_neg (by omega)]
    exact (gc_spec hc).2⟩
  have q288 := fun s => m_288 (d := d + 1) (M := mI0) (ho s)
  have run : ∃ s, s = su A + 15569 ∧ evG TB (d + 3) 287 [.ref m0] (kH A m0 0 (su A) dv30 (fun _ => none)) = some (.inl none, hM (kH A m0 21 s (kF m0) kA) m0 mI) := by
    have e0 : ∀ s r, exG TB (d + 2) 287 303 [some (.ref m0)] [] (kH A m0 21 s (kF m0) kA) = r → r = some (.inl none, hM (kH A m0 21 s (kF m0) kA) m0 mI) := fun s r hr => by
      rw [← hr]
      refine (congrArg (fun H => exG TB (d + 2) 287 303 [some (.ref m0)] [] H) (hH s)).trans ?_
      simp (disch := omega) only [x_287_303, x_287_304, x_287_307, kv_s, ki_s, kj_s, kd_s, kq_s, kq_n, kq_o, ka_s, kc_r, kc_t, kc0_r, kc0_t, kch_r, kc0h_r, kw_s, kw0_s, kwh_s, kw0h_s, rg_ref, rg_null, rg_rf, ck_t, sel_some, lkn_hd, Option.isSome_some, Bool.true_and, Bool.and_true, okv_i, okv_l, okv_r, okv_n, okv_rf, okv_b, okv_0, okv_1, okv_f, okv_d, c1_i, c1_r, c1_n, c1_rf, c1_f, nI_add, n_mul, n_sub, n_pred, n_eq, n_le, n_lt, n_neN, n_Nne, N_lt, N_le, n_ltN, n_leN, rdI_n, rdJ_n, rdD_n, wrI_n, wrI_z0, wrI_z1, wrI_zb, wrJ_n, wrD_n, aln_s, okn_n, upd_is, upd_ne, Nat.add_zero, Nat.add_sub_cancel, decide_true, decide_false, cond_true, cond_false, if_true, if_false, ite_not, not_true_eq_false, not_false_eq_true, Nat.reduceEqDiff, Nat.reduceAdd, Nat.reduceMul, Nat.reduceSub, Nat.reduceLeDiff, hm_c (ho s), q288]
      rfl
    refine ⟨su A + 3100 + 3100 + 6200 + 2 + 8 + 8 + 8 + 700 + 7 + 7 + 7 + 7 + 7 + 7 + 120 + 120 + 121 + 120 + 120 + 900 + 900, by omega, e0 _ _ (Eq.symm ?_)⟩
    · unfold kF kA mI4 mI5 mI6 z32
      simp (maxSteps := 3000000) (disch := omega) only [e_287, x_287_0, x_287_1, x_287_4, x_287_5, x_287_8, x_287_10, x_287_13, x_287_14, x_287_17, x_287_19, x_287_22, x_287_23, x_287_26, x_287_28, x_287_31, x_287_32, x_287_33, x_287_35, x_287_38, x_287_39, x_287_41, x_287_43, x_287_44, x_287_45, x_287_47, x_287_48, x_287_49, x_287_50, x_287_51, x_287_52, x_287_53, x_287_54, x_287_55, x_287_56, x_287_57, x_287_58, x_287_60, x_287_61, x_287_62, x_287_63, x_287_65, x_287_66, x_287_67, x_287_68, x_287_70, x_287_71, x_287_72, x_287_74, x_287_76, x_287_77, x_287_78, x_287_80, x_287_83, x_287_84, x_287_87, x_287_88, x_287_90, x_287_92, x_287_93, x_287_94, x_287_95, x_287_96, x_287_97, x_287_98, x_287_99, x_287_100, x_287_101, x_287_102, x_287_103, x_287_104, x_287_105, x_287_106, x_287_108, x_287_109, x_287_110, x_287_111, x_287_112, x_287_113, x_287_114, x_287_115, x_287_116, x_287_117, x_287_118, x_287_120, x_287_121, x_287_122, x_287_123, x_287_125, x_287_126, x_287_127, x_287_130, x_287_131, x_287_133, x_287_135, x_287_136, x_287_137, x_287_140, x_287_141, x_287_142, x_287_143, x_287_145, x_287_146, x_287_147, x_287_148, x_287_150, x_287_151, x_287_152, x_287_153, x_287_155, x_287_156, x_287_157, x_287_158, x_287_160, x_287_161, x_287_162, x_287_163, x_287_165, x_287_166, x_287_167, x_287_169, x_287_172, x_287_173, x_287_174, x_287_176, x_287_179, x_287_180, x_287_183, x_287_184, x_287_187, x_287_189, x_287_192, x_287_193, x_287_194, x_287_197, x_287_198, x_287_200, x_287_202, x_287_205, x_287_206, x_287_208, x_287_210, x_287_213, x_287_214, x_287_216, x_287_218, x_287_221, x_287_222, x_287_224, x_287_226, x_287_229, x_287_230, x_287_232, x_287_234, x_287_237, x_287_238, x_287_240, x_287_242, x_287_245, x_287_246, x_287_248, x_287_250, x_287_253, x_287_254, x_287_256, x_287_258, x_287_261, x_287_262, x_287_264, x_287_266, x_287_269, x_287_270, x_287_272, x_287_274, x_287_277, x_287_278, x_287_280, x_287_282, x_287_285, x_287_286, x_287_289, x_287_291, x_287_294, x_287_295, x_287_298, x_287_300, kv_s, ki_s, kj_s, kd_s, kq_s, kq_n, kq_o, ka_s, kc_r, kc_t, kc0_r, kc0_t, kch_r, kc0h_r, kw_s, kw0_s, kwh_s, kw0h_s, rg_ref, rg_null, rg_rf, ck_t, sel_some, lkn_hd, Option.isSome_some, Bool.true_and, Bool.and_true, okv_i, okv_l, okv_r, okv_n, okv_rf, okv_b, okv_0, okv_1, okv_f, okv_d, c1_i, c1_r, c1_n, c1_rf, c1_f, nI_add, n_mul, n_sub, n_pred, n_eq, n_le, n_lt, n_neN, n_Nne, N_lt, N_le, n_ltN, n_leN, rdI_n, rdJ_n, rdD_n, wrI_n, wrI_z0, wrI_z1, wrI_zb, wrJ_n, wrD_n, aln_s, okn_n, upd_is, upd_ne, Nat.add_zero, Nat.add_sub_cancel, decide_true, decide_false, cond_true, cond_false, if_true, if_false, ite_not, not_true_eq_false, not_false_eq_true, Nat.reduceEqDiff, Nat.reduceAdd, Nat.reduceMul, Nat.reduceSub, Nat.reduceLeDiff, kH_nx, kH_na, kH_sf, kH_sa, kH_gf, kH_ga, k, upo_is, upo_ne, upo_up, dv30_s, n_cl, zar_0, zar_1, zar_2, Option.isSome_some]
  obtain ⟨s, hs, r⟩ := run
  refine ⟨kH A m0 21 s (kF m0) kA, (congrArg (fun H => evG TB (d + 3) 287 [.ref m0] H) hA).trans r, ho s, rfl, ⟨rfl, by rw [hx]; exact Nat.le_add_right _ 21, by rw [hx]; exact Nat.le_refl _, by show su A ≤ s; omega, by show s ≤ _; omega, fun q hq => ?_, fun q hq hX' => ?_⟩⟩
  · show (if m0 < q ∧ q ≤ m0 + 21 then none else A.2.1 q) = _
    rw [if_neg (by omega)]
  · have hq0 : q ≠ m0 := fun e => hX' (by rw [e]; exact hX)
    refine ⟨if_neg (by omega), fun f => ?_, ?_⟩
    · show (if q = m0 then _ else (if q = m0 then _ else if m0 < q ∧ q ≤ m0 + 21 then none else A.1 f q)) = _
      rw [if_neg hq0, if_neg hq0, if_neg (by omega)]
    · show (if m0 < q ∧ q ≤ m0 + 21 then _ else (if m0 < q ∧ q ≤ m0 + 21 then _ else A.2.2.1 q)) = _
      rw [if_neg (by omega), if_neg (by omega)]
end
