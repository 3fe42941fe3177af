/-! the component's search: Search.go -/
section
variable {A A' : Hp} {w w' : Lb} {X : Nat → Prop} {y ci q to a1 a2 b d c s G R u h r t : Nat} {K : Nat → Prop} {f1 f2 g f1' f2' : Nat → Int32} {S : Nat → Int32} {tk : Tk} {mi tl ms mc mh x : Int32}
theorem SrO.mw (h : SrO A w y ci q to a1 a2 K f1 f2 g) : w a1 = 7 := h.w1
/-- what go does with f roads more to go -/
def GoP (tk : Tk) (ci : Nat) (K : Nat → Prop) (S : Nat → Int32) (w : Lb) (y q to a1 a2 b d G f : Nat) : Prop :=
  ∀ (s : Nat) (A : Hp) (wy f1 f2 g : Nat → Int32) (mi tl mc ms : Int32) (u h : Nat), s + f = 6 → SrO A w y ci q to a1 a2 K f1 f2 g → WNt A w b q S → (∀ j, j ≤ s → f1 j = wy j) → UsO u wy s → wy s = nI h → h < 12 → h ≠ to → ms = mc + (if s = 0 then nI 0 else S (15 + h)) →
    ∃ A' f1', evG TB (d + f + 5) 229 [.ref y, .int (nI s), .int (nI u), .int mi, .int tl, .int mc] A = some (.inl none, A') ∧ SrO A' w y ci q to a1 a2 K f1' (dfs S G (cS S 9) to (tkN tk) f s wy mi tl ms (g, f2)).2 (dfs S G (cS S 9) to (tkN tk) f s wy mi tl ms (g, f2)).1 ∧ (∀ j, j ≤ s → f1' j = wy j) ∧ Fr A w A' w (fun z => z = 7) 0 0
/-- the round of a gantry -/
def goB {α : Type} (S : Nat → Int32) (G R to : Nat) (nt : Nat → (Nat → Int32) → Int32 → Int32 → Int32 → α → α) (f s : Nat) (wy : Nat → Int32) (mi tl ms : Int32) (t : Nat) (a : α) : α := if onR wy (nI t) 0 (s + 1) = true then a else match rdO S (wy s) (nI t) 0 R with
    | none => a
    | some r => if t = to then nt (s + 1) (upd wy (s + 1) (nI t)) (mi + S (27 + 4 * r + 2)) (tl + S (27 + 4 * r + 3)) ms a
      else dfs S G R to nt f (s + 1) (upd wy (s + 1) (nI t)) (mi + S (27 + 4 * r + 2)) (tl + S (27 + 4 * r + 3)) (ms + S (15 + t)) a
theorem dfs_B {α : Type} {S : Nat → Int32} {G R to : Nat} {nt : Nat → (Nat → Int32) → Int32 → Int32 → Int32 → α → α} {f s : Nat} {wy : Nat → Int32} {mi tl ms : Int32} {a : α} : dfs S G R to nt (f + 1) s wy mi tl ms a = lpF (goB S G R to nt f s wy mi tl ms) 0 G a := rfl
theorem RdO.un {o : Option Nat} {j : Nat} {a a' : Int32} (hR : cS S 9 ≤ 40) (h : RdO A w S o (rdF S a a' 0 (cS S 9)) j) : (o = none ∧ rdO S a a' 0 (cS S 9) = none) ∨ ∃ z r, o = some z ∧ rdO S a a' 0 (cS S 9) = some r ∧ RoO A w z j (S (27 + 4 * r + 2)) (S (27 + 4 * r + 3)) := by
  have e := rdF_O S a a' (cS S 9) 0
  cases hr : rdO S a a' 0 (cS S 9) with
  | none =>
    rw [hr] at e
    cases o with
    | none => exact Or.inl ⟨rfl, rfl⟩
    | some z =>
      obtain ⟨r, h1, h2, h3⟩ := h
      rw [e] at h1
      have h1 : nI r = nN := h1.symm
      rw [n_neN (by omega)] at h1
      exact h1.elim
  | some r' =>
    rw [hr] at e
    have hl := (rdO_lt hr).2
    cases o with
    | none =>
      have h : rdF S a a' 0 (cS S 9) = nN := h
      rw [e] at h
      have h : nI r' = nN := h
      rw [n_neN (by omega)] at h
      exact h.elim
    | some z =>
      obtain ⟨r, h1, h2, h3⟩ := h
      rw [e] at h1
      have h1 : nI r' = nI r := h1
      have := (nI_eq (by omega) (by omega)).mp h1
      subst this
      exact Or.inr ⟨z, r', rfl, rfl, h3⟩
theorem go_step (hk : TkS ci K tk) (hci : ci = 15 ∨ ci = 16) (hto : to < 12) (hb : 0 < b) (hG : S 8 = nI G) (hG2 : G ≤ 12) (hR : cS S 9 ≤ 40) {f s : Nat} (hf : s + (f + 1) = 6) (ih : GoP tk ci K S w y q to a1 a2 b d G f)
    {A : Hp} {wy f1 f2 g : Nat → Int32} {o : Option Value} (sr : SrO A w y ci q to a1 a2 K f1 f2 g) (nt : WNt A w b q S) (hw : ∀ j, j ≤ s → f1 j = wy j) (us : UsO u wy s) (hh : wy s = nI h) (h12 : h < 12) (hms : ms = mc + mh) (ht : t < G) :
    ∃ A' f1' o', exG TB (d + (f + 1) + 4) 229 75 [some (.ref y), some (.int (nI s)), some (.int (nI u)), some (.int mi), some (.int tl), some (.int mc), some (.int (nI h)), some (.int mh), some (.int (nI t)), o] [] A
      = exG TB (d + (f + 1) + 4) 229 75 [some (.ref y), some (.int (nI s)), some (.int (nI u)), some (.int mi), some (.int tl), some (.int mc), some (.int (nI h)), some (.int mh), some (.int (nI (t + 1))), o'] [] A'
      ∧ SrO A' w y ci q to a1 a2 K f1' (goB S G (cS S 9) to (tkN tk) f s wy mi tl ms t (g, f2)).2 (goB S G (cS S 9) to (tkN tk) f s wy mi tl ms t (g, f2)).1 ∧ (∀ j, j ≤ s → f1' j = wy j) ∧ Fr A w A' w (fun z => z = 7) 0 0 := by
  have f77 := sr.f77
  have f79 := sr.f79
  have hc := sr.c
  have q15 := nt.gn
  rw [hG] at q15
  have qc := nt.c
  have h6 : s < 6 := by omega
  have ht12 : t < 12 := by omega
  have hu := us.1
  obtain ⟨oo, e1, rd⟩ := m_284 (d := d + f + 4) nt h12 ht12
  rw [← hh] at rd
  unfold goB
  have hD : d + (f + 1) + 4 = d + f + 5 := by omega
  rw [hD]
  rcases rd.un hR with ⟨rfl, er⟩ | ⟨z, r, rfl, er, ro⟩
  · refine ⟨A, f1, some .null, ?_, ?_, hw, Fr.rf⟩
    · rw [va_rf_n] at e1
      refine x_229_75.trans ?_
      simp (disch := first | omega | (simp (disch := omega) only [nx_setf, nx_seta, nx_newo, nx_newa]; omega)) only [x_229_77, x_229_78, x_229_81, x_229_84, x_229_87, x_229_88, x_229_90, x_229_93, x_229_94, x_229_97, x_229_99, x_229_101, x_229_104, x_229_106, x_229_108n, x_229_108r, x_229_111, x_229_112, x_229_114, x_229_115, x_229_116, x_229_117, x_229_120, x_229_121, x_229_124, x_229_125, x_229_126, x_229_127, x_229_129, x_229_130, x_229_131, x_229_132, x_229_133, x_229_134, x_229_135, x_229_136, x_229_138, x_229_139, x_229_140, x_229_141, x_229_143, x_229_146, x_229_147, x_229_149, x_229_151, x_229_154, x_229_155, x_229_157, x_229_159, x_229_160, x_229_163, x_229_166, kv_s, ki_s, kj_s, kd_s, kq_s, kq_n, kq_o, ka_s, kc_r, kc_t, kc0_r, kc0_t, kch_r, kc0h_r, kw_s, kw0_s, kwh_s, kw0h_s, rg_ref, rg_null, rg_rf, ck_t, sel_some, lkn_hd, Option.isSome_some, Bool.true_and, Bool.and_true, okv_i, okv_l, okv_r, okv_n, okv_rf, okv_b, okv_0, okv_1, okv_f, okv_d, c1_i, c1_r, c1_n, c1_rf, c1_f, nI_add, n_mul, n_sub, n_pred, n_eq, n_le, n_lt, n_neN, n_Nne, N_lt, N_le, n_ltN, n_leN, rdI_n, rdJ_n, rdD_n, wrI_n, wrI_z0, wrI_z1, wrI_zb, wrJ_n, wrD_n, aln_s, okn_n, upd_is, upd_ne, Nat.add_zero, Nat.add_sub_cancel, decide_true, decide_false, cond_true, cond_false, if_true, if_false, ite_not, not_true_eq_false, not_false_eq_true, Nat.reduceEqDiff, Nat.reduceAdd, Nat.reduceMul, Nat.reduceSub, Nat.reduceLeDiff, gf_setf_ne, gf_setf_p, gf_setf_is, va_rf_s, va_rf_n, gf_seta, ga_setf, gc_setf, gc_seta, ga_seta_ne, ga_seta_eq, gf_new, gc_new, gf_newo_o, gc_newo_o, ga_newo_o, ga_new, gf_newa_o, gc_newa_o, ga_newa_o, nx_setf, nx_seta, nx_newo, nx_newa, su_setf, su_seta, su_newo, su_newa, sg_setf, sg_seta, sg_newo, sg_newa, okq_n, f77, q15, nlt (show t < G by omega), n_lt, ylt, ht, h6, nle, qc, e1, n_leN]
    · rw [er]
      split <;> exact sr
  · rw [er]
    rw [va_rf_s] at e1
    cases hbt : u.testBit t with
    | true =>
      have ho : onR wy (nI t) 0 (s + 1) = true := by rw [← us.2 t ht12]; exact hbt
      rw [if_pos ho]
      refine ⟨A, f1, some (.ref z), ?_, sr, hw, Fr.rf⟩
      have bt := n_bt hu ht12
      rw [hbt] at bt
      have bt2 : (nI u >>> (nI t &&& (31 : Int32)) &&& nI 1 = nI 0) = False := bt.trans (eq_false (by decide))
      refine x_229_75.trans ?_
      simp (disch := first | omega | (simp (disch := omega) only [nx_setf, nx_seta, nx_newo, nx_newa]; omega)) only [x_229_77, x_229_78, x_229_81, x_229_84, x_229_87, x_229_88, x_229_90, x_229_93, x_229_94, x_229_97, x_229_99, x_229_101, x_229_104, x_229_106, x_229_108n, x_229_108r, x_229_111, x_229_112, x_229_114, x_229_115, x_229_116, x_229_117, x_229_120, x_229_121, x_229_124, x_229_125, x_229_126, x_229_127, x_229_129, x_229_130, x_229_131, x_229_132, x_229_133, x_229_134, x_229_135, x_229_136, x_229_138, x_229_139, x_229_140, x_229_141, x_229_143, x_229_146, x_229_147, x_229_149, x_229_151, x_229_154, x_229_155, x_229_157, x_229_159, x_229_160, x_229_163, x_229_166, kv_s, ki_s, kj_s, kd_s, kq_s, kq_n, kq_o, ka_s, kc_r, kc_t, kc0_r, kc0_t, kch_r, kc0h_r, kw_s, kw0_s, kwh_s, kw0h_s, rg_ref, rg_null, rg_rf, ck_t, sel_some, lkn_hd, Option.isSome_some, Bool.true_and, Bool.and_true, okv_i, okv_l, okv_r, okv_n, okv_rf, okv_b, okv_0, okv_1, okv_f, okv_d, c1_i, c1_r, c1_n, c1_rf, c1_f, nI_add, n_mul, n_sub, n_pred, n_eq, n_le, n_lt, n_neN, n_Nne, N_lt, N_le, n_ltN, n_leN, rdI_n, rdJ_n, rdD_n, wrI_n, wrI_z0, wrI_z1, wrI_zb, wrJ_n, wrD_n, aln_s, okn_n, upd_is, upd_ne, Nat.add_zero, Nat.add_sub_cancel, decide_true, decide_false, cond_true, cond_false, if_true, if_false, ite_not, not_true_eq_false, not_false_eq_true, Nat.reduceEqDiff, Nat.reduceAdd, Nat.reduceMul, Nat.reduceSub, Nat.reduceLeDiff, gf_setf_ne, gf_setf_p, gf_setf_is, va_rf_s, va_rf_n, gf_seta, ga_setf, gc_setf, gc_seta, ga_seta_ne, ga_seta_eq, gf_new, gc_new, gf_newo_o, gc_newo_o, ga_newo_o, ga_new, gf_newa_o, gc_newa_o, ga_newa_o, nx_setf, nx_seta, nx_newo, nx_newa, su_setf, su_seta, su_newo, su_newa, sg_setf, sg_seta, sg_newo, sg_newa, okq_n, f77, q15, nlt (show t < G by omega), n_lt, ylt, ht, h6, nle, qc, e1, n_leN, bt2]
    | false =>
      have ho : onR wy (nI t) 0 (s + 1) = false := by rw [← us.2 t ht12]; exact hbt
      rw [if_neg (by rw [ho]; decide)]
      dsimp only
      have bt := n_bt hu ht12
      rw [hbt] at bt
      have bt2 : (nI u >>> (nI t &&& (31 : Int32)) &&& nI 1 = nI 0) = True := bt.trans (eq_true rfl)
      have sr2 := sr.way (upd f1 (s + 1) (nI t))
      have fr2 : Fr A w (seta A a1 (0, (7, .inl (upd f1 (s + 1) (nI t))))) w (fun z => z = 7) 0 0 := Fr.sta sr.w1
      have nt2 := nt.fr fr2 (by omega) (by omega) (by omega) (by omega)
      have n1 := sr.n1
      have wr : wrI 0 (some ((0, (7, .inl f1)) : ArC)) (nI (s + 1)) (nI t) = some (0, (7, .inl (upd f1 (s + 1) (nI t)))) := wrI_n (by omega) (by omega)
      have hw2 : ∀ j, j ≤ s + 1 → upd f1 (s + 1) (nI t) j = upd wy (s + 1) (nI t) j := fun j hj => by
        by_cases z : j = s + 1
        · rw [upd_is z, upd_is z]
        · rw [upd_ne z, upd_ne z]; exact hw j (by omega)
      have us2 := us.more ht12
      have sl := n_shl1 ht12
      have zr := (ro.fr fr2 (by omega))
      have z61 := zr.f1
      have z62 := zr.f2
      have inn : ∃ A' f1', evG TB (d + f + 5) 229 [.ref y, .int (nI (s + 1)), .int (nI (u ||| 2 ^ t)), .int (mi + S (27 + 4 * r + 2)), .int (tl + S (27 + 4 * r + 3)), .int (mc + mh)] (seta A a1 (0, (7, .inl (upd f1 (s + 1) (nI t))))) = some (.inl none, A') ∧ SrO A' w y ci q to a1 a2 K f1' (if t = to then tkN tk (s + 1) (upd wy (s + 1) (nI t)) (mi + S (27 + 4 * r + 2)) (tl + S (27 + 4 * r + 3)) ms (g, f2) else dfs S G (cS S 9) to (tkN tk) f (s + 1) (upd wy (s + 1) (nI t)) (mi + S (27 + 4 * r + 2)) (tl + S (27 + 4 * r + 3)) (ms + S (15 + t)) (g, f2)).2 (if t = to then tkN tk (s + 1) (upd wy (s + 1) (nI t)) (mi + S (27 + 4 * r + 2)) (tl + S (27 + 4 * r + 3)) ms (g, f2) else dfs S G (cS S 9) to (tkN tk) f (s + 1) (upd wy (s + 1) (nI t)) (mi + S (27 + 4 * r + 2)) (tl + S (27 + 4 * r + 3)) (ms + S (15 + t)) (g, f2)).1 ∧ (∀ j, j ≤ s + 1 → f1' j = upd wy (s + 1) (nI t) j) ∧ Fr (seta A a1 (0, (7, .inl (upd f1 (s + 1) (nI t))))) w A' w (fun z => z = 7) 0 0 := by
        by_cases htt : t = to
        · rw [if_pos htt, ← hms]
          obtain ⟨A', i1, i2, i3⟩ := go_end (d := d + f + 2) (x := nI (u ||| 2 ^ t)) (mi := mi + S (27 + 4 * r + 2)) (tl := tl + S (27 + 4 * r + 3)) (ms := ms) hk hci sr2 (r := s + 1) (by omega) (by rw [upd_is rfl, htt]) hw2 hto
          exact ⟨A', _, i1, i2, hw2, i3⟩
        · rw [if_neg htt]
          exact ih (s + 1) _ (upd wy (s + 1) (nI t)) _ f2 g _ _ (mc + mh) (ms + S (15 + t)) _ t (by omega) sr2 nt2 hw2 us2 (upd_is rfl) ht12 htt (by rw [if_neg (by omega), hms])
      obtain ⟨A', f1', i1, i2, i3, i4⟩ := inn
      refine ⟨A', f1', some (.ref z), ?_, i2, fun j hj => ?_, fr2.trans i4⟩
      · refine x_229_75.trans ?_
        rcases hci with e | e <;> subst e <;> simp (disch := first | omega | (simp (disch := omega) only [nx_setf, nx_seta, nx_newo, nx_newa]; omega)) only [x_229_77, x_229_78, x_229_81, x_229_84, x_229_87, x_229_88, x_229_90, x_229_93, x_229_94, x_229_97, x_229_99, x_229_101, x_229_104, x_229_106, x_229_108n, x_229_108r, x_229_111, x_229_112, x_229_114, x_229_115, x_229_116, x_229_117, x_229_120, x_229_121, x_229_124, x_229_125, x_229_126, x_229_127, x_229_129, x_229_130, x_229_131, x_229_132, x_229_133, x_229_134, x_229_135, x_229_136, x_229_138, x_229_139, x_229_140, x_229_141, x_229_143, x_229_146, x_229_147, x_229_149, x_229_151, x_229_154, x_229_155, x_229_157, x_229_159, x_229_160, x_229_163, x_229_166, kv_s, ki_s, kj_s, kd_s, kq_s, kq_n, kq_o, ka_s, kc_r, kc_t, kc0_r, kc0_t, kch_r, kc0h_r, kw_s, kw0_s, kwh_s, kw0h_s, rg_ref, rg_null, rg_rf, ck_t, sel_some, lkn_hd, Option.isSome_some, Bool.true_and, Bool.and_true, okv_i, okv_l, okv_r, okv_n, okv_rf, okv_b, okv_0, okv_1, okv_f, okv_d, c1_i, c1_r, c1_n, c1_rf, c1_f, nI_add, n_mul, n_sub, n_pred, n_eq, n_le, n_lt, n_neN, n_Nne, N_lt, N_le, n_ltN, n_leN, rdI_n, rdJ_n, rdD_n, wrI_n, wrI_z0, wrI_z1, wrI_zb, wrJ_n, wrD_n, aln_s, okn_n, upd_is, upd_ne, Nat.add_zero, Nat.add_sub_cancel, decide_true, decide_false, cond_true, cond_false, if_true, if_false, ite_not, not_true_eq_false, not_false_eq_true, Nat.reduceEqDiff, Nat.reduceAdd, Nat.reduceMul, Nat.reduceSub, Nat.reduceLeDiff, gf_setf_ne, gf_setf_p, gf_setf_is, va_rf_s, va_rf_n, gf_seta, ga_setf, gc_setf, gc_seta, ga_seta_ne, ga_seta_eq, gf_new, gc_new, gf_newo_o, gc_newo_o, ga_newo_o, ga_new, gf_newa_o, gc_newa_o, ga_newa_o, nx_setf, nx_seta, nx_newo, nx_newa, su_setf, su_seta, su_newo, su_newa, sg_setf, sg_seta, sg_newo, sg_newa, okq_n, f77, f79, q15, nlt (show t < G by omega), n_lt, ylt, ht, h6, nle, qc, e1, n_leN, bt2, n1, wr, sl, n_or, z61, z62, hc, lk_b, i1]
      · rw [i3 j (by omega), upd_ne (by omega)]
theorem go_loop (hk : TkS ci K tk) (hci : ci = 15 ∨ ci = 16) (hto : to < 12) (hb : 0 < b) (hG : S 8 = nI G) (hG2 : G ≤ 12) (hR : cS S 9 ≤ 40) {f s : Nat} (hf : s + (f + 1) = 6) (ih : GoP tk ci K S w y q to a1 a2 b d G f) {wy : Nat → Int32} (us : UsO u wy s) (hh : wy s = nI h) (h12 : h < 12) (hms : ms = mc + mh) :
    ∀ (k t : Nat) (A : Hp) (f1 f2 g : Nat → Int32) (o : Option Value), t + k = G → SrO A w y ci q to a1 a2 K f1 f2 g → WNt A w b q S → (∀ j, j ≤ s → f1 j = wy j) →
    ∃ A' f1', exG TB (d + (f + 1) + 4) 229 75 [some (.ref y), some (.int (nI s)), some (.int (nI u)), some (.int mi), some (.int tl), some (.int mc), some (.int (nI h)), some (.int mh), some (.int (nI t)), o] [] A = some (.inl none, A')
      ∧ SrO A' w y ci q to a1 a2 K f1' (lpF (goB S G (cS S 9) to (tkN tk) f s wy mi tl ms) t k (g, f2)).2 (lpF (goB S G (cS S 9) to (tkN tk) f s wy mi tl ms) t k (g, f2)).1 ∧ (∀ j, j ≤ s → f1' j = wy j) ∧ Fr A w A' w (fun z => z = 7) 0 0
  | 0, t, A, f1, f2, g, o, hk0, sr, nt, hw => by
    have f77 := sr.f77
    have q15 := nt.gn
    rw [hG] at q15
    refine ⟨A, f1, ?_, sr, hw, Fr.rf⟩
    refine x_229_75.trans ?_
    have hle : G ≤ t := by omega
    simp (disch := first | omega | (simp (disch := omega) only [nx_setf, nx_seta, nx_newo, nx_newa]; omega)) only [x_229_77, x_229_78, x_229_81, x_229_84, x_229_87, x_229_88, x_229_90, x_229_93, x_229_94, x_229_97, x_229_99, x_229_101, x_229_104, x_229_106, x_229_108n, x_229_108r, x_229_111, x_229_112, x_229_114, x_229_115, x_229_116, x_229_117, x_229_120, x_229_121, x_229_124, x_229_125, x_229_126, x_229_127, x_229_129, x_229_130, x_229_131, x_229_132, x_229_133, x_229_134, x_229_135, x_229_136, x_229_138, x_229_139, x_229_140, x_229_141, x_229_143, x_229_146, x_229_147, x_229_149, x_229_151, x_229_154, x_229_155, x_229_157, x_229_159, x_229_160, x_229_163, x_229_166, x_229_169, kv_s, ki_s, kj_s, kd_s, kq_s, kq_n, kq_o, ka_s, kc_r, kc_t, kc0_r, kc0_t, kch_r, kc0h_r, kw_s, kw0_s, kwh_s, kw0h_s, rg_ref, rg_null, rg_rf, ck_t, sel_some, lkn_hd, Option.isSome_some, Bool.true_and, Bool.and_true, okv_i, okv_l, okv_r, okv_n, okv_rf, okv_b, okv_0, okv_1, okv_f, okv_d, c1_i, c1_r, c1_n, c1_rf, c1_f, nI_add, n_mul, n_sub, n_pred, n_eq, n_le, n_lt, n_neN, n_Nne, N_lt, N_le, n_ltN, n_leN, rdI_n, rdJ_n, rdD_n, wrI_n, wrI_z0, wrI_z1, wrI_zb, wrJ_n, wrD_n, aln_s, okn_n, upd_is, upd_ne, Nat.add_zero, Nat.add_sub_cancel, decide_true, decide_false, cond_true, cond_false, if_true, if_false, ite_not, not_true_eq_false, not_false_eq_true, Nat.reduceEqDiff, Nat.reduceAdd, Nat.reduceMul, Nat.reduceSub, Nat.reduceLeDiff, gf_setf_ne, gf_setf_p, gf_setf_is, va_rf_s, va_rf_n, gf_seta, ga_setf, gc_setf, gc_seta, ga_seta_ne, ga_seta_eq, gf_new, gc_new, gf_newo_o, gc_newo_o, ga_newo_o, ga_new, gf_newa_o, gc_newa_o, ga_newa_o, nx_setf, nx_seta, nx_newo, nx_newa, su_setf, su_seta, su_newo, su_newa, sg_setf, sg_seta, sg_newo, sg_newa, okq_n, f77, q15, n_le, hle, yle]
  | k + 1, t, A, f1, f2, g, o, hk0, sr, nt, hw => by
    obtain ⟨A1, f1', o', e1, sr1, hw1, fr1⟩ := go_step (mi := mi) (tl := tl) (o := o) hk hci hto hb hG hG2 hR hf ih sr nt hw us hh h12 hms (show t < G by omega)
    obtain ⟨A2, f1'', e2, sr2, hw2, fr2⟩ := go_loop hk hci hto hb hG hG2 hR hf ih us hh h12 hms k (t + 1) A1 f1' _ _ o' (by omega) sr1 (nt.fr fr1 (by omega) (by omega) (by omega) (by omega)) hw1
    exact ⟨A2, f1'', e1.trans e2, sr2, hw2, fr1.trans fr2⟩
theorem m_229 (hk : TkS ci K tk) (hci : ci = 15 ∨ ci = 16) (hto : to < 12) (hb : 0 < b) (hG : S 8 = nI G) (hG2 : G ≤ 12) (hR : cS S 9 ≤ 40) : ∀ f, GoP tk ci K S w y q to a1 a2 b d G f
  | 0 => fun s A wy f1 f2 g mi tl mc ms u h hf sr nt hw us hh h12 hto hms => by
    have f79 := sr.f79
    have f78 := sr.f78
    have f77 := sr.f77
    have n1 := sr.n1
    have rd : rdI 0 (some ((0, (7, .inl f1)) : ArC)) (nI s) = some (nI h) := by rw [← hh, ← hw s (Nat.le_refl _)]; exact rdI_n (by omega) (by omega)
    have hne : (h = to) = False := eq_false hto
    have q15 := nt.gn
    rw [hG] at q15
    obtain ⟨a, fm, q14, _, na, hm⟩ := nt.mi
    have rm : rdI 0 (some ((0, (12, .inl fm)) : ArC)) (nI h) = some (fm h) := rdI_n (by omega) (by omega)
    have hs6 : s = 6 := by omega
    subst hs6
    refine ⟨A, f1, ?_, sr, hw, Fr.rf⟩
    rcases Nat.eq_zero_or_pos G with z | z
    · simp (disch := first | omega | (simp (disch := omega) only [nx_setf, nx_seta, nx_newo, nx_newa]; omega)) only [e_229, x_229_0, x_229_1, x_229_4, x_229_5, x_229_6, x_229_8, x_229_10, x_229_11, x_229_14, x_229_17, x_229_18, x_229_19, x_229_20, x_229_22, x_229_24, x_229_27, x_229_30, x_229_31, x_229_32, x_229_35, x_229_36, x_229_39, x_229_40, x_229_41, x_229_44, x_229_45, x_229_46, x_229_47, x_229_48, x_229_51, x_229_52, x_229_53, x_229_56, x_229_57, x_229_60, x_229_61, x_229_64, x_229_67, x_229_69, x_229_70, x_229_72, x_229_73, kv_s, ki_s, kj_s, kd_s, kq_s, kq_n, kq_o, ka_s, kc_r, kc_t, kc0_r, kc0_t, kch_r, kc0h_r, kw_s, kw0_s, kwh_s, kw0h_s, rg_ref, rg_null, rg_rf, ck_t, sel_some, lkn_hd, Option.isSome_some, Bool.true_and, Bool.and_true, okv_i, okv_l, okv_r, okv_n, okv_rf, okv_b, okv_0, okv_1, okv_f, okv_d, c1_i, c1_r, c1_n, c1_rf, c1_f, nI_add, n_mul, n_sub, n_pred, n_eq, n_le, n_lt, n_neN, n_Nne, N_lt, N_le, n_ltN, n_leN, rdI_n, rdJ_n, rdD_n, wrI_n, wrI_z0, wrI_z1, wrI_zb, wrJ_n, wrD_n, aln_s, okn_n, upd_is, upd_ne, Nat.add_zero, Nat.add_sub_cancel, decide_true, decide_false, cond_true, cond_false, if_true, if_false, ite_not, not_true_eq_false, not_false_eq_true, Nat.reduceEqDiff, Nat.reduceAdd, Nat.reduceMul, Nat.reduceSub, Nat.reduceLeDiff, gf_setf_ne, gf_setf_p, gf_setf_is, va_rf_s, va_rf_n, gf_seta, ga_setf, gc_setf, gc_seta, ga_seta_ne, ga_seta_eq, gf_new, gc_new, gf_newo_o, gc_newo_o, ga_newo_o, ga_new, gf_newa_o, gc_newa_o, ga_newa_o, nx_setf, nx_seta, nx_newo, nx_newa, su_setf, su_seta, su_newo, su_newa, sg_setf, sg_seta, sg_newo, sg_newa, okq_n, f77, f78, f79, n1, rd, hne, q14, na, rm]
      refine x_229_75.trans ?_
      simp (disch := first | omega | (simp (disch := omega) only [nx_setf, nx_seta, nx_newo, nx_newa]; omega)) only [x_229_77, x_229_78, x_229_81, x_229_84, x_229_87, x_229_88, x_229_90, x_229_93, x_229_94, x_229_97, x_229_99, x_229_101, x_229_104, x_229_106, x_229_108n, x_229_108r, x_229_111, x_229_112, x_229_114, x_229_115, x_229_116, x_229_117, x_229_120, x_229_121, x_229_124, x_229_125, x_229_126, x_229_127, x_229_129, x_229_130, x_229_131, x_229_132, x_229_133, x_229_134, x_229_135, x_229_136, x_229_138, x_229_139, x_229_140, x_229_141, x_229_143, x_229_146, x_229_147, x_229_149, x_229_151, x_229_154, x_229_155, x_229_157, x_229_159, x_229_160, x_229_163, x_229_166, x_229_169, kv_s, ki_s, kj_s, kd_s, kq_s, kq_n, kq_o, ka_s, kc_r, kc_t, kc0_r, kc0_t, kch_r, kc0h_r, kw_s, kw0_s, kwh_s, kw0h_s, rg_ref, rg_null, rg_rf, ck_t, sel_some, lkn_hd, Option.isSome_some, Bool.true_and, Bool.and_true, okv_i, okv_l, okv_r, okv_n, okv_rf, okv_b, okv_0, okv_1, okv_f, okv_d, c1_i, c1_r, c1_n, c1_rf, c1_f, nI_add, n_mul, n_sub, n_pred, n_eq, n_le, n_lt, n_neN, n_Nne, N_lt, N_le, n_ltN, n_leN, rdI_n, rdJ_n, rdD_n, wrI_n, wrI_z0, wrI_z1, wrI_zb, wrJ_n, wrD_n, aln_s, okn_n, upd_is, upd_ne, Nat.add_zero, Nat.add_sub_cancel, decide_true, decide_false, cond_true, cond_false, if_true, if_false, ite_not, not_true_eq_false, not_false_eq_true, Nat.reduceEqDiff, Nat.reduceAdd, Nat.reduceMul, Nat.reduceSub, Nat.reduceLeDiff, gf_setf_ne, gf_setf_p, gf_setf_is, va_rf_s, va_rf_n, gf_seta, ga_setf, gc_setf, gc_seta, ga_seta_ne, ga_seta_eq, gf_new, gc_new, gf_newo_o, gc_newo_o, ga_newo_o, ga_new, gf_newa_o, gc_newa_o, ga_newa_o, nx_setf, nx_seta, nx_newo, nx_newa, su_setf, su_seta, su_newo, su_newa, sg_setf, sg_seta, sg_newo, sg_newa, okq_n, f77, q15, z, Nat.le_refl]
    · have hle : (G ≤ 0) = False := eq_false (by omega)
      simp (disch := first | omega | (simp (disch := omega) only [nx_setf, nx_seta, nx_newo, nx_newa]; omega)) only [e_229, x_229_0, x_229_1, x_229_4, x_229_5, x_229_6, x_229_8, x_229_10, x_229_11, x_229_14, x_229_17, x_229_18, x_229_19, x_229_20, x_229_22, x_229_24, x_229_27, x_229_30, x_229_31, x_229_32, x_229_35, x_229_36, x_229_39, x_229_40, x_229_41, x_229_44, x_229_45, x_229_46, x_229_47, x_229_48, x_229_51, x_229_52, x_229_53, x_229_56, x_229_57, x_229_60, x_229_61, x_229_64, x_229_67, x_229_69, x_229_70, x_229_72, x_229_73, kv_s, ki_s, kj_s, kd_s, kq_s, kq_n, kq_o, ka_s, kc_r, kc_t, kc0_r, kc0_t, kch_r, kc0h_r, kw_s, kw0_s, kwh_s, kw0h_s, rg_ref, rg_null, rg_rf, ck_t, sel_some, lkn_hd, Option.isSome_some, Bool.true_and, Bool.and_true, okv_i, okv_l, okv_r, okv_n, okv_rf, okv_b, okv_0, okv_1, okv_f, okv_d, c1_i, c1_r, c1_n, c1_rf, c1_f, nI_add, n_mul, n_sub, n_pred, n_eq, n_le, n_lt, n_neN, n_Nne, N_lt, N_le, n_ltN, n_leN, rdI_n, rdJ_n, rdD_n, wrI_n, wrI_z0, wrI_z1, wrI_zb, wrJ_n, wrD_n, aln_s, okn_n, upd_is, upd_ne, Nat.add_zero, Nat.add_sub_cancel, decide_true, decide_false, cond_true, cond_false, if_true, if_false, ite_not, not_true_eq_false, not_false_eq_true, Nat.reduceEqDiff, Nat.reduceAdd, Nat.reduceMul, Nat.reduceSub, Nat.reduceLeDiff, gf_setf_ne, gf_setf_p, gf_setf_is, va_rf_s, va_rf_n, gf_seta, ga_setf, gc_setf, gc_seta, ga_seta_ne, ga_seta_eq, gf_new, gc_new, gf_newo_o, gc_newo_o, ga_newo_o, ga_new, gf_newa_o, gc_newa_o, ga_newa_o, nx_setf, nx_seta, nx_newo, nx_newa, su_setf, su_seta, su_newo, su_newa, sg_setf, sg_seta, sg_newo, sg_newa, okq_n, f77, f78, f79, n1, rd, hne, q14, na, rm]
      refine x_229_75.trans ?_
      simp (disch := first | omega | (simp (disch := omega) only [nx_setf, nx_seta, nx_newo, nx_newa]; omega)) only [x_229_77, x_229_78, x_229_81, x_229_84, x_229_87, x_229_88, x_229_90, x_229_93, x_229_94, x_229_97, x_229_99, x_229_101, x_229_104, x_229_106, x_229_108n, x_229_108r, x_229_111, x_229_112, x_229_114, x_229_115, x_229_116, x_229_117, x_229_120, x_229_121, x_229_124, x_229_125, x_229_126, x_229_127, x_229_129, x_229_130, x_229_131, x_229_132, x_229_133, x_229_134, x_229_135, x_229_136, x_229_138, x_229_139, x_229_140, x_229_141, x_229_143, x_229_146, x_229_147, x_229_149, x_229_151, x_229_154, x_229_155, x_229_157, x_229_159, x_229_160, x_229_163, x_229_166, x_229_169, kv_s, ki_s, kj_s, kd_s, kq_s, kq_n, kq_o, ka_s, kc_r, kc_t, kc0_r, kc0_t, kch_r, kc0h_r, kw_s, kw0_s, kwh_s, kw0h_s, rg_ref, rg_null, rg_rf, ck_t, sel_some, lkn_hd, Option.isSome_some, Bool.true_and, Bool.and_true, okv_i, okv_l, okv_r, okv_n, okv_rf, okv_b, okv_0, okv_1, okv_f, okv_d, c1_i, c1_r, c1_n, c1_rf, c1_f, nI_add, n_mul, n_sub, n_pred, n_eq, n_le, n_lt, n_neN, n_Nne, N_lt, N_le, n_ltN, n_leN, rdI_n, rdJ_n, rdD_n, wrI_n, wrI_z0, wrI_z1, wrI_zb, wrJ_n, wrD_n, aln_s, okn_n, upd_is, upd_ne, Nat.add_zero, Nat.add_sub_cancel, decide_true, decide_false, cond_true, cond_false, if_true, if_false, ite_not, not_true_eq_false, not_false_eq_true, Nat.reduceEqDiff, Nat.reduceAdd, Nat.reduceMul, Nat.reduceSub, Nat.reduceLeDiff, gf_setf_ne, gf_setf_p, gf_setf_is, va_rf_s, va_rf_n, gf_seta, ga_setf, gc_setf, gc_seta, ga_seta_ne, ga_seta_eq, gf_new, gc_new, gf_newo_o, gc_newo_o, ga_newo_o, ga_new, gf_newa_o, gc_newa_o, ga_newa_o, nx_setf, nx_seta, nx_newo, nx_newa, su_setf, su_seta, su_newo, su_newa, sg_setf, sg_seta, sg_newo, sg_newa, okq_n, f77, q15, hle, Nat.le_refl]
  | f + 1 => fun s A wy f1 f2 g mi tl mc ms u h hf sr nt hw us hh h12 hne hms => by
    have f79 := sr.f79
    have f78 := sr.f78
    have f77 := sr.f77
    have n1 := sr.n1
    have rd : rdI 0 (some ((0, (7, .inl f1)) : ArC)) (nI s) = some (nI h) := by rw [← hh, ← hw s (Nat.le_refl _)]; exact rdI_n (by omega) (by omega)
    have hne' : (h = to) = False := eq_false hne
    obtain ⟨a, fm, q14, _, na, hm⟩ := nt.mi
    have rm : rdI 0 (some ((0, (12, .inl fm)) : ArC)) (nI h) = some (S (15 + h)) := by rw [← hm h h12]; exact rdI_n (by omega) (by omega)
    obtain ⟨A', f1', e1, r1, r2, r3⟩ := go_loop (mi := mi) (tl := tl) (mc := mc) (mh := if s = 0 then nI 0 else S (15 + h)) hk hci hto hb hG hG2 hR hf (m_229 hk hci hto hb hG hG2 hR f) us hh h12 hms G 0 A f1 f2 g none (by omega) sr nt hw
    refine ⟨A', f1', ?_, r1, r2, r3⟩
    rcases Nat.eq_zero_or_pos s with z | z
    · subst z
      rw [if_pos rfl] at e1
      rw [← e1]
      simp (disch := first | omega | (simp (disch := omega) only [nx_setf, nx_seta, nx_newo, nx_newa]; omega)) only [e_229, x_229_0, x_229_1, x_229_4, x_229_5, x_229_6, x_229_8, x_229_10, x_229_11, x_229_14, x_229_17, x_229_18, x_229_19, x_229_20, x_229_22, x_229_24, x_229_27, x_229_30, x_229_31, x_229_32, x_229_35, x_229_36, x_229_39, x_229_40, x_229_41, x_229_44, x_229_45, x_229_46, x_229_47, x_229_48, x_229_51, x_229_52, x_229_53, x_229_56, x_229_57, x_229_60, x_229_61, x_229_64, x_229_67, x_229_69, x_229_70, x_229_72, x_229_73, kv_s, ki_s, kj_s, kd_s, kq_s, kq_n, kq_o, ka_s, kc_r, kc_t, kc0_r, kc0_t, kch_r, kc0h_r, kw_s, kw0_s, kwh_s, kw0h_s, rg_ref, rg_null, rg_rf, ck_t, sel_some, lkn_hd, Option.isSome_some, Bool.true_and, Bool.and_true, okv_i, okv_l, okv_r, okv_n, okv_rf, okv_b, okv_0, okv_1, okv_f, okv_d, c1_i, c1_r, c1_n, c1_rf, c1_f, nI_add, n_mul, n_sub, n_pred, n_eq, n_le, n_lt, n_neN, n_Nne, N_lt, N_le, n_ltN, n_leN, rdI_n, rdJ_n, rdD_n, wrI_n, wrI_z0, wrI_z1, wrI_zb, wrJ_n, wrD_n, aln_s, okn_n, upd_is, upd_ne, Nat.add_zero, Nat.add_sub_cancel, decide_true, decide_false, cond_true, cond_false, if_true, if_false, ite_not, not_true_eq_false, not_false_eq_true, Nat.reduceEqDiff, Nat.reduceAdd, Nat.reduceMul, Nat.reduceSub, Nat.reduceLeDiff, gf_setf_ne, gf_setf_p, gf_setf_is, va_rf_s, va_rf_n, gf_seta, ga_setf, gc_setf, gc_seta, ga_seta_ne, ga_seta_eq, gf_new, gc_new, gf_newo_o, gc_newo_o, ga_newo_o, ga_new, gf_newa_o, gc_newa_o, ga_newa_o, nx_setf, nx_seta, nx_newo, nx_newa, su_setf, su_seta, su_newo, su_newa, sg_setf, sg_seta, sg_newo, sg_newa, okq_n, f77, f78, f79, n1, rd, hne', q14, na, rm]
    · have z0 : (s = 0) = False := eq_false (by omega)
      rw [if_neg (by omega)] at e1
      rw [← e1]
      simp (disch := first | omega | (simp (disch := omega) only [nx_setf, nx_seta, nx_newo, nx_newa]; omega)) only [e_229, x_229_0, x_229_1, x_229_4, x_229_5, x_229_6, x_229_8, x_229_10, x_229_11, x_229_14, x_229_17, x_229_18, x_229_19, x_229_20, x_229_22, x_229_24, x_229_27, x_229_30, x_229_31, x_229_32, x_229_35, x_229_36, x_229_39, x_229_40, x_229_41, x_229_44, x_229_45, x_229_46, x_229_47, x_229_48, x_229_51, x_229_52, x_229_53, x_229_56, x_229_57, x_229_60, x_229_61, x_229_64, x_229_67, x_229_69, x_229_70, x_229_72, x_229_73, kv_s, ki_s, kj_s, kd_s, kq_s, kq_n, kq_o, ka_s, kc_r, kc_t, kc0_r, kc0_t, kch_r, kc0h_r, kw_s, kw0_s, kwh_s, kw0h_s, rg_ref, rg_null, rg_rf, ck_t, sel_some, lkn_hd, Option.isSome_some, Bool.true_and, Bool.and_true, okv_i, okv_l, okv_r, okv_n, okv_rf, okv_b, okv_0, okv_1, okv_f, okv_d, c1_i, c1_r, c1_n, c1_rf, c1_f, nI_add, n_mul, n_sub, n_pred, n_eq, n_le, n_lt, n_neN, n_Nne, N_lt, N_le, n_ltN, n_leN, rdI_n, rdJ_n, rdD_n, wrI_n, wrI_z0, wrI_z1, wrI_zb, wrJ_n, wrD_n, aln_s, okn_n, upd_is, upd_ne, Nat.add_zero, Nat.add_sub_cancel, decide_true, decide_false, cond_true, cond_false, if_true, if_false, ite_not, not_true_eq_false, not_false_eq_true, Nat.reduceEqDiff, Nat.reduceAdd, Nat.reduceMul, Nat.reduceSub, Nat.reduceLeDiff, gf_setf_ne, gf_setf_p, gf_setf_is, va_rf_s, va_rf_n, gf_seta, ga_setf, gc_setf, gc_seta, ga_seta_ne, ga_seta_eq, gf_new, gc_new, gf_newo_o, gc_newo_o, ga_newo_o, ga_new, gf_newa_o, gc_newa_o, ga_newa_o, nx_setf, nx_seta, nx_newo, nx_newa, su_setf, su_seta, su_newo, su_newa, sg_setf, sg_seta, sg_newo, sg_newa, okq_n, f77, f78, f79, n1, rd, hne', q14, na, rm, z0]
end
