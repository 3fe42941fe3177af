/-! TreeMap: balancing, whole -/
section
variable {A : Hp} {N : Nat → Bool} {m d : Nat} {l : List Nat}
theorem m_60_lp (tn : TN A N m) (hN : ∀ y, y ∈ l → N y = true) : ∀ (n k x : Nat) (L R P : Lk) (C : Nat → Int32) (rt : Option Nat) (j : Option Value), TrF L R P rt l → x ∈ l → PL P rt x k → k ≤ n → (∀ y, C y = nI 0 ∨ C y = nI 1) → (rt = some x ∨ ∀ r, rt = some r → C r = nI 1) → FxE A N m d l x j L R P C rt := by
  intro n
  induction n with
  | zero =>
    intro k x L R P C rt j h hx hp hk hC _
    have : k = 0 := by omega
    subst this
    exact m_60_root tn hN h hx hC hp
  | succ n ih =>
    intro k x L R P C rt j h hx hpl hk hC hrt
    by_cases e : rt = some x
    · exact m_60_root tn hN h hx hC e
    · have hcr := hrt.resolve_left e
      cases hr : rt with
      | none =>
        obtain ⟨⟨f, h1⟩, _⟩ := h
        rw [hr] at h1
        rw [isT_none.mp h1] at hx; cases hx
      | some r =>
        have hrC := hcr r hr
        have hxr : (x = r) = False := eq_false (fun q => e (by rw [hr, q]))
        obtain ⟨p, hp, hP, hch⟩ := h.par hx e
        rw [← hr]
        rcases hC p with cp | cp
        · have hrp : rt ≠ some p := fun q => by
            rw [hr] at q
            cases q
            rw [cp] at hrC
            exact absurd ((nI_eq (by omega) (by omega)).mp hrC) (by omega)
          obtain ⟨g, hg, hG, hcg⟩ := h.par hp hrp
          have hPL : ∃ k', PL P rt g k' ∧ k' ≤ n := by
            cases k with
            | zero => exact absurd hpl e
            | succ k =>
              obtain ⟨y, y1, y2⟩ := hpl
              rw [hP] at y1; cases y1
              cases k with
              | zero => exact absurd y2 hrp
              | succ k =>
                obtain ⟨z, z1, z2⟩ := y2
                rw [hG] at z1; cases z1
                exact ⟨k, z2, by omega⟩
          obtain ⟨k', k1, k2⟩ := hPL
          have cold : ∀ u, u ∈ l → rt = some g ∨ ∀ r, rt = some r → upd (upd (upd C p (nI 1)) u (nI 1)) g (nI 0) r = nI 1 := fun u _ => by
            by_cases q : rt = some g
            · exact Or.inl q
            · refine Or.inr (fun r' e' => ?_)
              have : r' ≠ g := fun z => q (by rw [e', z])
              rw [upd_ne this]
              by_cases z : r' = u
              · exact upd_is z
              · rw [upd_ne z]
                by_cases z2 : r' = p
                · exact upd_is z2
                · rw [upd_ne z2]; exact hcr r' e'
          have colu : ∀ u, ∀ y, upd (upd (upd C p (nI 1)) u (nI 1)) g (nI 0) y = nI 0 ∨ upd (upd (upd C p (nI 1)) u (nI 1)) g (nI 0) y = nI 1 := fun u => col_upd (col_upd (col_upd hC (Or.inr rfl)) (Or.inr rfl)) (Or.inl rfl)
          by_cases hS : L g = some p
          · by_cases hU : ∀ u, R g = some u → C u = nI 1
            · by_cases hI : R p = some x
              · exact m_60_rotLi tn hN h hx hC hr hxr hrC hP hp cp hG hg hS hU hI
              · exact m_60_rotLo tn hN h hx hC hr hxr hrC hP hp cp hG hg hS hU hI
            · obtain ⟨u, hu⟩ := Classical.not_forall.mp hU
              obtain ⟨u1, u2⟩ := Classical.not_imp.mp hu
              have cu := (hC u).resolve_right u2
              exact m_60_redL tn hN h hx hr hxr hP hp cp hG hg hS u1 cu (ih k' g L R P _ rt _ h hg k1 k2 (colu u) (cold u (h.rg hg u1).1))
          · have hS := hcg.resolve_left hS
            by_cases hU : ∀ u, L g = some u → C u = nI 1
            · by_cases hI : L p = some x
              · exact m_60_rotRi tn hN h hx hC hr hxr hrC hP hp cp hG hg hS hU hI
              · exact m_60_rotRo tn hN h hx hC hr hxr hrC hP hp cp hG hg hS hU hI
            · obtain ⟨u, hu⟩ := Classical.not_forall.mp hU
              obtain ⟨u1, u2⟩ := Classical.not_imp.mp hu
              have cu := (hC u).resolve_right u2
              exact m_60_redR tn hN h hx hr hxr hP hp cp hG hg hS u1 cu (ih k' g L R P _ rt _ h hg k1 k2 (colu u) (cold u (h.lf hg u1).1))
        · exact m_60_blk tn hN h hx hC hr hxr hrC hP hp cp
/-- a new leaf is balanced in -/
theorem m_60 (tn : TN A N m) (hN : ∀ y, y ∈ l → N y = true) {x : Nat} {L R P : Lk} {C : Nat → Int32} {rt : Option Nat} (h : TrF L R P rt l) (hx : x ∈ l) (hC : ∀ y, C y = nI 0 ∨ C y = nI 1) (hr : ∀ r, rt = some r → C r = nI 1) (hrx : rt ≠ some x) :
    ∃ (L' R' P' : Lk) (C' : Nat → Int32) (rt' : Option Nat), evG TB (d + 3) 60 [.ref m, .ref x] (tH A N m L R P C rt) = some (.inl none, tH A N m L' R' P' C' rt') ∧ TrF L' R' P' rt' l ∧ (∀ y, C' y = nI 0 ∨ C' y = nI 1) ∧ (∀ r, rt' = some r → C' r = nI 1) := by
  obtain ⟨k, hk⟩ := h.depth hx
  have hxN := hN x hx
  have lx := tn.lt x hxN
  obtain ⟨L', R', P', C', rt', e, f⟩ := m_60_lp (d := d) (A := A) tn hN k k x L R P (upd C x (nI 0)) rt none h hx hk (Nat.le_refl _) (col_upd hC (Or.inl rfl)) (Or.inr (fun r e => by rw [upd_ne (fun z => hrx (by rw [e, z]))]; exact hr r e))
  refine ⟨L', R', P', C', rt', ?_, f⟩
  rw [← e]
  simp (disch := first | omega | (simp (disch := omega) only [nx_setf, nx_seta, nx_newo, nx_newa]; omega)) only [e_60, x_60_0, x_60_1, x_60_2, kv_s, ki_s, kj_s, kd_s, kq_s, kq_n, kq_o, ka_s, kc_r, kc_t, kc0_r, kc0_t, kch_r, kc0h_r, kw_s, kw0_s, kwh_s, kw0h_s, rg_ref, rg_null, rg_rf, ck_t, sel_some, lkn_hd, Option.isSome_some, Bool.true_and, Bool.and_true, okv_i, okv_l, okv_r, okv_n, okv_rf, okv_b, okv_0, okv_1, okv_f, okv_d, c1_i, c1_r, c1_n, c1_rf, c1_f, nI_add, n_mul, n_sub, n_pred, n_eq, n_le, n_lt, n_neN, n_Nne, N_lt, N_le, n_ltN, n_leN, rdI_n, rdJ_n, rdD_n, wrI_n, wrI_z0, wrI_z1, wrI_zb, wrJ_n, wrD_n, aln_s, okn_n, upd_is, upd_ne, Nat.add_zero, Nat.add_sub_cancel, decide_true, decide_false, cond_true, cond_false, if_true, if_false, ite_not, not_true_eq_false, not_false_eq_true, Nat.reduceEqDiff, Nat.reduceAdd, Nat.reduceMul, Nat.reduceSub, Nat.reduceLeDiff, gf_setf_ne, gf_setf_p, gf_setf_is, va_rf_s, va_rf_n, gf_seta, ga_setf, gc_setf, gc_seta, ga_seta_ne, ga_seta_eq, gf_new, gc_new, gf_newo_o, gc_newo_o, ga_newo_o, ga_new, gf_newa_o, gc_newa_o, ga_newa_o, nx_setf, nx_seta, nx_newo, nx_newa, su_setf, su_seta, su_newo, su_newa, sg_setf, sg_seta, sg_newo, sg_newa, okq_n, tH_115 hxN, tH_s115 hxN]
end
