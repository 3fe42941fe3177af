/-! the component's World.bill -/
/-- what billing may touch -/
def Xb (b : Nat) : Nat → Prop := fun l => l = 7 ∨ (1000 * b + 8 ≤ l ∧ l < 1000 * b + 220)
section
variable {A A' B : Hp} {w w' wB : Lb} {X : Nat → Prop} {b p q s a v r bl mk C V R Bn P c u N n i g0 tp G D T k e : Nat} {vO rO acO bO tO : Nat → Nat} {S S' Z f : Nat → Int32} {Ts : Nat → Tp} {t : Tp} {z sz : Int32}
theorem SI.rk (h : SI S G D C V R Bn P) {l : List Nat} (hl : ∀ x, x ∈ l → x < R) : (∀ j, j ∈ l → S (280 + 7 * j + 1) = nI (gN S j) ∧ gN S j < 12) ∧ ∀ j, j ∈ l → S (280 + 7 * j + 3) = nI 0 ∨ S (280 + 7 * j + 3) = nI 1 := by
  refine ⟨fun j hj => ?_, fun j hj => (h.rs j (hl j hj)).k⟩
  obtain ⟨g, g1, g2⟩ := (h.rs j (hl j hj)).g
  have G12 := h.net.G12
  have e : gN S j = g := by unfold gN; rw [g2]; exact n_cl (by omega)
  rw [e]
  exact ⟨g2, by omega⟩
/-- a trip is billed -/
theorem m_265b {d : Nat} (hb : 0 < b) (h : WP B wB b p S q s a v r bl mk vO rO acO bO C V R Bn P) (si : SI S G D C V R Bn P) (st : St B wB g0) (hi : i < V) (tb : TpB S G R i t) (hB : Bn < 60) (tpo : TpO B wB T 0 0 rO (S (235 + 3 * i)) t) :
    ∃ (B1 : Hp) (w1 : Lb) (y : Nat) (B2 : Hp) (w2 : Lb) (bO' : Nat → Nat), evG TB (d + 9) 267 [.ref p, .int (nI i), .ref T, .int (nI 0)] B = some (.inl (some (.ref y)), B1) ∧ gc B1 p = some 1 ∧ evG TB (d + 9) 270 [.ref p, .ref y] B1 = some (.inl none, B2) ∧ WP B2 w2 b p (blT S i Bn P t) q s a v r bl mk vO rO acO bO' C V R (Bn + 1) (P + t.ps.length) ∧ SI (blT S i Bn P t) G D C V R (Bn + 1) (P + t.ps.length) ∧ BtR S i Bn P t (blT S i Bn P t) ∧ Fr B wB B2 w2 (Xb b) (10 * t.ps.length) (206 * t.ps.length) := by
  have k0 := si.k12
  obtain ⟨k8, k9, k10, k11, k12, k13, kP, k14⟩ := k0
  have G12 := si.net.G12
  have R120 := si.bR
  have lp := tb.lp
  have hlr : t.rs.length ≤ R := by
    have h1 := cN_list t.rs tb.nd (fun x hx => (tb.rs x hx).1)
    have h2 := cN_le (p := fun j => decide (j ∈ t.rs)) R
    omega
  have hac := (si.vh i hi).2
  obtain ⟨rg1, rk1⟩ := si.rk (l := t.rs) (fun x hx => (tb.rs x hx).1)
  have rr := blT_R si hi tb hB
  have si' := si.bt hi tb hB rr
  have ag := si.agB tb hB rr
  have pB' := si'.pb
  have cle := cN_le (p := fun j => decide (blT S i Bn P t (280 + 7 * j + 5) = nI 3)) R
  obtain ⟨hO, hS, hN, hA, hV, hR, hBl, hM⟩ := h
  have n1000 : t.rs.length < 10000 := by omega
  obtain ⟨B1, w1, y, e1, y1, f1⟩ := m_267 (d := d + 2) (D := 0) (z := nI 0) hO hS hV hA hi hac tpo n1000 (fun j hj => (hR.o j (tb.rs j hj).1).iv) rk1 (1000 * b + (300 + Bn))
  have fF := f1 (fun l => l = 7) rfl
  have h7 : ∀ l, l < 1000 → ¬ 1000 * b + l = 7 := fun l hl => by omega
  have b0 : ¬ 0 = 7 := by decide
  have g0e : gotV S i + nI 0 = gotV S i := Int32.add_zero _
  rw [g0e] at y1
  have hR1 := hR.fr fF (h7 7 (by decide)) b0 (fun j hj => h7 _ (by omega))
  obtain ⟨B2, w2, e2, hA2, hV2, hR2, bl2, hM2, f2⟩ := m_270 (d := d + 1) (y := y) hb (hO.fr fF (h7 0 (by decide))) (hV.fr fF (h7 6 (by decide)) (fun j hj => h7 _ (by omega))) (hA.fr fF (h7 5 (by decide)) (fun j hj => h7 _ (by omega))) hR1 (hBl.l.fr fF (h7 8 (by decide))) (hM.fr fF (h7 9 (by decide)) b0) (st.fr fF b0) hi y1 (tpo.fr fF b0 b0 b0 b0) rfl rfl rfl hac k12 k13 hB (by omega) tb.rs tb.nd (by omega) rg1 (fun x hx => Nat.lt_of_lt_of_le (tb.g x hx) G12) tb.mk
  have f12 : Fr B wB B2 w2 (Xb b) (2 + (3 + 5 * t.ps.length)) (18 + (130 + 56 * t.ps.length)) := (fF.mono (fun l h => Or.inl h) (Nat.le_refl _) (Nat.le_refl _)).trans (f2.mono (fun l h => h) (Nat.le_refl _) (Nat.le_refl _))
  have hx1 : ∀ l, l < 8 → ¬ Xb b (1000 * b + l) := fun l hl => by unfold Xb; omega
  have hx0 : ¬ Xb b 0 := by unfold Xb; omega
  have hx3 : ∀ j, ¬ Xb b (1000 * b + (300 + j)) := fun j => by unfold Xb; omega
  have lo := rr.lo
  have b13 : blT S i Bn P t (1120 + 18 * Bn + 13) = S (235 + 3 * i) := (rr.bn _ (by omega) (by omega) (by omega)).trans (blH_k 13 (by decide) (by decide))
  have y2 := y1.fr (f2.mono (Y := Xb b) (fun l h => h) (Nat.le_refl _) (Nat.le_refl _)) (hx3 Bn)
  have hBl2 : WBl B2 w2 b bl (Bn + 1) (updN bO Bn y) (blT S i Bn P t) R := by
    refine ⟨bl2, by omega, fun j hj => ?_⟩
    by_cases z : j = Bn
    · rw [updN_is z, z]
      refine ⟨T, t, rO, y2.too (fun k hk h7 => ?_), ?_, fun x hx => ?_, BlR.new si hi tb hB rr⟩
      · have bn : ∀ k, k < 18 → k ≠ 15 → blT S i Bn P t (1120 + 18 * Bn + k) = _ := fun k hk h15 => (rr.bn _ (by omega) (by omega) (by omega)).trans (blH_k k hk h15)
        have c0 : blT S i Bn P t (1120 + 18 * Bn) = nI i := (rr.bn _ (by omega) (by omega) (by omega)).trans blH_v
        have c1 := bn 1 (by decide) (by decide)
        have c2 := bn 2 (by decide) (by decide)
        have c3 := bn 3 (by decide) (by decide)
        have c14 := bn 14 (by decide) (by decide)
        have c5 := bn 5 (by decide) (by decide)
        have c16 := bn 16 (by decide) (by decide)
        have c11 := bn 11 (by decide) (by decide)
        have c12 := bn 12 (by decide) (by decide)
        simp only [Nat.reduceEqDiff, if_true, if_false] at c1 c2 c3 c14 c5 c16 c11 c12
        unfold blF
        rw [c0, c1, c2, c3, c14, c5, c16, c11, c12]
        split
        · rfl
        · split
          · rfl
          · split
            · rfl
            · split
              · rfl
              · split
                · rfl
                · split
                  · rfl
                  · split
                    · rfl
                    · split <;> rfl
      · rw [b13]
        exact tpo.fr f12 hx0 hx0 hx0 hx0
      · have ob := hR2.o x (tb.rs x hx).1
        have e0 : rlb (blT S i Bn P t) b x = 0 := by
          unfold rlb
          rw [(rr.ri x hx).1, if_pos rfl]
        rw [e0] at ob
        exact ob
    · rw [updN_ne z]
      have hj' : j < Bn := by omega
      exact (((hBl.o j hj').fr f12 (hx3 j) hx0).sc ag hj' (rr.bo _ (by omega) (by omega)) (rr.bo _ (by omega) (by omega)))
  have hn1 : 1 ≤ t.ps.length := lp.1
  refine ⟨B1, w1, y, B2, w2, updN bO Bn y, e1, fF.cc hO.c, e2, ⟨hO.fr f12 (hx1 0 (by decide)), (hS.fr f12 (hx1 1 (by decide))).sc (fun k hk => lo k (by omega) (by omega) (by omega)), (hN.fr f12 (hx1 2 (by decide)) (hx1 3 (by decide)) (hx1 4 (by decide)) hx0).sc (by rw [k9]; exact si.net.R40) (lo 8 (by omega) (by omega) (by omega)) (lo 9 (by omega) (by omega) (by omega)) (fun k h1 h2 => lo k h2 (by omega) (by omega)), hA2, hV2, hR2, hBl2, hM2⟩, si', rr, f12.mono (fun _ h => h) (by omega) (by omega)⟩
end
