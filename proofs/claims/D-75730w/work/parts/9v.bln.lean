/-! the component's bills: a new one; the world's parts -/
section
variable {S S' : Nat → Int32} {G D C V R R' Bn P i : Nat} {t : Tp}
theorem BlR.new (h : SI S G D C V R Bn P) (hi : i < V) (tb : TpB S G R i t) (hB : Bn < 60) (r : BtR S i Bn P t S') : BlR S' R Bn t := by
  obtain ⟨k8, k9, k10, k11, k12, k13, kP, k14⟩ := h.k12
  have R120 := h.bR
  have V15 := h.bV
  have C8 := h.bC
  have lo := r.lo
  have lp := tb.lp
  have hlen : t.rs.length ≤ R := by
    have h1 := cN_list t.rs tb.nd (fun x hx => (tb.rs x hx).1)
    have h2 := cN_le (p := fun j => decide (j ∈ t.rs)) R
    omega
  have c8 : cS S' 8 = G := by unfold cS; rw [lo 8 (by omega) (by omega) (by omega)]; exact k8
  have c10 : cS S' 10 = C := by unfold cS; rw [lo 10 (by omega) (by omega) (by omega)]; exact k10
  have c11 : cS S' 11 = V := by unfold cS; rw [lo 11 (by omega) (by omega) (by omega)]; exact k11
  have c14 : cS S' 14 = P + t.ps.length := by unfold cS; rw [r.c14]; exact n_cl (by omega)
  have bn : ∀ k, k < 18 → k ≠ 15 → S' (1120 + 18 * Bn + k) = _ := fun k hk h15 => (r.bn _ (by omega) (by omega) (by omega)).trans (blH_k k hk h15)
  have tm : ∀ j, j ∈ t.rs → S' (280 + 7 * j + 2) = S (280 + 7 * j + 2) := fun j hj => r.ro j 2 (by have := (tb.rs j hj).1; omega) (by decide) (fun _ => by decide)
  have km : ∀ j, j ∈ t.rs → S' (280 + 7 * j + 3) = S (280 + 7 * j + 3) := fun j hj => r.ro j 3 (by have := (tb.rs j hj).1; omega) (by decide) (fun _ => by decide)
  have b0 : S' (1120 + 18 * Bn) = nI i := (r.bn _ (by omega) (by omega) (by omega)).trans blH_v
  have b1 := bn 1 (by decide) (by decide)
  have b2 := bn 2 (by decide) (by decide)
  have b3 := bn 3 (by decide) (by decide)
  have b4 := bn 4 (by decide) (by decide)
  have b5 := bn 5 (by decide) (by decide)
  have b6 := bn 6 (by decide) (by decide)
  have b7 := bn 7 (by decide) (by decide)
  have b8 := bn 8 (by decide) (by decide)
  have b9 := bn 9 (by decide) (by decide)
  have b10 := bn 10 (by decide) (by decide)
  have b13 := bn 13 (by decide) (by decide)
  have b14 := bn 14 (by decide) (by decide)
  have b16 := bn 16 (by decide) (by decide)
  have b17 := bn 17 (by decide) (by decide)
  simp only [Nat.reduceEqDiff, if_true, if_false] at b1 b2 b3 b4 b5 b6 b7 b8 b9 b10 b13 b14 b16 b17
  obtain ⟨⟨zc, zc1, zc2⟩, hac⟩ := h.vh i hi
  obtain ⟨s6, s61, s62⟩ := h.st 6 (by decide)
  obtain ⟨s7, s71, s72⟩ := h.st 7 (by decide)
  have s61 : s6 ≤ 999 := s61
  have s71 : s7 ≤ 999 := s71
  have img : imgN S t.rs ≤ t.rs.length := List.countP_le_length
  refine ⟨tb.ne, by omega, lp, fun j hj => ⟨fun z => ?_, fun z => (r.ri j z).2⟩, fun j hj => ⟨(tb.rs j hj).1, (r.ri j hj).1⟩, fun x hx => by rw [c8]; exact tb.g x hx, tb.to, ⟨i, by rw [c11]; exact hi, b0⟩, ?_, ⟨zc, zc1, b13.trans zc2⟩, ?_, ?_, ?_, ?_, ?_, ?_, ?_, ?_, b8, b9, b10, ?_, ⟨P, r.b15, by omega, r.pn⟩⟩
  · by_cases hm : j ∈ t.rs
    · exact hm
    · exfalso
      rw [r.ro j 6 (by omega) (by decide) (fun z => absurd z hm)] at z
      rcases (h.rs j hj).b with ⟨z1, _⟩ | ⟨_, k, z2, z3⟩
      · rw [z1] at z
        have z : nI Bn = nN := z.symm
        rw [n_neN (by omega)] at z
        exact z
      · rw [z3] at z
        have := (nI_eq (by omega) (by omega)).mp z
        omega
  · rw [b1, c10]; exact hac
  · rw [b14]
    unfold prcV
    by_cases z : S (235 + 3 * i + 1) = nN
    · rw [if_pos z]; exact ⟨0, by decide, rfl⟩
    · rw [if_neg z]
      split
      · rcases hac with z2 | ⟨c, c1, c2⟩
        · exact absurd z2 z
        · have e : acN S i = c := by unfold acN; rw [c2, n_cl (by omega)]
          obtain ⟨x, x1, x2⟩ := h.ac c c1
          rw [e]
          exact ⟨x, x1, x2⟩
      · exact ⟨0, by decide, rfl⟩
  · rw [b5, s62, n_mul]
    refine ⟨_, ?_, rfl⟩
    have : s6 * imgN S t.rs ≤ 999 * 120 := Nat.mul_le_mul s61 (by omega)
    omega
  · rw [b16]
    unfold invV
    by_cases z : S (235 + 3 * i + 1) = nN
    · rw [if_pos z]; exact ⟨s7, s71, s72⟩
    · rw [if_neg z]; exact ⟨0, by decide, rfl⟩
  · rw [b2, b3, b14, b5, b16]
    unfold amtV
    rfl
  · rw [b3, b13]
    rfl
  · rw [b4, b3, b14]
  · rw [b6, fstT_c tm tb.ne]
  · rw [b7, lstT_c tm tb.ne]
  · rw [b17, imgN_cc km]
end
/-- the parts of a world -/
abbrev WP (A : Hp) (w : Lb) (b p : Nat) (S : Nat → Int32) (q s a v r bl mk : Nat) (vO rO acO bO : Nat → Nat) (C V R Bn P : Nat) : Prop := (WO A w b p q s a v r bl mk (nI C)) ∧ (WSt A w b s S) ∧ (WNt A w b q S) ∧ (WAc A w b a C acO S) ∧ (WVh A w b v V vO S) ∧ (WRd A w b r R rO S) ∧ (WBl A w b bl Bn bO S R) ∧ (WMk A w b mk S P)
theorem WP.hO {A : Hp} {w : Lb} {b p : Nat} {S : Nat → Int32} {q s a v r bl mk : Nat} {vO rO acO bO : Nat → Nat} {C V R Bn P : Nat} (hse1f : WP A w b p S q s a v r bl mk vO rO acO bO C V R Bn P) : WO A w b p q s a v r bl mk (nI C) := hse1f.1
theorem WP.hS {A : Hp} {w : Lb} {b p : Nat} {S : Nat → Int32} {q s a v r bl mk : Nat} {vO rO acO bO : Nat → Nat} {C V R Bn P : Nat} (hse1f : WP A w b p S q s a v r bl mk vO rO acO bO C V R Bn P) : WSt A w b s S := hse1f.2.1
theorem WP.hN {A : Hp} {w : Lb} {b p : Nat} {S : Nat → Int32} {q s a v r bl mk : Nat} {vO rO acO bO : Nat → Nat} {C V R Bn P : Nat} (hse1f : WP A w b p S q s a v r bl mk vO rO acO bO C V R Bn P) : WNt A w b q S := hse1f.2.2.1
theorem WP.hA {A : Hp} {w : Lb} {b p : Nat} {S : Nat → Int32} {q s a v r bl mk : Nat} {vO rO acO bO : Nat → Nat} {C V R Bn P : Nat} (hse1f : WP A w b p S q s a v r bl mk vO rO acO bO C V R Bn P) : WAc A w b a C acO S := hse1f.2.2.2.1
theorem WP.hV {A : Hp} {w : Lb} {b p : Nat} {S : Nat → Int32} {q s a v r bl mk : Nat} {vO rO acO bO : Nat → Nat} {C V R Bn P : Nat} (hse1f : WP A w b p S q s a v r bl mk vO rO acO bO C V R Bn P) : WVh A w b v V vO S := hse1f.2.2.2.2.1
theorem WP.hR {A : Hp} {w : Lb} {b p : Nat} {S : Nat → Int32} {q s a v r bl mk : Nat} {vO rO acO bO : Nat → Nat} {C V R Bn P : Nat} (hse1f : WP A w b p S q s a v r bl mk vO rO acO bO C V R Bn P) : WRd A w b r R rO S := hse1f.2.2.2.2.2.1
theorem WP.hB {A : Hp} {w : Lb} {b p : Nat} {S : Nat → Int32} {q s a v r bl mk : Nat} {vO rO acO bO : Nat → Nat} {C V R Bn P : Nat} (hse1f : WP A w b p S q s a v r bl mk vO rO acO bO C V R Bn P) : WBl A w b bl Bn bO S R := hse1f.2.2.2.2.2.2.1
theorem WP.hM {A : Hp} {w : Lb} {b p : Nat} {S : Nat → Int32} {q s a v r bl mk : Nat} {vO rO acO bO : Nat → Nat} {C V R Bn P : Nat} (hse1f : WP A w b p S q s a v r bl mk vO rO acO bO C V R Bn P) : WMk A w b mk S P := hse1f.2.2.2.2.2.2.2
section
variable {A A' B : Hp} {w w' wB : Lb} {X : Nat → Prop} {b p q s a v r bl mk C V R Bn P c u : Nat} {vO rO acO bO : Nat → Nat} {S S' : Nat → Int32}
theorem WP.fr (h : WP A w b p S q s a v r bl mk vO rO acO bO C V R Bn P) (k : Fr A w A' w' X c u) (hx : ∀ l, l < 1000 → ¬ X (1000 * b + l)) (h0 : ¬ X 0) : WP A' w' b p S q s a v r bl mk vO rO acO bO C V R Bn P := by
  obtain ⟨h1, h2, h3, h4, h5, h6, h7, h8⟩ := h
  exact ⟨h1.fr k (hx 0 (by decide)), h2.fr k (hx 1 (by decide)), h3.fr k (hx 2 (by decide)) (hx 3 (by decide)) (hx 4 (by decide)) h0, h4.fr k (hx 5 (by decide)) (fun i hi => hx _ (by omega)), h5.fr k (hx 6 (by decide)) (fun i hi => hx _ (by omega)), h6.fr k (hx 7 (by decide)) h0 (fun i hi => hx _ (by omega)), h7.fr k (hx 8 (by decide)) h0 (fun i hi => hx _ (by omega)), h8.fr k (hx 9 (by decide)) h0⟩
end
