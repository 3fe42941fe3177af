/-! the component's World.dispute; changes of one part of a world -/
section
variable {A A' B : Hp} {w w' wB : Lb} {X : Nat → Prop} {b p q s a v r bl mk C V R Bn P c u N n i g0 tp G D T k e y l : Nat} {vO rO acO bO tO aO : Nat → Nat} {S S' Z f : Nat → Int32} {t : Tp} {z sz un w0 x : Int32}
theorem cS_c {k : Nat} (h : S' k = S k) : cS S' k = cS S k := by unfold cS; rw [h]
theorem AgB.hi (h : ∀ j, 280 ≤ j → S' j = S j) (h8 : S' 8 = S 8) (h10 : S' 10 = S 10) (h11 : S' 11 = S 11) (h14 : S' 14 = S 14) : AgB S S' Bn R R :=
  ⟨fun i k _ _ _ _ => h _ (by omega), fun k _ => h _ (by omega), by rw [cS_c h14]; exact Nat.le_refl _, fun j _ _ k _ => h _ (by omega), fun j i hj _ hz => ⟨hj, by rw [← h _ (by omega)]; exact hz⟩, Nat.le_refl _, by rw [cS_c h8]; exact Nat.le_refl _, by rw [cS_c h10]; exact Nat.le_refl _, by rw [cS_c h11]; exact Nat.le_refl _⟩
theorem vhF_all {k : Nat} (hk : k < 6) (h : ∀ j, (j < 187 ∨ 235 ≤ j) → S' j = S j) : vhF S' i k = vhF S i k := by
  rw [vhF_ag (S := S) (z := vhF S i 2) (am := vhF S i 5) (h 12 (by omega)) (h _ (by omega)) (h _ (by omega)) (by rw [vhF_2]; exact h _ (by omega)) (fun j h1 h2 => h j (by omega)) (vhF_5ag (h 13 (by omega)) (fun j hj => h _ (by omega))) k hk]
  exact ite25
/-- the accounts change, nothing else -/
theorem WP.ra (h : WP A w b p S q s a v r bl mk vO rO acO bO C V R Bn P) (fr : Fr A w A' w' X c u) (hx : ∀ l, l < 1000 → (l < 5 ∨ (5 < l ∧ l < 20) ∨ 28 ≤ l) → ¬ X (1000 * b + l)) (h0 : ¬ X 0) (hS : ∀ j, (j < 187 ∨ 235 ≤ j) → S' j = S j) (hR : cS S 9 ≤ 40) (hA : WAc A' w' b a C acO S') : WP A' w' b p S' q s a v r bl mk vO rO acO bO C V R Bn P := by
  obtain ⟨h1, h2, h3, h4, h5, h6, h7, h8⟩ := h
  have n60 := h7.n60
  have n120 := h6.n120
  exact ⟨h1.fr fr (hx 0 (by decide) (by omega)), (h2.fr fr (hx 1 (by decide) (by omega))).sc (fun k hk => hS k (by omega)), (h3.fr fr (hx 2 (by decide) (by omega)) (hx 3 (by decide) (by omega)) (hx 4 (by decide) (by omega)) h0).sc hR (hS 8 (by omega)) (hS 9 (by omega)) (fun k h1 h2 => hS k (by omega)), hA, (h5.fr fr (hx 6 (by decide) (by omega)) (fun i hi => hx _ (by omega) (by omega))).sc (fun i k hi hk => vhF_all hk hS), (h6.fr fr (hx 7 (by decide) (by omega)) h0 (fun i hi => hx _ (by omega) (by omega))).sc (fun j h1 h2 => hS j (by omega)), (h7.fr fr (hx 8 (by decide) (by omega)) h0 (fun i hi => hx _ (by omega) (by omega))).sc (AgB.hi (fun j hj => hS j (by omega)) (hS 8 (by omega)) (hS 10 (by omega)) (hS 11 (by omega)) (hS 14 (by omega))) (fun i hi => ⟨hS _ (by omega), hS _ (by omega)⟩), (h8.fr fr (hx 9 (by decide) (by omega)) h0).sc (fun k hk => hS _ (by omega))⟩
/-- the vehicles change, nothing else -/
theorem WP.rv (h : WP A w b p S q s a v r bl mk vO rO acO bO C V R Bn P) (fr : Fr A w A' w' X c u) (hx : ∀ l, l < 1000 → (l < 40 ∨ 55 ≤ l) → ¬ X (1000 * b + l)) (h0 : ¬ X 0) (hS : ∀ j, (j < 235 ∨ 280 ≤ j) → S' j = S j) (hR : cS S 9 ≤ 40) (hV : WVh A' w' b v V vO S') : WP A' w' b p S' q s a v r bl mk vO rO acO bO C V R Bn P := by
  obtain ⟨h1, h2, h3, h4, h5, h6, h7, h8⟩ := h
  have n60 := h7.n60
  have n120 := h6.n120
  exact ⟨h1.fr fr (hx 0 (by decide) (by omega)), (h2.fr fr (hx 1 (by decide) (by omega))).sc (fun k hk => hS k (by omega)), (h3.fr fr (hx 2 (by decide) (by omega)) (hx 3 (by decide) (by omega)) (hx 4 (by decide) (by omega)) h0).sc hR (hS 8 (by omega)) (hS 9 (by omega)) (fun k h1 h2 => hS k (by omega)), (h4.fr fr (hx 5 (by decide) (by omega)) (fun i hi => hx _ (by omega) (by omega))).sc (fun k h1 h2 => hS k (by omega)), hV, (h6.fr fr (hx 7 (by decide) (by omega)) h0 (fun i hi => hx _ (by omega) (by omega))).sc (fun j h1 h2 => hS j (by omega)), (h7.fr fr (hx 8 (by decide) (by omega)) h0 (fun i hi => hx _ (by omega) (by omega))).sc (AgB.hi (fun j hj => hS j (by omega)) (hS 8 (by omega)) (hS 10 (by omega)) (hS 11 (by omega)) (hS 14 (by omega))) (fun i hi => ⟨hS _ (by omega), hS _ (by omega)⟩), (h8.fr fr (hx 9 (by decide) (by omega)) h0).sc (fun k hk => hS _ (by omega))⟩
/-- a row that changes where no bound is asked -/
theorem SI.to (h : SI S G D C V R Bn P) (h1 : ∀ j, j < 187 → S' j = S j) (h2 : ∀ c, c < C → S' (187 + 6 * c + 1) = S (187 + 6 * c + 1)) (h3 : ∀ j, 187 + 6 * C ≤ j → j < 235 → S' j = S j) (h4 : ∀ v, v < V → S' (235 + 3 * v) = S (235 + 3 * v) ∧ S' (235 + 3 * v + 1) = S (235 + 3 * v + 1)) (h5 : ∀ j, 280 ≤ j → j < 1120 → S' j = S j) : SI S' G D C V R Bn P := by
  have b1 := h.bC
  have b2 := h.bV
  have b3 := h.bR
  have net := h.net
  have G12 := net.G12
  have D40 := net.R40
  refine ⟨(h1 8 (by omega)).trans h.c8, (h1 9 (by omega)).trans h.c9, (h1 10 (by omega)).trans h.c10, (h1 11 (by omega)).trans h.c11, (h1 12 (by omega)).trans h.c12, (h1 13 (by omega)).trans h.c13, (h1 14 (by omega)).trans h.c14, b1, b2, b3, h.bB, ⟨G12, D40, fun j hj => ?_, fun j hj => ?_, fun j hj => ?_⟩, fun k hk => ?_, fun c hc => ?_, fun j q1 q2 => ?_, fun v hv => ?_, fun j hj => ?_, ?_⟩
  · rw [h1 _ (by omega)]; exact net.mi j hj
  · rw [h1 _ (by omega)]; exact net.tl j hj
  · rw [h1 _ (by omega)]; exact net.ms j hj
  · rw [h1 k (by omega)]; exact h.st k hk
  · rw [h2 c hc]; exact h.ac c hc
  · exact (h3 j q1 q2).trans (h.az j q1 q2)
  · rw [(h4 v hv).1, (h4 v hv).2]; exact h.vh v hv
  · obtain ⟨g1, g2, g3, g4, g5, g6, g7⟩ := h.rs j hj
    have e0 : S' (280 + 7 * j) = S (280 + 7 * j) := h5 _ (by omega) (by omega)
    exact ⟨by rw [e0]; exact g1, by rw [h5 _ (by omega) (by omega)]; exact g2, by rw [h5 _ (by omega) (by omega)]; exact g3, by rw [h5 _ (by omega) (by omega)]; exact g4, by rw [h5 _ (by omega) (by omega)]; exact g5, by rw [h5 _ (by omega) (by omega)]; exact g6, by rw [h5 (280 + 7 * j + 5) (by omega) (by omega), h5 (280 + 7 * j + 6) (by omega) (by omega)]; exact g7⟩
  · have e : cN (fun j => decide (S' (280 + 7 * j + 5) = nI 3)) R = cN (fun j => decide (S (280 + 7 * j + 5) = nI 3)) R := cN_congr R (fun j hj => by rw [h5 _ (by omega) (by omega)])
    rw [e]; exact h.pb
/-- a bill's dispute is noted -/
theorem WP.di (h : WP A w b p S q s a v r bl mk vO rO acO bO C V R Bn P) (si : SI S G D C V R Bn P) (hi : i < Bn) (z x : Int32) : WP (setf (setf A (bO i) 141 (.int z)) (bO i) 142 (.int x)) w b p (upd (upd S (1120 + 18 * i + 11) z) (1120 + 18 * i + 12) x) q s a v r bl mk vO rO acO bO C V R Bn P ∧ SI (upd (upd S (1120 + 18 * i + 11) z) (1120 + 18 * i + 12) x) G D C V R Bn P ∧ Fr A w (setf (setf A (bO i) 141 (.int z)) (bO i) 142 (.int x)) w (fun l => l = 1000 * b + (300 + i)) 0 0 ∧ gf A (bO i) 141 = some (.int (S (1120 + 18 * i + 11))) ∧ gf (setf A (bO i) 141 (.int z)) (bO i) 142 = some (.int (S (1120 + 18 * i + 12))) := by
  have B60 := si.bB
  have R120 := si.bR
  have D40 := si.net.R40
  obtain ⟨k8, k9, k10, k11, k12, k13, kP, k14⟩ := si.k12
  obtain ⟨h1, h2, h3, h4, h5, h6, h7, h8⟩ := h
  have hU : ∀ j, j ≠ 1120 + 18 * i + 11 → j ≠ 1120 + 18 * i + 12 → upd (upd S (1120 + 18 * i + 11) z) (1120 + 18 * i + 12) x j = S j := fun j q1 q2 => by rw [upd_ne q2, upd_ne q1]
  obtain ⟨T, t, aO, o1, o2, o3, o4⟩ := h7.o i hi
  have oS := (o1.set 8 (by decide) z).set 9 (by decide) x
  have fr : Fr A w (setf (setf A (bO i) 141 (.int z)) (bO i) 142 (.int x)) w (fun l => l = 1000 * b + (300 + i)) 0 0 := (Fr.stf (X := fun l => l = 1000 * b + (300 + i)) o1.wy).trans (Fr.stf (X := fun l => l = 1000 * b + (300 + i)) o1.wy)
  have ag : AgB S (upd (upd S (1120 + 18 * i + 11) z) (1120 + 18 * i + 12) x) Bn R R := ⟨fun j k hj hk q1 q2 => hU _ (by omega) (by omega), fun k _ => hU _ (by omega) (by omega), by rw [cS_c (hU 14 (by omega) (by omega))]; exact Nat.le_refl _, fun j hj _ k hk => hU _ (by omega) (by omega), fun j k hj _ hz => ⟨hj, by rw [← hU _ (by omega) (by omega)]; exact hz⟩, Nat.le_refl _, by rw [cS_c (hU 8 (by omega) (by omega))]; exact Nat.le_refl _, by rw [cS_c (hU 10 (by omega) (by omega))]; exact Nat.le_refl _, by rw [cS_c (hU 11 (by omega) (by omega))]; exact Nat.le_refl _⟩
  have g141 : gf A (bO i) 141 = some (.int (S (1120 + 18 * i + 11))) := o1.gs 8 (by decide) (by decide)
  refine ⟨⟨h1.fr fr (by omega), (h2.fr fr (by omega)).sc (fun k hk => hU k (by omega) (by omega)), (h3.fr fr (by omega) (by omega) (by omega) (by omega)).sc (by rw [k9]; exact D40) (hU 8 (by omega) (by omega)) (hU 9 (by omega) (by omega)) (fun k q1 q2 => hU k (by omega) (by omega)), (h4.fr fr (by omega) (fun j hj => by omega)).sc (fun k q1 q2 => hU k (by omega) (by omega)), (h5.fr fr (by omega) (fun j hj => by omega)).sc (fun j k hj hk => ?_), (h6.fr fr (by omega) (by omega) (fun j hj => by omega)).sc (fun j q1 q2 => hU j (by omega) (by omega)), ⟨h7.l.fr fr (by omega), B60, fun j hj => ?_⟩, (h8.fr fr (by omega) (by omega)).sc (fun k hk => hU _ (by omega) (by omega))⟩, si.to (fun j hj => hU j (by omega) (by omega)) (fun c hc => hU _ (by omega) (by omega)) (fun j q1 q2 => hU j (by omega) (by omega)) (fun v hv => ⟨hU _ (by omega) (by omega), hU _ (by omega) (by omega)⟩) (fun j q1 q2 => hU j (by omega) (by omega)), fr, g141, ?_⟩
  · rw [vhF_ag (S := S) (z := vhF S j 2) (am := vhF S j 5) (hU 12 (by omega) (by omega)) (hU _ (by omega) (by omega)) (hU _ (by omega) (by omega)) (by rw [vhF_2]; exact hU _ (by omega) (by omega)) (fun j h1 h2 => hU j (by omega) (by omega)) (vhF_5ag (hU 13 (by omega) (by omega)) (fun j hj => hU _ (by omega) (by omega))) k hk]
    exact ite25
  · by_cases e : j = i
    · subst e
      have e13 : upd (upd S (1120 + 18 * j + 11) z) (1120 + 18 * j + 12) x (1120 + 18 * j + 13) = S (1120 + 18 * j + 13) := hU _ (by omega) (by omega)
      refine ⟨T, t, aO, oS.too (fun k hk q7 => ?_), by rw [e13]; exact o2.fr fr (by omega) (by omega) (by omega) (by omega), fun y hy => ((o3 y hy).fr fr (by omega)).to (rdFn_c (fun k hk => hU _ (by have := (o4.rs y hy).1; omega) (by have := (o4.rs y hy).1; omega))), o4.sc ag hj⟩
      have b11 : upd (upd S (1120 + 18 * j + 11) z) (1120 + 18 * j + 12) x (1120 + 18 * j + 11) = z := by rw [upd_ne (by omega), upd_is rfl]
      have b12 : upd (upd S (1120 + 18 * j + 11) z) (1120 + 18 * j + 12) x (1120 + 18 * j + 12) = x := upd_is rfl
      unfold blF
      rw [b11, b12, hU (1120 + 18 * j) (by omega) (by omega), hU (1120 + 18 * j + 1) (by omega) (by omega), hU (1120 + 18 * j + 2) (by omega) (by omega), hU (1120 + 18 * j + 3) (by omega) (by omega), hU (1120 + 18 * j + 14) (by omega) (by omega), hU (1120 + 18 * j + 5) (by omega) (by omega), hU (1120 + 18 * j + 16) (by omega) (by omega)]
      have : k = 0 ∨ k = 1 ∨ k = 2 ∨ k = 3 ∨ k = 4 ∨ k = 5 ∨ k = 6 ∨ k = 8 ∨ k = 9 := by omega
      rcases this with e | e | e | e | e | e | e | e | e <;> subst e <;> rfl
    · exact ((h7.o j hj).fr fr (by omega) (by omega)).sc ag hj (hU _ (by omega) (by omega)) (hU _ (by omega) (by omega))
  · rw [gf_setf_ne (by decide)]
    exact o1.gs 9 (by decide) (by decide)
end
