/-! the row of a world when a trip is billed -/
section
variable {S S' : Nat → Int32} {G D C V R R' Bn P i : Nat} {t : Tp}
theorem n_mulS {a b : Nat} {x y : Int32} (hx : x = nI a) (hy : y = nI b) : x * y = nI (a * b) := by rw [hx, hy, n_mul]
/-- the row stays one of a world -/
theorem SI.bt (h : SI S G D C V R Bn P) (hi : i < V) (tb : TpB S G R i t) (hB : Bn < 60) (r : BtR S i Bn P t S') : SI S' G D C V R (Bn + 1) (P + t.ps.length) := by
  have R120 := h.bR
  have V15 := h.bV
  have C8 := h.bC
  have net := h.net
  have G12 := net.G12
  have D40 := net.R40
  have lo := r.lo
  refine ⟨(lo 8 (by omega) (by omega) (by omega)).trans h.c8, (lo 9 (by omega) (by omega) (by omega)).trans h.c9, (lo 10 (by omega) (by omega) (by omega)).trans h.c10, (lo 11 (by omega) (by omega) (by omega)).trans h.c11, (lo 12 (by omega) (by omega) (by omega)).trans h.c12, r.c13, r.c14, C8, V15, R120, by omega, ⟨G12, D40, fun j hj => ?_, fun j hj => ?_, fun j hj => ?_⟩, fun k hk => ?_, fun c hc => ?_, fun j h1 h2 => ?_, fun v hv => ?_, fun j hj => ?_, ?_⟩
  · rw [lo _ (by omega) (by omega) (by omega)]; exact net.mi j hj
  · rw [lo _ (by omega) (by omega) (by omega)]; exact net.tl j hj
  · rw [lo _ (by omega) (by omega) (by omega)]; exact net.ms j hj
  · rw [lo k (by omega) (by omega) (by omega)]; exact h.st k hk
  · rw [r.a1 c (by omega)]; exact h.ac c hc
  · refine (r.az j (by omega) h2 ?_).trans (h.az j h1 h2)
    rcases (h.vh i hi).2 with z | ⟨c, c1, c2⟩
    · exact Or.inl z
    · refine Or.inr (Or.inr ?_)
      have : acN S i = c := by unfold acN; rw [c2, n_cl (by omega)]
      omega
  · obtain ⟨a, b⟩ := r.v0 v (by omega)
    rw [a, b]
    exact h.vh v hv
  · obtain ⟨g1, g2, g3, g4, g5, g6, g7⟩ := h.rs j hj
    have e0 : S' (280 + 7 * j) = S (280 + 7 * j) := r.ro j 0 (by omega) (by decide) (fun _ => by decide)
    have e1 := r.ro j 1 (by omega) (by decide) (fun _ => by decide)
    have e2 := r.ro j 2 (by omega) (by decide) (fun _ => by decide)
    have e3 := r.ro j 3 (by omega) (by decide) (fun _ => by decide)
    have e4 := r.ro j 4 (by omega) (by decide) (fun _ => by decide)
    by_cases hm : j ∈ t.rs
    · obtain ⟨e5, e6⟩ := r.ri j hm
      exact ⟨by rw [e0]; exact g1, by rw [e1]; exact g2, by rw [e2]; exact g3, by rw [e3]; exact g4, by rw [e4]; exact g5, ⟨3, by decide, e5⟩, Or.inr ⟨e5, Bn, Nat.lt_succ_self _, e6⟩⟩
    · have e5 := r.ro j 5 (by omega) (by decide) (fun z => absurd z hm)
      have e6 := r.ro j 6 (by omega) (by decide) (fun z => absurd z hm)
      refine ⟨by rw [e0]; exact g1, by rw [e1]; exact g2, by rw [e2]; exact g3, by rw [e3]; exact g4, by rw [e4]; exact g5, by rw [e5]; exact g6, ?_⟩
      rw [e5, e6]
      rcases g7 with z | ⟨z1, k, z2, z3⟩
      · exact Or.inl z
      · exact Or.inr ⟨z1, k, by omega, z3⟩
  · have hc : cN (fun j => decide (S' (280 + 7 * j + 5) = nI 3)) R = cN (fun j => decide (S (280 + 7 * j + 5) = nI 3)) R + t.rs.length := by
      rw [← cN_list t.rs tb.nd (fun x hx => (tb.rs x hx).1), ← cN_add R (fun j hj z => by
        have z1 := of_decide_eq_true z.1
        have z2 := of_decide_eq_true z.2
        rw [(tb.rs j z2).2.2] at z1
        exact absurd z1 (by decide))]
      refine cN_congr R (fun j hj => ?_)
      by_cases hm : j ∈ t.rs
      · rw [(r.ri j hm).1, decide_eq_true rfl, decide_eq_true hm, Bool.or_true]
      · rw [r.ro j 5 (by omega) (by decide) (fun z => absurd z hm), decide_eq_false hm, Bool.or_false]
    rw [hc]
    have := h.pb
    have := tb.lp
    omega
/-- older bills stay what they are -/
theorem SI.agB (h : SI S G D C V R Bn P) (tb : TpB S G R i t) (hB : Bn < 60) (r : BtR S i Bn P t S') : AgB S S' Bn R R := by
  obtain ⟨k8, k9, k10, k11, k12, k13, kP, k14⟩ := h.k12
  have R120 := h.bR
  have lo := r.lo
  have P720 := kP
  have lp := tb.lp
  have hlen : t.rs.length ≤ R := by
    have := cN_list t.rs tb.nd (fun x hx => (tb.rs x hx).1)
    have := cN_le (p := fun j => decide (j ∈ t.rs)) R
    omega
  have e14 : cS S' 14 = P + t.ps.length := by unfold cS; rw [r.c14]; exact n_cl (by omega)
  refine ⟨fun k j hk hj _ _ => r.bo _ (by omega) (by omega), fun k hk => r.po k (by omega), by omega, fun j hj h3 k hk => ?_, fun j k hj hk hz => ⟨hj, ?_⟩, Nat.le_refl _, ?_, ?_, ?_⟩
  · refine r.ro j k (by omega) hk (fun hm => ?_)
    rw [(tb.rs j hm).2.2] at h3
    exact absurd h3 (by decide)
  · by_cases hm : j ∈ t.rs
    · rw [(r.ri j hm).2] at hz
      have := (nI_eq (by omega) (by omega)).mp hz
      omega
    · rw [← r.ro j 6 (by omega) (by decide) (fun z => absurd z hm)]; exact hz
  · unfold cS; rw [lo 8 (by omega) (by omega) (by omega)]; exact Nat.le_refl _
  · unfold cS; rw [lo 10 (by omega) (by omega) (by omega)]; exact Nat.le_refl _
  · unfold cS; rw [lo 11 (by omega) (by omega) (by omega)]; exact Nat.le_refl _
theorem blH_v {pr0 : Int32} : blH S i Bn t pr0 (1120 + 18 * Bn) = nI i := by
  unfold blH
  rw [upd_ne (by omega), upd_ne (by omega), upd_ne (by omega), upd_ne (by omega), upd_ne (by omega), upd_ne (by omega), upd_ne (by omega), upd_ne (by omega), upd_ne (by omega), upd_ne (by omega), upd_ne (by omega), upd_ne (by omega), upd_ne (by omega), upd_ne (by omega), upd_ne (by omega), upd_ne (by omega), upd_is rfl]
theorem blH_k {pr0 : Int32} : ∀ k, k < 18 → k ≠ 15 → blH S i Bn t pr0 (1120 + 18 * Bn + k) = if k = 0 then nI i else if k = 1 then S (235 + 3 * i + 1) else if k = 2 then amtV S i t pr0 else if k = 3 then tllV S i t else if k = 4 then tllV S i t * pr0 / nI 100 else if k = 5 then S 6 * nI (imgN S t.rs) else if k = 6 then fstT S t else if k = 7 then lstT S t else if k = 8 then nI t.ps.length else if k = 9 then nI (misN t.ps) else if k = 10 then nI t.rs.length else if k = 11 then nI 0 else if k = 12 then nI 0 else if k = 13 then S (235 + 3 * i) else if k = 14 then pr0 else if k = 16 then invV S i else nI (imgN S t.rs) := by
  intro k hk h15
  unfold blH upd
  generalize amtV S i t pr0 = z1
  generalize tllV S i t = z2
  generalize fstT S t = z3
  generalize lstT S t = z4
  generalize S 6 * nI (imgN S t.rs) = z5
  generalize invV S i = z6
  generalize imgN S t.rs = z7
  generalize misN t.ps = z8
  grind (splits := 60)
end
