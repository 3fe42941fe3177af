/-! trips as they are billed: whose reads they are -/
def catR (T : Nat → Tp) : Nat → List Nat
  | 0 => []
  | n + 1 => catR T n ++ (T n).rs
theorem catR_congr {T T' : Nat → Tp} : ∀ (n : Nat), (∀ k, k < n → T k = T' k) → catR T n = catR T' n
  | 0, _ => rfl
  | n + 1, h => by
    unfold catR
    rw [catR_congr n (fun k hk => h k (by omega)), h n (by omega)]
theorem catR_s {T : Nat → Tp} {n : Nat} : catR T (n + 1) = catR T n ++ (T n).rs := rfl
theorem lay_cat {S : Nat → Int32} {G D : Nat} : ∀ (n : Nat) (l : List Nat), l.length = n → catR (lay S G D l).2 (lay S G D l).1 = l
  | 0, l, h => by
    rw [List.length_eq_zero_iff.mp h]
    rfl
  | n + 1, l, h => by
    obtain ⟨l', x, rfl⟩ : ∃ l' x, l = l' ++ [x] := by
      have hne : l ≠ [] := fun z => by rw [z] at h; cases h
      exact ⟨l.dropLast, l.getLast hne, (List.dropLast_concat_getLast hne).symm⟩
    have hl : l'.length = n := by simp at h; exact h
    have ih := lay_cat (S := S) (G := G) (D := D) n l' hl
    rw [lay_snoc]
    unfold lyS
    by_cases z : (lay S G D l').1 = 0
    · rw [if_pos z]
      rw [z] at ih
      have ih : [] = l' := ih
      show catR (upT (lay S G D l').2 0 (tpN S x)) 0 ++ (upT (lay S G D l').2 0 (tpN S x) 0).rs = l' ++ [x]
      rw [upT_is rfl, ← ih]
      rfl
    · rw [if_neg z]
      obtain ⟨m, em⟩ : ∃ m, (lay S G D l').1 = m + 1 := ⟨(lay S G D l').1 - 1, by omega⟩
      rw [em] at ih ⊢
      have e1 : m + 1 - 1 = m := rfl
      rw [e1]
      cases hk : tpK S G D ((lay S G D l').2 m) x with
      | none =>
        show catR (upT (lay S G D l').2 (m + 1) (tpN S x)) (m + 1) ++ (upT (lay S G D l').2 (m + 1) (tpN S x) (m + 1)).rs = l' ++ [x]
        rw [upT_is rfl, catR_congr (T' := (lay S G D l').2) (m + 1) (fun k hk => upT_ne (by omega)), ih]
        rfl
      | some t' =>
        show catR (upT (lay S G D l').2 m t') m ++ (upT (lay S G D l').2 m t' m).rs = l' ++ [x]
        rw [upT_is rfl, catR_congr (T' := (lay S G D l').2) m (fun k hk => upT_ne (by omega)), tpK_rs hk, ← List.append_assoc]
        have : catR (lay S G D l').2 m ++ ((lay S G D l').2 m).rs = l' := ih
        rw [this]
theorem catR_mem {T : Nat → Tp} {n x : Nat} : ∀ {N : Nat}, n < N → x ∈ (T n).rs → x ∈ catR T N
  | 0, h, _ => absurd h (Nat.not_lt_zero _)
  | N + 1, h, hx => by
    rw [catR_s]
    by_cases z : n = N
    · rw [z] at hx; exact List.mem_append_right _ hx
    · exact List.mem_append_left _ (catR_mem (by omega) hx)
theorem catR_nd {T : Nat → Tp} {n : Nat} : ∀ {N : Nat}, n < N → (catR T N).Nodup → (T n).rs.Nodup
  | 0, h, _ => absurd h (Nat.not_lt_zero _)
  | N + 1, h, hx => by
    rw [catR_s] at hx
    obtain ⟨h1, h2, h3⟩ := List.nodup_append.mp hx
    by_cases z : n = N
    · rw [z]; exact h2
    · exact catR_nd (by omega) h1
theorem catR_dis {T : Nat → Tp} {n m x : Nat} : ∀ {N : Nat}, n < m → m < N → (catR T N).Nodup → x ∈ (T n).rs → x ∈ (T m).rs → False
  | 0, _, h, _, _, _ => absurd h (Nat.not_lt_zero _)
  | N + 1, hnm, h, hx, a, b => by
    rw [catR_s] at hx
    obtain ⟨h1, h2, h3⟩ := List.nodup_append.mp hx
    by_cases z : m = N
    · rw [z] at b
      exact h3 x (catR_mem (by omega) a) x b rfl
    · exact catR_dis hnm (by omega) h1 a b
/-- the trips of a vehicle can be billed, in any order -/
abbrev TsB (S : Nat → Int32) (G R i c N : Nat) (T : Nat → Tp) : Prop := (∀ n, c ≤ n → n < N → TpB S G R i (T n)) ∧ (∀ n m x, n < N → m < N → n ≠ m → x ∈ (T n).rs → x ∈ (T m).rs → False)
theorem TsB.tb {S : Nat → Int32} {G R i c N : Nat} {T : Nat → Tp} (hse1f : TsB S G R i c N T) : ∀ n, c ≤ n → n < N → TpB S G R i (T n) := hse1f.1
theorem TsB.di {S : Nat → Int32} {G R i c N : Nat} {T : Nat → Tp} (hse1f : TsB S G R i c N T) : ∀ n m x, n < N → m < N → n ≠ m → x ∈ (T n).rs → x ∈ (T m).rs → False := hse1f.2
section
variable {S S' : Nat → Int32} {G D C V R R' Bn P i c N : Nat} {t : Tp} {T : Nat → Tp}
theorem SI.tsb (h : SI S G D C V R Bn P) (hi : i < V) : TsB S G R i 0 (tps S G D R (nI i)).1 (tps S G D R (nI i)).2 := by
  have R120 := h.bR
  have om := ordL_ok' S (nI i) R
  have ok := h.ly
  have hc := lay_cat (S := S) (G := G) (D := D) _ (ordL S (nI i) R) rfl
  have hl : ∀ x, x ∈ ordL S (nI i) R → x < R := fun x hx => ((om.mem x).mp hx).1
  have nd : (catR (tps S G D R (nI i)).2 (tps S G D R (nI i)).1).Nodup := by
    show (catR (lay S G D (ordL S (nI i) R)).2 (lay S G D (ordL S (nI i) R)).1).Nodup
    rw [hc]; exact om.nd
  refine ⟨fun n _ hn => ?_, fun n m x hn hm hne a b => ?_⟩
  · have ti := lay_ok ok hl om.srt n hn
    have rl := (lay_b ok hl om.srt).2 n hn
    obtain ⟨cc, c1, c2⟩ := ti.to
    have lp := ti.len
    have ol := om.len
    have r2 := rl.2
    have hlen : ((tps S G D R (nI i)).2 n).rs.length ≤ 120 := Nat.le_trans (Nat.le_trans r2 ol) R120
    refine ⟨fun x hx => (om.mem x).mp (ti.mem x hx), catR_nd hn nd, fun z => ?_, lp, ti.ps, ⟨cc, c1, ?_⟩, ti.mk⟩
    · have e : ((lay S G D (ordL S (nI i) R)).2 n).rs.length = 0 := by
        have : ((lay S G D (ordL S (nI i) R)).2 n).rs = [] := z
        rw [this]; rfl
      rw [e] at lp
      omega
    · exact Nat.le_trans c2 (Nat.le_trans (Nat.mul_le_mul_left 5994 hlen) (by decide))
  · rcases Nat.lt_or_gt_of_ne hne with z | z
    · exact catR_dis z hm nd a b
    · exact catR_dis z hn nd b a
theorem TsB.next (h : TsB S G R i c N T) (hc : c < N) (hR : R ≤ 120) (r : BtR S i Bn P (T c) S') : TsB S' G R i (c + 1) N T := by
  refine ⟨fun n h1 h2 => ?_, h.di⟩
  obtain ⟨a1, a2, a3, a4, a5, a6, a7⟩ := h.tb n (by omega) h2
  have no : ∀ x, x ∈ (T n).rs → ¬ x ∈ (T c).rs := fun x hx hz => h.di n c x h2 hc (by omega) hx hz
  have e0 : ∀ x, x ∈ (T n).rs → ∀ k, k < 7 → S' (280 + 7 * x + k) = S (280 + 7 * x + k) := fun x hx k hk => r.ro x k (by have := (a1 x hx).1; omega) hk (fun z => absurd z (no x hx))
  have eg : ∀ x, x ∈ (T n).rs → gN S' x = gN S x := fun x hx => by unfold gN; rw [e0 x hx 1 (by decide)]
  have mkc : ∀ (rs : List Nat) (g : Nat) (ps : List (Nat × Bool)), (∀ j, j ∈ rs → gN S' j = gN S j) → Mk S g rs ps → Mk S' g rs ps := by
    intro rs
    induction rs with
    | nil => intro g ps _ h; exact h
    | cons x rs ih =>
      intro g ps h hM
      have hx0 := h x List.mem_cons_self
      rcases hM with ⟨m1, m2⟩ | ⟨m1, pre, rest, m2, m3, m4⟩
      · exact Or.inl ⟨by rw [hx0]; exact m1, ih _ _ (fun j hj => h j (List.mem_cons_of_mem _ hj)) m2⟩
      · refine Or.inr ⟨by rw [hx0]; exact m1, pre, rest, by rw [hx0]; exact m2, by rw [hx0]; exact m3, ?_⟩
        rw [hx0]
        exact ih _ _ (fun j hj => h j (List.mem_cons_of_mem _ hj)) m4
  refine ⟨fun x hx => ?_, a2, a3, a4, a5, a6, ?_⟩
  · obtain ⟨b1, b2, b3⟩ := a1 x hx
    have z0 : S' (280 + 7 * x) = S (280 + 7 * x) := e0 x hx 0 (by decide)
    exact ⟨b1, z0.trans b2, (e0 x hx 5 (by decide)).trans b3⟩
  · obtain ⟨r0, rs0, ps0, k1, k2, k3⟩ := a7
    have h0 := eg r0 (by rw [k1]; exact List.mem_cons_self)
    exact ⟨r0, rs0, ps0, k1, by rw [h0]; exact k2, by rw [h0]; exact mkc _ _ _ (fun j hj => eg j (by rw [k1]; exact List.mem_cons_of_mem _ hj)) k3⟩
end
