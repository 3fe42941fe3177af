/-! TreeMap: balancing keeps the tree -/
/-- a tree with its root, its nodes in order -/
def TrF (L R P : Lk) (rt : Option Nat) (l : List Nat) : Prop := (∃ f, isT L R P f none rt l) ∧ l.Nodup
/-- steps to the root -/
def PL (P : Lk) (rt : Option Nat) : Nat → Nat → Prop
  | x, 0 => rt = some x
  | x, n + 1 => ∃ y, P x = some y ∧ PL P rt y n
section
variable {L R P : Lk} {rt : Option Nat} {l : List Nat} {x y z p q n k : Nat}
theorem TrF.par (h : TrF L R P rt l) (hx : x ∈ l) (hr : rt ≠ some x) : ∃ y, y ∈ l ∧ P x = some y ∧ (L y = some x ∨ R y = some x) := by
  obtain ⟨⟨f, h⟩, _⟩ := h
  rcases isT_P h x hx with ⟨a, _⟩ | b
  · exact absurd a hr
  · exact b
theorem TrF.lf (h : TrF L R P rt l) (hx : x ∈ l) (e : L x = some y) : y ∈ l ∧ P y = some x := by
  obtain ⟨⟨f, h⟩, _⟩ := h
  exact isT_L h x y hx e
theorem TrF.rg (h : TrF L R P rt l) (hx : x ∈ l) (e : R x = some y) : y ∈ l ∧ P y = some x := by
  obtain ⟨⟨f, h⟩, _⟩ := h
  exact isT_R h hx e
theorem TrF.root (h : TrF L R P rt l) (e : rt = some x) : x ∈ l ∧ P x = none := by
  obtain ⟨⟨f, h⟩, _⟩ := h
  subst e
  refine ⟨isT_root h, ?_⟩
  cases f with
  | zero => cases h.1
  | succ f => exact h.1
theorem PL_uq (h0 : ∀ x, rt = some x → P x = none) : ∀ {n k x : Nat}, PL P rt x n → PL P rt x k → n = k
  | 0, 0, _, _, _ => rfl
  | 0, k + 1, x, h, h2 => by
    obtain ⟨y, a, _⟩ := h2
    rw [h0 x h] at a; cases a
  | n + 1, 0, x, h, h2 => by
    obtain ⟨y, a, _⟩ := h
    rw [h0 x h2] at a; cases a
  | n + 1, k + 1, x, h, h2 => by
    obtain ⟨y, a, b⟩ := h
    obtain ⟨y', a', b'⟩ := h2
    rw [a] at a'; cases a'
    rw [PL_uq h0 b b']
theorem isT_PL {P : Lk} {rt : Option Nat} {L R : Lk} : ∀ {f : Nat} {par s : Option Nat} {l : List Nat} {n : Nat}, isT L R P f par s l → (∀ y, s = some y → PL P rt y n) → ∀ x, x ∈ l → ∃ k, PL P rt x k
  | 0, _, _, _, _, h, _, x, hx => by rw [h.2] at hx; cases hx
  | f + 1, par, none, l, _, h, _, x, hx => by
    have h : l = [] := h
    rw [h] at hx; cases hx
  | f + 1, par, some p, l, n, h, hs, x, hx => by
    obtain ⟨h1, l1, l2, h2, h3, h4⟩ := h
    subst h2
    have hp := hs p rfl
    rcases List.mem_append.mp hx with q | q
    · refine isT_PL (n := n + 1) h3 (fun y e => ?_) x q
      refine ⟨p, ?_, hp⟩
      rw [e] at h3
      cases f with
      | zero => cases h3.1
      | succ f => exact h3.1
    · rcases List.mem_cons.mp q with rfl | q
      · exact ⟨n, hp⟩
      · refine isT_PL (n := n + 1) h4 (fun y e => ?_) x q
        refine ⟨p, ?_, hp⟩
        rw [e] at h4
        cases f with
        | zero => cases h4.1
        | succ f => exact h4.1
theorem TrF.depth (h : TrF L R P rt l) (hx : x ∈ l) : ∃ n, PL P rt x n := by
  obtain ⟨⟨f, h⟩, _⟩ := h
  exact isT_PL (n := 0) h (fun y e => e) x hx
theorem TrF.ac1 (h : TrF L R P rt l) (hx : x ∈ l) : P x ≠ some x := fun e => by
  obtain ⟨n, hn⟩ := h.depth hx
  have h0 : ∀ x, rt = some x → P x = none := fun x e => (h.root e).2
  have := PL_uq h0 hn (show PL P rt x (n + 1) from ⟨x, e, hn⟩)
  omega
theorem TrF.ac2 (h : TrF L R P rt l) (hx : x ∈ l) (e : P x = some y) : P y ≠ some x := fun e2 => by
  obtain ⟨n, hn⟩ := h.depth hx
  have h0 : ∀ x, rt = some x → P x = none := fun x e => (h.root e).2
  have := PL_uq h0 hn (show PL P rt x (n + 1 + 1) from ⟨y, e, ⟨x, e2, hn⟩⟩)
  omega
theorem TrF.turnL (h : TrF L R P rt l) (hp : p ∈ l) (hq : R p = some q) : TrF (rtL L R P p q).1 (rtL L R P p q).2.1 (rtL L R P p q).2.2 (if P p = none then some q else rt) l := by
  have h' := h
  obtain ⟨⟨f, h⟩, hn⟩ := h
  refine ⟨⟨f + 1, ?_⟩, hn⟩
  cases rt with
  | none => rw [isT_none.mp h] at hp; cases hp
  | some s =>
    have r := rtL_ok f none s l h hn (fun y e => by cases e) hp hq
    by_cases e : s = p
    · rw [if_pos e] at r
      rw [if_pos (by rw [← e]; exact (h'.root rfl).2)]
      exact r
    · rw [if_neg e] at r
      obtain ⟨y, _, e2, _⟩ := h'.par hp (fun z => e (Option.some.inj z))
      rw [if_neg (by rw [e2]; exact fun z => by cases z)]
      exact r
theorem TrF.turnR (h : TrF L R P rt l) (hp : p ∈ l) (hq : L p = some q) : TrF (rtR L R P p q).1 (rtR L R P p q).2.1 (rtR L R P p q).2.2 (if P p = none then some q else rt) l := by
  have h' := h
  obtain ⟨⟨f, h⟩, hn⟩ := h
  refine ⟨⟨f + 1, ?_⟩, hn⟩
  cases rt with
  | none => rw [isT_none.mp h] at hp; cases hp
  | some s =>
    have r := rtR_ok h hn (fun y e => by cases e) hp hq
    by_cases e : s = p
    · rw [if_pos e] at r
      rw [if_pos (by rw [← e]; exact (h'.root rfl).2)]
      exact r
    · rw [if_neg e] at r
      obtain ⟨y, _, e2, _⟩ := h'.par hp (fun z => e (Option.some.inj z))
      rw [if_neg (by rw [e2]; exact fun z => by cases z)]
      exact r
end
section
variable {A : Hp} {N : Nat → Bool} {m p q x d : Nat} {L R P : Lk} {C : Nat → Int32} {rt : Option Nat} {l : List Nat}
theorem m_66' (tn : TN A N m) (hN : ∀ y, y ∈ l → N y = true) (h : TrF L R P rt l) (hp : p ∈ l) (hR : R p = some q) : evG TB (d + 1) 66 [.ref m, .ref p] (tH A N m L R P C rt) = some (.inl none, tH A N m (rtL L R P p q).1 (rtL L R P p q).2.1 (rtL L R P p q).2.2 C (if P p = none then some q else rt)) := by
  obtain ⟨q1, q2⟩ := h.rg hp hR
  refine m_66 tn (hN p hp) (hN q q1) hR (fun e => h.ac1 q1 (by rw [q2, e])) (fun b hb => ?_) (fun g hg => ?_)
  · obtain ⟨b1, b2⟩ := h.lf q1 hb
    exact ⟨hN b b1, fun e => h.ac2 q1 q2 (by rw [← e]; exact b2)⟩
  · rcases hr : rt with _ | r
    · obtain ⟨⟨f, h1⟩, _⟩ := h
      rw [hr] at h1
      rw [isT_none.mp h1] at hp; cases hp
    · by_cases e : r = p
      · have := (h.root hr).2
        rw [e, hg] at this; cases this
      · obtain ⟨y, y1, y2, _⟩ := h.par hp (fun z => e (by rw [hr] at z; exact Option.some.inj z))
        rw [hg] at y2; cases y2
        exact hN g y1
theorem m_67' (tn : TN A N m) (hN : ∀ y, y ∈ l → N y = true) (h : TrF L R P rt l) (hp : p ∈ l) (hR : L p = some q) : evG TB (d + 1) 67 [.ref m, .ref p] (tH A N m L R P C rt) = some (.inl none, tH A N m (rtR L R P p q).1 (rtR L R P p q).2.1 (rtR L R P p q).2.2 C (if P p = none then some q else rt)) := by
  obtain ⟨q1, q2⟩ := h.lf hp hR
  refine m_67 tn (hN p hp) (hN q q1) hR (fun e => h.ac1 q1 (by rw [q2, e])) (fun b hb => ?_) (fun g hg => ?_)
  · obtain ⟨b1, b2⟩ := h.rg q1 hb
    exact ⟨hN b b1, fun e => h.ac2 q1 q2 (by rw [← e]; exact b2)⟩
  · rcases hr : rt with _ | r
    · obtain ⟨⟨f, h1⟩, _⟩ := h
      rw [hr] at h1
      rw [isT_none.mp h1] at hp; cases hp
    · by_cases e : r = p
      · have := (h.root hr).2
        rw [e, hg] at this; cases this
      · obtain ⟨y, y1, y2, _⟩ := h.par hp (fun z => e (by rw [hr] at z; exact Option.some.inj z))
        rw [hg] at y2; cases y2
        exact hN g y1
end
