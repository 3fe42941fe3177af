/-! trees by their links, as pure functions: in-order lists, turns, a leaf more -/
abbrev Lk : Type := Nat → Option Nat
def uL (f : Lk) (p : Nat) (x : Option Nat) : Lk := fun q => if q = p then x else f q
theorem uL_is {f : Lk} {p q : Nat} {x : Option Nat} (h : q = p) : uL f p x q = x := if_pos h
theorem uL_ne {f : Lk} {p q : Nat} {x : Option Nat} (h : q ≠ p) : uL f p x q = f q := if_neg h
/-- the links below s make a tree with l in order; of fuel f -/
def isT (L R P : Lk) : Nat → Option Nat → Option Nat → List Nat → Prop
  | 0, _, s, l => s = none ∧ l = []
  | f + 1, par, s, l => match s with
    | none => l = []
    | some p => P p = par ∧ ∃ l1 l2, l = l1 ++ p :: l2 ∧ isT L R P f (some p) (L p) l1 ∧ isT L R P f (some p) (R p) l2
theorem isT_none {L R P : Lk} {f : Nat} {par : Option Nat} {l : List Nat} : isT L R P f par none l ↔ l = [] := by
  cases f with
  | zero => exact ⟨fun h => h.2, fun h => ⟨rfl, h⟩⟩
  | succ f => exact Iff.rfl
theorem isT_some {L R P : Lk} {f : Nat} {par : Option Nat} {p : Nat} {l : List Nat} : isT L R P (f + 1) par (some p) l ↔ (P p = par ∧ ∃ l1 l2, l = l1 ++ p :: l2 ∧ isT L R P f (some p) (L p) l1 ∧ isT L R P f (some p) (R p) l2) := Iff.rfl
theorem isT_up {L R P : Lk} : ∀ {f : Nat} {par s : Option Nat} {l : List Nat}, isT L R P f par s l → isT L R P (f + 1) par s l
  | 0, par, s, l, h => by
    obtain ⟨h1, h2⟩ := h
    subst h1
    exact h2
  | f + 1, par, none, l, h => h
  | f + 1, par, some p, l, h => by
    obtain ⟨h1, l1, l2, h2, h3, h4⟩ := h
    exact ⟨h1, l1, l2, h2, isT_up h3, isT_up h4⟩
/-- links that agree on the nodes -/
theorem isT_congr {L R P L' R' P' : Lk} : ∀ {f : Nat} {par s : Option Nat} {l : List Nat}, isT L R P f par s l → (∀ x, x ∈ l → L' x = L x ∧ R' x = R x ∧ P' x = P x) → isT L' R' P' f par s l
  | 0, _, _, _, h, _ => h
  | f + 1, par, none, l, h, _ => h
  | f + 1, par, some p, l, h, hc => by
    obtain ⟨h1, l1, l2, h2, h3, h4⟩ := h
    obtain ⟨c1, c2, c3⟩ := hc p (by rw [h2]; simp)
    refine ⟨c3.trans h1, l1, l2, h2, ?_, ?_⟩
    · rw [c1]; exact isT_congr h3 (fun x hx => hc x (by rw [h2]; simp [hx]))
    · rw [c2]; exact isT_congr h4 (fun x hx => hc x (by rw [h2]; simp [hx]))
/-- .. but for whom the root hangs from -/
theorem isT_par {L R P L' R' P' : Lk} {f : Nat} {par par' s : Option Nat} {l : List Nat} (h : isT L R P f par s l) (hc : ∀ x, x ∈ l → L' x = L x ∧ R' x = R x ∧ (s ≠ some x → P' x = P x)) (hp : ∀ x, s = some x → P' x = par') (hn : l.Nodup) : isT L' R' P' f par' s l := by
  cases f with
  | zero => exact h
  | succ f =>
    cases s with
    | none => exact h
    | some p =>
      obtain ⟨h1, l1, l2, h2, h3, h4⟩ := h
      subst h2
      obtain ⟨c1, c2, c3⟩ := hc p (by simp)
      have hn' := List.nodup_append.mp hn
      have hn2 := List.nodup_cons.mp hn'.2.1
      refine ⟨hp p rfl, l1, l2, rfl, ?_, ?_⟩
      · rw [c1]
        exact isT_congr h3 (fun x hx => by
          obtain ⟨d1, d2, d3⟩ := hc x (by simp [hx])
          exact ⟨d1, d2, d3 (fun q => by cases q; exact hn'.2.2 _ hx _ List.mem_cons_self rfl)⟩)
      · rw [c2]
        exact isT_congr h4 (fun x hx => by
          obtain ⟨d1, d2, d3⟩ := hc x (by simp [hx])
          exact ⟨d1, d2, d3 (fun q => by cases q; exact hn2.1 hx)⟩)
theorem isT_root {L R P : Lk} {f : Nat} {par : Option Nat} {s : Nat} {l : List Nat} (h : isT L R P f par (some s) l) : s ∈ l := by
  cases f with
  | zero => cases h.1
  | succ f =>
    obtain ⟨_, l1, l2, h2, _, _⟩ := h
    rw [h2]; simp
/-- mirrored -/
theorem isT_rev {L R P : Lk} : ∀ {f : Nat} {par s : Option Nat} {l : List Nat}, isT L R P f par s l → isT R L P f par s l.reverse
  | 0, _, _, _, h => ⟨h.1, by rw [h.2]; rfl⟩
  | f + 1, par, none, l, h => by
    have h : l = [] := h
    rw [h]; rfl
  | f + 1, par, some p, l, h => by
    obtain ⟨h1, l1, l2, h2, h3, h4⟩ := h
    refine ⟨h1, l2.reverse, l1.reverse, ?_, isT_rev h4, isT_rev h3⟩
    rw [h2]; simp
/-- every node but the root hangs from a node -/
theorem isT_P {L R P : Lk} : ∀ {f : Nat} {par s : Option Nat} {l : List Nat}, isT L R P f par s l → ∀ x, x ∈ l → (s = some x ∧ P x = par) ∨ ∃ y, y ∈ l ∧ P x = some y ∧ (L y = some x ∨ R y = some x)
  | 0, _, _, _, h, x, hx => by rw [h.2] at hx; cases hx
  | f + 1, par, none, l, h, x, hx => by
    have h : l = [] := h
    rw [h] at hx; cases hx
  | f + 1, par, some p, l, h, x, hx => by
    obtain ⟨h1, l1, l2, h2, h3, h4⟩ := h
    subst h2
    rcases List.mem_append.mp hx with q | q
    · rcases isT_P h3 x q with ⟨a, b⟩ | ⟨y, a, b, c⟩
      · exact Or.inr ⟨p, by simp, b, Or.inl a⟩
      · exact Or.inr ⟨y, by simp [a], b, c⟩
    · rcases List.mem_cons.mp q with rfl | q
      · exact Or.inl ⟨rfl, h1⟩
      · rcases isT_P h4 x q with ⟨a, b⟩ | ⟨y, a, b, c⟩
        · exact Or.inr ⟨p, by simp, b, Or.inr a⟩
        · exact Or.inr ⟨y, by simp [a], b, c⟩
/-- children are nodes, and hang from their node -/
theorem isT_L {L R P : Lk} : ∀ {f : Nat} {par s : Option Nat} {l : List Nat}, isT L R P f par s l → ∀ x y, x ∈ l → L x = some y → y ∈ l ∧ P y = some x
  | 0, _, _, _, h, x, _, hx, _ => by rw [h.2] at hx; cases hx
  | f + 1, par, none, l, h, x, _, hx, _ => by
    have h : l = [] := h
    rw [h] at hx; cases hx
  | f + 1, par, some p, l, h, x, y, hx, e => by
    obtain ⟨h1, l1, l2, h2, h3, h4⟩ := h
    subst h2
    rcases List.mem_append.mp hx with q | q
    · obtain ⟨a, b⟩ := isT_L h3 x y q e
      exact ⟨by simp [a], b⟩
    · rcases List.mem_cons.mp q with rfl | q
      · rw [e] at h3
        have := isT_root h3
        cases f with
        | zero => cases h3.1
        | succ f => exact ⟨by simp [this], h3.1⟩
      · obtain ⟨a, b⟩ := isT_L h4 x y q e
        exact ⟨by simp [a], b⟩
theorem isT_R {L R P : Lk} {f : Nat} {par s : Option Nat} {l : List Nat} (h : isT L R P f par s l) {x y : Nat} (hx : x ∈ l) (e : R x = some y) : y ∈ l ∧ P y = some x := by
  have := isT_L (isT_rev h) x y (List.mem_reverse.mpr hx) e
  exact ⟨List.mem_reverse.mp this.1, this.2⟩
/-- a turn to the left at p, whose right child is q -/
def rtL (L R P : Lk) (p q : Nat) : Lk × (Lk × Lk) :=
  let b := L q
  let g := P p
  let R1 := uL R p b
  let P1 := match b with
    | none => P
    | some x => uL P x (some p)
  let P2 := uL P1 q g
  let LR := match g with
    | none => (L, R1)
    | some y => if L y = some p then (uL L y (some q), R1) else (L, uL R1 y (some q))
  (uL LR.1 q (some p), (LR.2, uL P2 p (some q)))
section
variable {L R P : Lk} {p q g x f : Nat}
theorem rtL_Pp : (rtL L R P p q).2.2 p = some q := uL_is rfl
theorem rtL_P (h1 : x ≠ p) (h2 : x ≠ q) (h3 : L q ≠ some x) : (rtL L R P p q).2.2 x = P x := by
  unfold rtL
  dsimp only
  rw [uL_ne h1, uL_ne h2]
  cases hb : L q with
  | none => rfl
  | some b => exact uL_ne (fun e => h3 (by rw [hb, e]))
theorem rtL_Pb (h1 : x ≠ p) (h2 : x ≠ q) (h3 : L q = some x) : (rtL L R P p q).2.2 x = some p := by
  unfold rtL
  dsimp only
  rw [uL_ne h1, uL_ne h2, h3]
  exact uL_is rfl
theorem rtL_Pq (h : q ≠ p) : (rtL L R P p q).2.2 q = P p := by
  unfold rtL
  dsimp only
  rw [uL_ne h]
  exact uL_is rfl
theorem rtL_Lq : (rtL L R P p q).1 q = some p := uL_is rfl
theorem rtL_L (h1 : x ≠ q) (h2 : ¬ (P p = some x ∧ L x = some p)) : (rtL L R P p q).1 x = L x := by
  unfold rtL
  dsimp only
  rw [uL_ne h1]
  cases hg : P p with
  | none => rfl
  | some y =>
    dsimp only
    by_cases c : L y = some p
    · rw [if_pos c]
      exact uL_ne (fun e => h2 ⟨by rw [hg, e], by rw [e]; exact c⟩)
    · rw [if_neg c]
theorem rtL_Lg (h1 : g ≠ q) (hg : P p = some g) (h2 : L g = some p) : (rtL L R P p q).1 g = some q := by
  unfold rtL
  dsimp only
  rw [uL_ne h1, hg]
  dsimp only
  rw [if_pos h2]
  exact uL_is rfl
theorem rtL_R (h1 : x ≠ p) (h2 : ¬ (P p = some x ∧ ¬ L x = some p)) : (rtL L R P p q).2.1 x = R x := by
  unfold rtL
  dsimp only
  cases hg : P p with
  | none => exact uL_ne h1
  | some y =>
    dsimp only
    by_cases c : L y = some p
    · rw [if_pos c]
      exact uL_ne h1
    · rw [if_neg c]
      exact (uL_ne (f := uL R p (L q)) (fun e => h2 ⟨by rw [hg, e], by rw [e]; exact c⟩)).trans (uL_ne h1)
theorem rtL_Rp (h1 : P p ≠ some p) : (rtL L R P p q).2.1 p = L q := by
  unfold rtL
  dsimp only
  cases hg : P p with
  | none => exact uL_is rfl
  | some y =>
    dsimp only
    by_cases c : L y = some p
    · rw [if_pos c]
      exact uL_is rfl
    · rw [if_neg c]
      exact (uL_ne (f := uL R p (L q)) (fun e => h1 (by rw [hg, e]))).trans (uL_is rfl)
theorem rtL_Rg (h1 : g ≠ p) (hg : P p = some g) (h2 : ¬ L g = some p) : (rtL L R P p q).2.1 g = some q := by
  unfold rtL
  dsimp only
  rw [hg]
  dsimp only
  rw [if_neg h2]
  exact uL_is rfl
theorem rtL_ok : ∀ (f : Nat) (par : Option Nat) (s : Nat) (l : List Nat), isT L R P f par (some s) l → l.Nodup → (∀ y, par = some y → y ∉ l) → p ∈ l → R p = some q → isT (rtL L R P p q).1 (rtL L R P p q).2.1 (rtL L R P p q).2.2 (f + 1) par (some (if s = p then q else s)) l := by
  intro f
  induction f with
  | zero => intro par s l h; cases h.1
  | succ f ih =>
    intro par s l h hn hpar hp hq
    have hall := h
    obtain ⟨q1, q2⟩ := isT_R h hp hq
    have hb : ∀ b, L q = some b → b ∈ l ∧ P b = some q := fun b e => isT_L h q b q1 e
    obtain ⟨h1, l1, l2, h2, h3, h4⟩ := h
    subst h2
    have hn' := List.nodup_append.mp hn
    have hn2 := List.nodup_cons.mp hn'.2.1
    have d12 : ∀ x, x ∈ l1 → x ∉ l2 := fun x a b => hn'.2.2 x a x (List.mem_cons_of_mem _ b) rfl
    have ds1 : s ∉ l1 := fun a => hn'.2.2 s a s List.mem_cons_self rfl
    have ds2 : s ∉ l2 := hn2.1
    by_cases hs : s = p
    · subst hs
      rw [if_pos rfl]
      rw [hq] at h4
      cases f with
      | zero => cases h4.1
      | succ f =>
        obtain ⟨k1, l21, l22, k2, k3, k4⟩ := h4
        subst k2
        have n2 := List.nodup_append.mp hn2.2
        have n22 := List.nodup_cons.mp n2.2.1
        have hqs : q ≠ s := fun e => ds2 (by rw [← e]; simp)
        have gn : ∀ x, x ∈ l1 ++ s :: (l21 ++ q :: l22) → P s ≠ some x := fun x hx e => hpar x (by rw [← h1]; exact e) hx
        have b21 : ∀ b, L q = some b → b ∈ l21 := fun b e => by rw [e] at k3; exact isT_root k3
        refine ⟨(rtL_Pq hqs).trans h1, l1 ++ s :: l21, l22, by simp, ?_, ?_⟩
        · rw [rtL_Lq]
          refine ⟨rtL_Pp, l1, l21, rfl, ?_, ?_⟩
          · rw [rtL_L (fun e => hqs e.symm) (fun e => gn s (by simp) e.1)]
            exact isT_congr h3 (fun x hx => by
              have e1 : x ≠ q := fun e => d12 x hx (by rw [e]; simp)
              have e2 : x ≠ s := fun e => ds1 (by rw [← e]; exact hx)
              exact ⟨rtL_L e1 (fun e => gn x (by simp [hx]) e.1), rtL_R e2 (fun e => gn x (by simp [hx]) e.1), rtL_P e2 e1 (fun e => d12 x hx (by simp [b21 x e]))⟩)
          · rw [rtL_Rp (gn s (by simp))]
            refine isT_up (isT_par k3 (fun x hx => ?_) (fun x e => ?_) n2.1)
            · have e1 : x ≠ q := fun e => n2.2.2 x hx q List.mem_cons_self e
              have e2 : x ≠ s := fun e => ds2 (by rw [← e]; simp [hx])
              exact ⟨rtL_L e1 (fun e => gn x (by simp [hx]) e.1), rtL_R e2 (fun e => gn x (by simp [hx]) e.1), fun e => rtL_P e2 e1 e⟩
            · have hx := b21 x e
              have e1 : x ≠ q := fun e => n2.2.2 x hx q List.mem_cons_self e
              have e2 : x ≠ s := fun e => ds2 (by rw [← e]; simp [hx])
              exact rtL_Pb e2 e1 e
        · rw [rtL_R hqs (fun e => gn q (by simp) e.1)]
          refine isT_up (isT_up (isT_congr k4 (fun x hx => ?_)))
          have e1 : x ≠ q := fun e => n22.1 (by rw [← e]; exact hx)
          have e2 : x ≠ s := fun e => ds2 (by rw [← e]; simp [hx])
          exact ⟨rtL_L e1 (fun e => gn x (by simp [hx]) e.1), rtL_R e2 (fun e => gn x (by simp [hx]) e.1), rtL_P e2 e1 (fun e => n2.2.2 x (b21 x e) x (by simp [hx]) rfl)⟩
    · rw [if_neg hs]
      have sq : s ≠ q := fun e => hpar p (by rw [← h1, e, q2]) hp
      have sb : L q ≠ some s := fun e => hpar q (by rw [← h1, (hb s e).2]) q1
      have ePs : (rtL L R P p q).2.2 s = P s := rtL_P hs sq sb
      rcases List.mem_append.mp hp with c | c
      · -- p on the left
        cases hL : L s with
        | none => rw [hL] at h3; rw [isT_none.mp h3] at c; cases c
        | some s1 =>
          rw [hL] at h3
          have r1 := ih (some s) s1 l1 h3 hn'.1 (fun y e => by cases e; exact ds1) c hq
          obtain ⟨q1', _⟩ := isT_R h3 c hq
          have b1 : ∀ b, L q = some b → b ∈ l1 := fun b e => (isT_L h3 q b q1' e).1
          have g1 : ∀ y, P p = some y → y ∈ l1 ∨ y = s := fun y e => by
            rcases isT_P h3 p c with ⟨a, b⟩ | ⟨z, a, b, _⟩
            · rw [e] at b; cases b; exact Or.inr rfl
            · rw [e] at b; cases b; exact Or.inl a
          refine ⟨ePs.trans h1, l1, l2, rfl, ?_, ?_⟩
          · by_cases e1 : s1 = p
            · rw [if_pos e1] at r1
              have hg : P p = some s := by
                rw [← e1]
                cases f with
                | zero => cases h3.1
                | succ f => exact h3.1
              rw [rtL_Lg sq hg (by rw [hL, e1])]
              exact r1
            · rw [if_neg e1] at r1
              rw [rtL_L sq (fun e => e1 (by have := e.2; rw [hL] at this; exact Option.some.inj this)), hL]
              exact r1
          · rw [rtL_R hs (fun e => e.2 (by
              rcases isT_P h3 p c with ⟨a, b⟩ | ⟨z, a, b, _⟩
              · cases a; exact hL
              · rw [e.1] at b; cases b; exact absurd a ds1))]
            refine isT_up (isT_congr h4 (fun x hx => ?_))
            have e1 : x ≠ q := fun e => d12 q q1' (by rw [← e]; exact hx)
            have e2 : x ≠ p := fun e => d12 p c (by rw [← e]; exact hx)
            have e3 : P p ≠ some x := fun e => by
              rcases g1 x e with a | a
              · exact d12 x a hx
              · exact ds2 (by rw [← a]; exact hx)
            exact ⟨rtL_L e1 (fun e => e3 e.1), rtL_R e2 (fun e => e3 e.1), rtL_P e2 e1 (fun e => d12 x (b1 x e) hx)⟩
      · have c : p ∈ l2 := by
          rcases List.mem_cons.mp c with e | c
          · exact absurd e.symm hs
          · exact c
        cases hR : R s with
        | none => rw [hR] at h4; rw [isT_none.mp h4] at c; cases c
        | some s2 =>
          rw [hR] at h4
          have r2 := ih (some s) s2 l2 h4 hn2.2 (fun y e => by cases e; exact ds2) c hq
          obtain ⟨q1', _⟩ := isT_R h4 c hq
          have b1 : ∀ b, L q = some b → b ∈ l2 := fun b e => (isT_L h4 q b q1' e).1
          have g1 : ∀ y, P p = some y → y ∈ l2 ∨ y = s := fun y e => by
            rcases isT_P h4 p c with ⟨a, b⟩ | ⟨z, a, b, _⟩
            · rw [e] at b; cases b; exact Or.inr rfl
            · rw [e] at b; cases b; exact Or.inl a
          have nL : ∀ y, L s = some y → y ∉ l2 := fun y e => by
            rw [e] at h3
            exact d12 y (isT_root h3)
          refine ⟨ePs.trans h1, l1, l2, rfl, ?_, ?_⟩
          · rw [rtL_L sq (fun e => nL p e.2 c)]
            refine isT_up (isT_congr h3 (fun x hx => ?_))
            have e1 : x ≠ q := fun e => d12 x hx (by rw [e]; exact q1')
            have e2 : x ≠ p := fun e => d12 x hx (by rw [e]; exact c)
            have e3 : P p ≠ some x := fun e => by
              rcases g1 x e with a | a
              · exact d12 x hx a
              · exact ds1 (by rw [← a]; exact hx)
            exact ⟨rtL_L e1 (fun e => e3 e.1), rtL_R e2 (fun e => e3 e.1), rtL_P e2 e1 (fun e => d12 x hx (b1 x e))⟩
          · by_cases e1 : s2 = p
            · rw [if_pos e1] at r2
              have hg : P p = some s := by
                rw [← e1]
                cases f with
                | zero => cases h4.1
                | succ f => exact h4.1
              rw [rtL_Rg hs hg (fun e => nL p e c)]
              exact r2
            · rw [if_neg e1] at r2
              rw [rtL_R hs (fun e => e1 (by
                rcases isT_P h4 p c with ⟨a, b⟩ | ⟨z, a, b, _⟩
                · exact Option.some.inj a
                · rw [e.1] at b; cases b; exact absurd a ds2)), hR]
              exact r2
/-- the mirrored turn -/
def rtR (L R P : Lk) (p q : Nat) : Lk × (Lk × Lk) := ((rtL R L P p q).2.1, ((rtL R L P p q).1, (rtL R L P p q).2.2))
theorem rtR_ok {f : Nat} {par : Option Nat} {s : Nat} {l : List Nat} (h : isT L R P f par (some s) l) (hn : l.Nodup) (hpar : ∀ y, par = some y → y ∉ l) (hp : p ∈ l) (hq : L p = some q) : isT (rtR L R P p q).1 (rtR L R P p q).2.1 (rtR L R P p q).2.2 (f + 1) par (some (if s = p then q else s)) l := by
  have := rtL_ok (L := R) (R := L) (P := P) (p := p) (q := q) f par s l.reverse (isT_rev h) (List.pairwise_reverse.mpr (hn.imp (fun h => h.symm))) (fun y e hy => hpar y e (List.mem_reverse.mp hy)) (List.mem_reverse.mpr hp) hq
  have r := isT_rev this
  rw [List.reverse_reverse] at r
  exact r
end
