/-! THE ABSTRACT MACHINE (AM): heaps as maps, an interpreter of resolved instructions ('ops'), its equation -/
abbrev ArC : Type := Nat × vp_A
abbrev FMap : Type := Nat → Nat → Option Value
/-- what stands still: named addresses, named references, fields, classes, arrays -/
abbrev Sg : Type := (Nat → Nat) × ((Nat → Option Nat) × (FMap × ((Nat → Option Nat) × (Nat → Option ArC))))
/-- fields, classes, arrays, the next address, slots used, what stands still -/
abbrev Hp : Type := FMap × ((Nat → Option Nat) × ((Nat → Option ArC) × (Nat × (Nat × Sg))))
def nx (A : Hp) : Nat := A.2.2.2.1
def su (A : Hp) : Nat := A.2.2.2.2.1
def sg (A : Hp) : Sg := A.2.2.2.2.2
def gf (A : Hp) (p f : Nat) : Option Value := if p < nx A then A.1 f p else none
def gc (A : Hp) (p : Nat) : Option Nat := if p < nx A then A.2.1 p else none
def ga (A : Hp) (p : Nat) : Option ArC := if p < nx A then A.2.2.1 p else none
def sF (g : Sg) (p f : Nat) : Option Value := g.2.2.1 f p
def sC (g : Sg) (p : Nat) : Option Nat := g.2.2.2.1 p
def sA (g : Sg) (p : Nat) : Option ArC := g.2.2.2.2 p
def sAd (g : Sg) (k : Nat) : Nat := g.1 k
def sRf (g : Sg) (k : Nat) : Option Nat := g.2.1 k
def gfs (A : Hp) (p f : Nat) : Option Value := (gf A p f).or (sF (sg A) p f)
def gcs (A : Hp) (p : Nat) : Option Nat := (gc A p).or (sC (sg A) p)
def gas (A : Hp) (p : Nat) : Option ArC := (ga A p).or (sA (sg A) p)
def setf (A : Hp) (p f : Nat) (v : Value) : Hp := (fun g q => if q = p ∧ g = f then some v else A.1 g q, A.2)
def seta (A : Hp) (p : Nat) (c : ArC) : Hp := (A.1, (A.2.1, (fun q => if q = p then some c else A.2.2.1 q, A.2.2.2)))
def newo (A : Hp) (ci n : Nat) (dv : Nat → Option Value) : Hp :=
  (fun g q => if q = nx A then dv g else A.1 g q, (fun q => if q = nx A then some ci else A.2.1 q, (fun q => if q = nx A then none else A.2.2.1 q, (nx A + 1, (su A + n, sg A)))))
def newa (A : Hp) (c : ArC) : Hp :=
  (fun g q => if q = nx A then none else A.1 g q, (fun q => if q = nx A then none else A.2.1 q, (fun q => if q = nx A then some c else A.2.2.1 q, (nx A + 1, (su A + c.2.1, sg A)))))
abbrev Lc : Type := List (Option Value)
abbrev Cf : Type := Nat × (Lc × (List Value × Hp))
/-- a value back, or class and address of what was thrown -/
abbrev Out : Type := Option Value ⊕ (Nat × Nat)
/-- a call: method, arguments, whether void, where it goes on, locals, rest of the stack, the handlers that stand over it by class (none: none does), heap -/
abbrev Cl : Type := Nat × (List Value × (Bool × (Nat × (Lc × (List Value × (Option (List (Nat × Nat)) × Hp))))))
abbrev Rs : Type := Option (Cf ⊕ ((Out × Hp) ⊕ Cl))
abbrev Op : Type := Nat → Lc → List Value → Hp → Rs
/-- kinds of the arguments, number of locals, code -/
abbrev Mt : Type := (List Nat × Nat) × (Nat → Option Op)
abbrev Tb : Type := Nat → Mt
abbrev Rv : Type := Option (Out × Hp)
def lk : List (Nat × Op) → Nat → Option Op
  | [], _ => none
  | (k, o) :: t, n => bif Nat.beq k n then some o else lk t n
def lk2 (l : List (List (Nat × Op))) (n : Nat) : Option Op := lk (l.getD (n / 64) []) n
def lkn : List (Nat × Nat) → Nat → Option Nat
  | [], _ => none
  | (k, o) :: t, n => if k = n then some o else lkn t n
def aftN (x : Rv) (go : Cf → Rv) (k : Cl) : Rv := match x with
  | none => none
  | some (.inl none, A') => bif k.2.2.1 then go (k.2.2.2.1, (k.2.2.2.2.1, (k.2.2.2.2.2.1, A'))) else none
  | some (.inl (some v), A') => bif k.2.2.1 then none else go (k.2.2.2.1, (k.2.2.2.2.1, (v :: k.2.2.2.2.2.1, A')))
  | some (.inr t, A') => match k.2.2.2.2.2.2.1 with
    | none => some (.inr t, A')
    | some l => match lkn l t.1 with
      | some h => go (h, (k.2.2.2.2.1, ([.ref t.2], A')))
      | none => none
def rsN (ev : Nat → List Value → Hp → Rv) (go : Cf → Rv) (r : Rs) : Rv := match r with
  | none => none
  | some (.inl c) => go c
  | some (.inr (.inl o)) => some o
  | some (.inr (.inr k)) => aftN (ev k.1 k.2.1 k.2.2.2.2.2.2.2) go k
def opN (T : Tb) (ev : Nat → List Value → Hp → Rv) (m : Nat) (go : Cf → Rv) (c : Cf) : Rv := match (T m).2 c.1 with
  | none => none
  | some op => rsN ev go (op c.1 c.2.1 c.2.2.1 c.2.2.2)
def stepN (T : Tb) (ev : Nat → List Value → Hp → Rv) (m : Nat) : Nat → Cf → Rv
  | 0 => fun _ => none
  | n + 1 => fun c => opN T ev m (stepN T ev m n) c
noncomputable def lim {α : Type} (f : Nat → Option α) : Option α := match Classical.propDecidable (∃ n r, f n = some r) with
  | isTrue h => some h.choose_spec.choose
  | isFalse _ => none
def Mono {α : Type} (f : Nat → Option α) : Prop := ∀ n r, f n = some r → f (n + 1) = some r
theorem Mono.le {α : Type} {f : Nat → Option α} (h : Mono f) {n k : Nat} {r : α} (hr : f n = some r) (hk : n ≤ k) : f k = some r := by
  induction k with
  | zero => rw [Nat.le_zero.mp hk] at hr; exact hr
  | succ k ih =>
    rcases Nat.lt_or_ge k n with q | q
    · have : n = k + 1 := by omega
      rw [← this]; exact hr
    · exact h _ _ (ih q)
theorem lim_of {α : Type} {f : Nat → Option α} (h : Mono f) {n : Nat} {r : α} (hr : f n = some r) : lim f = some r := by
  unfold lim
  cases Classical.propDecidable (∃ n r, f n = some r) with
  | isTrue q =>
    have e := q.choose_spec.choose_spec
    show some q.choose_spec.choose = some r
    have e1 := h.le e (Nat.le_max_left q.choose n)
    have e2 := h.le hr (Nat.le_max_right q.choose n)
    rw [e1] at e2
    exact e2
  | isFalse q => exact absurd ⟨n, r, hr⟩ q
theorem lim_ex {α : Type} {f : Nat → Option α} {r : α} (h : lim f = some r) : ∃ n, f n = some r := by
  unfold lim at h
  cases hc : Classical.propDecidable (∃ n r, f n = some r) with
  | isTrue q =>
    rw [hc] at h
    have e := q.choose_spec.choose_spec
    have h1 : some q.choose_spec.choose = some r := h
    exact ⟨_, e.trans h1⟩
  | isFalse q => rw [hc] at h; cases h
theorem lim_none {α : Type} {f : Nat → Option α} (h : ∀ n, f n = none) : lim f = none := by
  cases hl : lim f with
  | none => rfl
  | some r =>
    obtain ⟨n, hn⟩ := lim_ex hl
    rw [h n] at hn; cases hn
theorem lim_congr {α : Type} {f g : Nat → Option α} (hf : Mono f) (hg : Mono g) (h0 : f 0 = none) (h : ∀ n, f (n + 1) = g n) : lim f = lim g := by
  cases hl : lim g with
  | some r =>
    obtain ⟨n, hn⟩ := lim_ex hl
    exact lim_of hf (n := n + 1) (by rw [h]; exact hn)
  | none =>
    cases hl2 : lim f with
    | none => rfl
    | some r =>
      obtain ⟨n, hn⟩ := lim_ex hl2
      cases n with
      | zero => rw [h0] at hn; cases hn
      | succ n =>
        rw [h] at hn
        rw [lim_of hg hn] at hl
        cases hl
theorem aftN_mono {x : Rv} {go go' : Cf → Rv} (h : ∀ c r, go c = some r → go' c = some r) {k : Cl} {r : Out × Hp} (hr : aftN x go k = some r) : aftN x go' k = some r := by
  unfold aftN at hr ⊢
  split at hr
  · cases hr
  · cases hk : k.2.2.1 with
    | true => rw [hk] at hr; exact h _ _ hr
    | false => rw [hk] at hr; cases hr
  · cases hk : k.2.2.1 with
    | true => rw [hk] at hr; cases hr
    | false => rw [hk] at hr; exact h _ _ hr
  · split at hr
    · exact hr
    · split at hr
      · exact h _ _ hr
      · cases hr
theorem rsN_mono {ev : Nat → List Value → Hp → Rv} {go go' : Cf → Rv} (h : ∀ c r, go c = some r → go' c = some r) {r : Rs} {o : Out × Hp} (hr : rsN ev go r = some o) : rsN ev go' r = some o := by
  unfold rsN at hr ⊢
  split at hr
  · cases hr
  · exact h _ _ hr
  · exact hr
  · exact aftN_mono h hr
theorem opN_mono {T : Tb} {ev : Nat → List Value → Hp → Rv} {m : Nat} {go go' : Cf → Rv} (h : ∀ c r, go c = some r → go' c = some r) {c : Cf} {o : Out × Hp} (hr : opN T ev m go c = some o) : opN T ev m go' c = some o := by
  unfold opN at hr ⊢
  split at hr
  · cases hr
  · exact rsN_mono h hr
theorem stepN_mono {T : Tb} {ev : Nat → List Value → Hp → Rv} {m : Nat} : ∀ (n : Nat) (c : Cf) (r : Out × Hp), stepN T ev m n c = some r → stepN T ev m (n + 1) c = some r := by
  intro n
  induction n with
  | zero => intro c r h; cases h
  | succ n ih => intro c r h; exact opN_mono ih h
/-- kinds of arguments: 0 a reference, 1 int, 2 long, 3 float, 4 double -/
def isR (v : Value) : Bool := match v with
  | .ref _ => true
  | .null => true
  | _ => false
def kOf (k : Nat) (v : Value) : Bool := match k, v with
  | 0, v => isR v
  | 1, .int _ => true
  | 2, .long _ => true
  | 3, .float _ => true
  | 4, .double _ => true
  | _, _ => false
def chk : List Nat → List Value → Bool
  | [], [] => true
  | k :: ks, v :: vs => kOf k v && chk ks vs
  | _, _ => false
def ent : List Nat → List Value → Lc
  | k :: ks, v :: vs => match k with
    | 2 => some v :: none :: ent ks vs
    | 4 => some v :: none :: ent ks vs
    | _ => some v :: ent ks vs
  | _, _ => []
def entL (ks : List Nat) (nL : Nat) (as : List Value) : Lc := ent ks as ++ List.replicate (nL - (ent ks as).length) none
noncomputable def evG (T : Tb) : Nat → Nat → List Value → Hp → Rv
  | 0 => fun _ _ _ => none
  | d + 1 => fun y as A => bif chk (T y).1.1 as then lim (fun n => stepN T (evG T d) y n (0, (entL (T y).1.1 (T y).1.2 as, ([], A)))) else none
noncomputable def exG (T : Tb) (d m pc : Nat) (L : Lc) (st : List Value) (A : Hp) : Rv := lim (fun n => stepN T (evG T d) m n (pc, (L, (st, A))))
noncomputable def goG (T : Tb) (d m : Nat) (c : Cf) : Rv := exG T d m c.1 c.2.1 c.2.2.1 c.2.2.2
theorem evG_eq (T : Tb) (d y : Nat) (as : List Value) (A : Hp) : evG T (d + 1) y as A = bif chk (T y).1.1 as then exG T d y 0 (entL (T y).1.1 (T y).1.2 as) [] A else none := rfl
theorem lim_const {α : Type} {f : Nat → Option α} {x : Option α} (hm : Mono f) (h : ∀ n, f (n + 1) = x) (h0 : f 0 = none) : lim f = x := by
  cases x with
  | some r => exact lim_of hm (h 0)
  | none => exact lim_none (fun n => by cases n with
    | zero => exact h0
    | succ n => exact h n)
theorem exG_eq (T : Tb) (d m pc : Nat) (L : Lc) (st : List Value) (A : Hp) : exG T d m pc L st A = opN T (evG T d) m (goG T d m) (pc, (L, (st, A))) := by
  have hm : ∀ c : Cf, Mono (fun n => stepN T (evG T d) m n c) := fun c n r h => stepN_mono n c r h
  unfold exG
  have h1 : ∀ n, stepN T (evG T d) m (n + 1) (pc, (L, (st, A))) = opN T (evG T d) m (stepN T (evG T d) m n) (pc, (L, (st, A))) := fun _ => rfl
  cases hc : (T m).2 pc with
  | none =>
    refine lim_const (hm _) (fun n => ?_) rfl
    rw [h1]
    simp only [opN, hc]
  | some op =>
    cases hr : op pc L st A with
    | none =>
      refine lim_const (hm _) (fun n => ?_) rfl
      rw [h1]
      simp only [opN, hc, hr, rsN]
    | some r =>
      rcases r with c | o | k
      · have e : opN T (evG T d) m (goG T d m) (pc, (L, (st, A))) = goG T d m c := by simp only [opN, hc, hr, rsN]
        rw [e]
        exact lim_congr (hm _) (hm c) rfl (fun n => by rw [h1]; simp only [opN, hc, hr, rsN])
      · refine lim_const (hm _) (fun n => ?_) rfl
        rw [h1]
        simp only [opN, hc, hr, rsN]
      · have e : ∀ go, opN T (evG T d) m go (pc, (L, (st, A))) = aftN (evG T d k.1 k.2.1 k.2.2.2.2.2.2.2) go k := fun go => by simp only [opN, hc, hr, rsN]
        rw [e]
        cases hx : evG T d k.1 k.2.1 k.2.2.2.2.2.2.2 with
        | none => exact lim_const (hm _) (fun n => by rw [h1, e, hx]; rfl) rfl
        | some x =>
          obtain ⟨o, A'⟩ := x
          rcases o with v | t
          · cases hb : k.2.2.1 with
            | true =>
              cases v with
              | none =>
                have e2 : ∀ go, aftN (some (.inl none, A')) go k = go (k.2.2.2.1, (k.2.2.2.2.1, (k.2.2.2.2.2.1, A'))) := fun go => by simp only [aftN, hb, cond_true]
                rw [e2]
                exact lim_congr (hm _) (hm _) rfl (fun n => by rw [h1, e, hx, e2])
              | some w => exact lim_const (hm _) (fun n => by rw [h1, e, hx]; simp only [aftN, hb, cond_true]) rfl
            | false =>
              cases v with
              | none => exact lim_const (hm _) (fun n => by rw [h1, e, hx]; simp only [aftN, hb, cond_false]) rfl
              | some w =>
                have e2 : ∀ go, aftN (some (.inl (some w), A')) go k = go (k.2.2.2.1, (k.2.2.2.2.1, (w :: k.2.2.2.2.2.1, A'))) := fun go => by simp only [aftN, hb, cond_false]
                rw [e2]
                exact lim_congr (hm _) (hm _) rfl (fun n => by rw [h1, e, hx, e2])
          · cases hh : k.2.2.2.2.2.2.1 with
            | none =>
              refine lim_const (hm _) (fun n => ?_) rfl
              rw [h1, e, hx]
              simp only [aftN, hh]
            | some l =>
              cases hh2 : lkn l t.1 with
              | some h =>
                have e2 : ∀ go, aftN (some (.inr t, A')) go k = go (h, (k.2.2.2.2.1, ([.ref t.2], A'))) := fun go => by simp only [aftN, hh, hh2]
                rw [e2]
                exact lim_congr (hm _) (hm (h, (k.2.2.2.2.1, ([.ref t.2], A')))) rfl (fun n => by rw [h1, e, hx, e2])
              | none =>
                refine lim_const (hm _) (fun n => ?_) rfl
                rw [h1, e, hx]
                simp only [aftN, hh, hh2]
theorem exG_at {T : Tb} {d m pc : Nat} {L : Lc} {st : List Value} {A : Hp} {op : Op} (h : (T m).2 pc = some op) : exG T d m pc L st A = rsN (evG T d) (goG T d m) (op pc L st A) := by
  rw [exG_eq]
  simp only [opN, h]
theorem cd_ {T : Tb} {m pc : Nat} {K : Mt} {o : Option Op} (h : T m = K) (h2 : K.2 pc = o) : (T m).2 pc = o := by rw [h]; exact h2
