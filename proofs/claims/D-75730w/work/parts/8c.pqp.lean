/-! heaps in arrays, as pure functions -/
def sU (le : Nat → Nat → Bool) (x : Nat) : Nat → Nat → (Nat → Nat) → (Nat → Nat)
  | 0, k, r => updN r k x
  | f + 1, k, r => if k = 0 then updN r k x else if le (r ((k - 1) / 2)) x = true then updN r k x else sU le x f ((k - 1) / 2) (updN r k (r ((k - 1) / 2)))
def ch2 (le : Nat → Nat → Bool) (n k : Nat) (r : Nat → Nat) : Nat := if 2 * k + 2 < n ∧ ¬ le (r (2 * k + 1)) (r (2 * k + 2)) = true then 2 * k + 2 else 2 * k + 1
def sD (le : Nat → Nat → Bool) (x n : Nat) : Nat → Nat → (Nat → Nat) → (Nat → Nat)
  | 0, k, r => updN r k x
  | f + 1, k, r => if n / 2 ≤ k then updN r k x else if le x (r (ch2 le n k r)) = true then updN r k x else sD le x n f (ch2 le n k r) (updN r k (r (ch2 le n k r)))
/-- a total order, weakly -/
abbrev LeO (le : Nat → Nat → Bool) (S : Nat → Prop) : Prop := (∀ x y, S x → S y → le x y = true ∨ le y x = true) ∧ (∀ x y z, S x → S y → S z → le x y = true → le y z = true → le x z = true)
theorem LeO.tot {le : Nat → Nat → Bool} {S : Nat → Prop} (h : LeO le S) : ∀ x y, S x → S y → le x y = true ∨ le y x = true := h.1
theorem LeO.tr {le : Nat → Nat → Bool} {S : Nat → Prop} (h : LeO le S) : ∀ x y z, S x → S y → S z → le x y = true → le y z = true → le x z = true := h.2
def HpO (le : Nat → Nat → Bool) (r : Nat → Nat) (n : Nat) : Prop := ∀ i, 0 < i → i < n → le (r ((i - 1) / 2)) (r i) = true
/-- a hole at k, x to come in, on its way up -/
abbrev HU (le : Nat → Nat → Bool) (r : Nat → Nat) (n x k : Nat) : Prop := (∀ i, 0 < i → i < n → i ≠ k → (i - 1) / 2 ≠ k → le (r ((i - 1) / 2)) (r i) = true) ∧ (∀ i, 0 < i → i < n → (i - 1) / 2 = k → le x (r i) = true ∧ (0 < k → le (r ((k - 1) / 2)) (r i) = true))
theorem HU.o {le : Nat → Nat → Bool} {r : Nat → Nat} {n x k : Nat} (h : HU le r n x k) : ∀ i, 0 < i → i < n → i ≠ k → (i - 1) / 2 ≠ k → le (r ((i - 1) / 2)) (r i) = true := h.1
theorem HU.c {le : Nat → Nat → Bool} {r : Nat → Nat} {n x k : Nat} (h : HU le r n x k) : ∀ i, 0 < i → i < n → (i - 1) / 2 = k → le x (r i) = true ∧ (0 < k → le (r ((k - 1) / 2)) (r i) = true) := h.2
abbrev HD (le : Nat → Nat → Bool) (r : Nat → Nat) (n x k : Nat) : Prop := (∀ i, 0 < i → i < n → i ≠ k → (i - 1) / 2 ≠ k → le (r ((i - 1) / 2)) (r i) = true) ∧ (∀ i, 0 < i → i < n → (i - 1) / 2 = k → 0 < k → le (r ((k - 1) / 2)) (r i) = true) ∧ (0 < k → le (r ((k - 1) / 2)) x = true)
theorem HD.o {le : Nat → Nat → Bool} {r : Nat → Nat} {n x k : Nat} (h : HD le r n x k) : ∀ i, 0 < i → i < n → i ≠ k → (i - 1) / 2 ≠ k → le (r ((i - 1) / 2)) (r i) = true := h.1
theorem HD.c {le : Nat → Nat → Bool} {r : Nat → Nat} {n x k : Nat} (h : HD le r n x k) : ∀ i, 0 < i → i < n → (i - 1) / 2 = k → 0 < k → le (r ((k - 1) / 2)) (r i) = true := h.2.1
theorem HD.p {le : Nat → Nat → Bool} {r : Nat → Nat} {n x k : Nat} (h : HD le r n x k) : 0 < k → le (r ((k - 1) / 2)) x = true := h.2.2
/-- the elements but for the hole's place, and x: all different -/
abbrev El (r : Nat → Nat) (n x k : Nat) (S : Nat → Prop) : Prop := (∀ y, S y ↔ (y = x ∨ ∃ i, i < n ∧ i ≠ k ∧ r i = y)) ∧ (∀ i i', i < n → i' < n → i ≠ k → i' ≠ k → r i = r i' → i = i') ∧ (∀ i, i < n → i ≠ k → r i ≠ x)
theorem El.m {r : Nat → Nat} {n x k : Nat} {S : Nat → Prop} (h : El r n x k S) : ∀ y, S y ↔ (y = x ∨ ∃ i, i < n ∧ i ≠ k ∧ r i = y) := h.1
theorem El.j {r : Nat → Nat} {n x k : Nat} {S : Nat → Prop} (h : El r n x k S) : ∀ i i', i < n → i' < n → i ≠ k → i' ≠ k → r i = r i' → i = i' := h.2.1
theorem El.x {r : Nat → Nat} {n x k : Nat} {S : Nat → Prop} (h : El r n x k S) : ∀ i, i < n → i ≠ k → r i ≠ x := h.2.2
/-- elements in their places -/
abbrev Ea (r : Nat → Nat) (n : Nat) (S : Nat → Prop) : Prop := (∀ y, S y ↔ ∃ i, i < n ∧ r i = y) ∧ (∀ i i', i < n → i' < n → r i = r i' → i = i')
theorem Ea.m {r : Nat → Nat} {n : Nat} {S : Nat → Prop} (h : Ea r n S) : ∀ y, S y ↔ ∃ i, i < n ∧ r i = y := h.1
theorem Ea.j {r : Nat → Nat} {n : Nat} {S : Nat → Prop} (h : Ea r n S) : ∀ i i', i < n → i' < n → r i = r i' → i = i' := h.2
theorem El.put {r : Nat → Nat} {n x k : Nat} {S : Nat → Prop} (h : El r n x k S) (hk : k < n) : Ea (updN r k x) n S := by
  refine ⟨fun y => ?_, fun i i' hi hi' e => ?_⟩
  · rw [h.m y]
    constructor
    · rintro (rfl | ⟨i, h1, h2, h3⟩)
      · exact ⟨k, hk, updN_is rfl⟩
      · exact ⟨i, h1, by rw [updN_ne h2]; exact h3⟩
    · rintro ⟨i, h1, h2⟩
      by_cases q : i = k
      · rw [updN_is q] at h2; exact Or.inl h2.symm
      · rw [updN_ne q] at h2; exact Or.inr ⟨i, h1, q, h2⟩
  · by_cases q : i = k
    · by_cases q2 : i' = k
      · rw [q, q2]
      · rw [updN_is q, updN_ne q2] at e; exact absurd e.symm (h.x i' hi' q2)
    · by_cases q2 : i' = k
      · rw [updN_ne q, updN_is q2] at e; exact absurd e (h.x i hi q)
      · rw [updN_ne q, updN_ne q2] at e; exact h.j i i' hi hi' q q2 e
theorem El.move {r : Nat → Nat} {n x k c : Nat} {S : Nat → Prop} (h : El r n x k S) (hk : k < n) (hc : c < n) (hkc : c ≠ k) : El (updN r k (r c)) n x c S := by
  refine ⟨fun y => ?_, fun i i' hi hi' n1 n2 e => ?_, fun i hi hn => ?_⟩
  · rw [h.m y]
    constructor
    · rintro (rfl | ⟨i, h1, h2, h3⟩)
      · exact Or.inl rfl
      · by_cases q : i = c
        · exact Or.inr ⟨k, hk, fun e => hkc e.symm, by rw [updN_is rfl, ← q]; exact h3⟩
        · exact Or.inr ⟨i, h1, q, by rw [updN_ne h2]; exact h3⟩
    · rintro (rfl | ⟨i, h1, h2, h3⟩)
      · exact Or.inl rfl
      · by_cases q : i = k
        · rw [updN_is q] at h3; exact Or.inr ⟨c, hc, hkc, h3⟩
        · rw [updN_ne q] at h3; exact Or.inr ⟨i, h1, q, h3⟩
  · by_cases q : i = k
    · by_cases q2 : i' = k
      · rw [q, q2]
      · rw [updN_is q, updN_ne q2] at e; exact absurd (h.j c i' hc hi' hkc q2 e) (fun z => n2 z.symm)
    · by_cases q2 : i' = k
      · rw [updN_ne q, updN_is q2] at e; exact absurd (h.j i c hi hc q hkc e) n1
      · rw [updN_ne q, updN_ne q2] at e; exact h.j i i' hi hi' q q2 e
  · by_cases q : i = k
    · rw [updN_is q]; exact h.x c hc hkc
    · rw [updN_ne q]; exact h.x i hi q
theorem El.in {r : Nat → Nat} {n x k i : Nat} {S : Nat → Prop} (h : El r n x k S) (hi : i < n) (hk : i ≠ k) : S (r i) := (h.m _).mpr (Or.inr ⟨i, hi, hk, rfl⟩)
theorem El.x0 {r : Nat → Nat} {n x k : Nat} {S : Nat → Prop} (h : El r n x k S) : S x := (h.m _).mpr (Or.inl rfl)
theorem HU.put {le : Nat → Nat → Bool} {r : Nat → Nat} {n x k : Nat} (h : HU le r n x k) (hp : 0 < k → le (r ((k - 1) / 2)) x = true) : HpO le (updN r k x) n := by
  intro i h0 hi
  by_cases q : i = k
  · subst q
    have : (i - 1) / 2 ≠ i := by omega
    rw [updN_ne this, updN_is rfl]
    exact hp h0
  · rw [updN_ne q]
    by_cases q2 : (i - 1) / 2 = k
    · rw [updN_is q2]; exact (h.c i h0 hi q2).1
    · rw [updN_ne q2]; exact h.o i h0 hi q q2
theorem sU_ok {le : Nat → Nat → Bool} {S : Nat → Prop} (lo : LeO le S) {x n : Nat} : ∀ (f k : Nat) (r : Nat → Nat), k ≤ f → k < n → HU le r n x k → El r n x k S → HpO le (sU le x f k r) n ∧ Ea (sU le x f k r) n S := by
  intro f
  induction f with
  | zero =>
    intro k r hf hk hu el
    have hu' := hu.put (fun q => by omega)
    exact ⟨hu', el.put hk⟩
  | succ f ih =>
    intro k r hf hk hu el
    unfold sU
    by_cases q : k = 0
    · rw [if_pos q]
      exact ⟨hu.put (fun z => by omega), el.put hk⟩
    · rw [if_neg q]
      by_cases q2 : le (r ((k - 1) / 2)) x = true
      · rw [if_pos q2]
        exact ⟨hu.put (fun _ => q2), el.put hk⟩
      · rw [if_neg q2]
        have pk : (k - 1) / 2 < k := by omega
        have hpn : (k - 1) / 2 < n := by omega
        have hpk : (k - 1) / 2 ≠ k := by omega
        have sp := el.in hpn hpk
        have lx : le x (r ((k - 1) / 2)) = true := (lo.tot _ _ el.x0 sp).resolve_right q2
        refine ih ((k - 1) / 2) (updN r k (r ((k - 1) / 2))) (by omega) hpn ⟨fun i h0 hi n1 n2 => ?_, fun i h0 hi e => ?_⟩ (el.move hk hpn hpk)
        · by_cases q3 : i = k
          · exact absurd (by rw [q3]) n2
          · rw [updN_ne q3]
            by_cases q4 : (i - 1) / 2 = k
            · rw [updN_is q4]
              exact (hu.c i h0 hi q4).2 (by omega)
            · rw [updN_ne q4]; exact hu.o i h0 hi q3 q4
        · have gk : ((k - 1) / 2 - 1) / 2 ≠ k := by omega
          by_cases q3 : i = k
          · rw [updN_is q3]
            refine ⟨lx, fun g0 => ?_⟩
            rw [updN_ne gk]
            exact hu.o _ g0 hpn hpk gk
          · rw [updN_ne q3]
            have si := el.in hi q3
            have l1 : le (r ((k - 1) / 2)) (r i) = true := by
              have := hu.o i h0 hi q3 (by omega)
              rw [e] at this; exact this
            refine ⟨lo.tr _ _ _ el.x0 sp si lx l1, fun g0 => ?_⟩
            rw [updN_ne gk]
            have sg := el.in (i := ((k - 1) / 2 - 1) / 2) (by omega) gk
            exact lo.tr _ _ _ sg sp si (hu.o _ g0 hpn hpk gk) l1
theorem ch2_lt {le : Nat → Nat → Bool} {n k : Nat} {r : Nat → Nat} (h : k < n / 2) : ch2 le n k r < n ∧ k < ch2 le n k r ∧ (ch2 le n k r - 1) / 2 = k := by
  unfold ch2
  split <;> omega
theorem HD.put {le : Nat → Nat → Bool} {r : Nat → Nat} {n x k : Nat} (h : HD le r n x k) (hc : ∀ i, 0 < i → i < n → (i - 1) / 2 = k → le x (r i) = true) : HpO le (updN r k x) n := by
  intro i h0 hi
  by_cases q : i = k
  · subst q
    have : (i - 1) / 2 ≠ i := by omega
    rw [updN_ne this, updN_is rfl]
    exact h.p h0
  · rw [updN_ne q]
    by_cases q2 : (i - 1) / 2 = k
    · rw [updN_is q2]; exact hc i h0 hi q2
    · rw [updN_ne q2]; exact h.o i h0 hi q q2
theorem sD_ok {le : Nat → Nat → Bool} {S : Nat → Prop} (lo : LeO le S) {x n : Nat} : ∀ (f k : Nat) (r : Nat → Nat), n ≤ k + f → k < n → HD le r n x k → El r n x k S → HpO le (sD le x n f k r) n ∧ Ea (sD le x n f k r) n S := by
  intro f
  induction f with
  | zero => intro k r hf hk; omega
  | succ f ih =>
    intro k r hf hk hd el
    unfold sD
    by_cases q : n / 2 ≤ k
    · rw [if_pos q]
      exact ⟨hd.put (fun i h0 hi e => by omega), el.put hk⟩
    · rw [if_neg q]
      obtain ⟨c1, c2, c3⟩ := ch2_lt (le := le) (r := r) (Nat.not_le.mp q)
      have ck : ch2 le n k r ≠ k := by omega
      have sc := el.in c1 ck
      -- the chosen child is the least
      have least : ∀ i, 0 < i → i < n → (i - 1) / 2 = k → le (r (ch2 le n k r)) (r i) = true := by
        intro i h0 hi e
        have i2 : i = 2 * k + 1 ∨ i = 2 * k + 2 := by omega
        unfold ch2
        by_cases z : 2 * k + 2 < n ∧ ¬ le (r (2 * k + 1)) (r (2 * k + 2)) = true
        · rw [if_pos z]
          rcases i2 with i2 | i2
          · rw [i2]
            exact (lo.tot _ _ (el.in (i := 2 * k + 1) (by omega) (by omega)) (el.in (i := 2 * k + 2) z.1 (by omega))).resolve_left z.2
          · rw [i2]
            have := lo.tot _ _ (el.in (i := 2 * k + 2) z.1 (by omega)) (el.in (i := 2 * k + 2) z.1 (by omega))
            exact this.elim (fun h => h) (fun h => h)
        · rw [if_neg z]
          rcases i2 with i2 | i2
          · rw [i2]
            have := lo.tot _ _ (el.in (i := 2 * k + 1) (by omega) (by omega)) (el.in (i := 2 * k + 1) (by omega) (by omega))
            exact this.elim (fun h => h) (fun h => h)
          · rw [i2]
            exact Classical.not_not.mp (fun w => z ⟨by omega, w⟩)
      by_cases q2 : le x (r (ch2 le n k r)) = true
      · rw [if_pos q2]
        refine ⟨hd.put (fun i h0 hi e => ?_), el.put hk⟩
        exact lo.tr _ _ _ el.x0 sc (el.in hi (by omega)) q2 (least i h0 hi e)
      · rw [if_neg q2]
        have lx : le (r (ch2 le n k r)) x = true := (lo.tot _ _ el.x0 sc).resolve_left q2
        have cc : ∀ i, 0 < i → i < n → (i - 1) / 2 = ch2 le n k r → i ≠ k := fun i h0 hi e => by omega
        generalize ch2 le n k r = c at *
        refine ih c (updN r k (r c)) (by omega) c1 ⟨fun i h0 hi n1 n2 => ?_, fun i h0 hi e g0 => ?_, fun g0 => ?_⟩ (el.move hk c1 ck)
        · by_cases q3 : i = k
          · rw [q3, updN_is rfl]
            have : (k - 1) / 2 ≠ k := by omega
            rw [updN_ne this]
            exact hd.c c (by omega) c1 c3 (by omega)
          · rw [updN_ne q3]
            by_cases q4 : (i - 1) / 2 = k
            · rw [updN_is q4]; exact least i h0 hi q4
            · rw [updN_ne q4]; exact hd.o i h0 hi q3 q4
        · rw [c3, updN_is rfl, updN_ne (cc i h0 hi e)]
          have := hd.o i h0 hi (cc i h0 hi e) (by omega)
          rw [e] at this
          exact this
        · rw [c3, updN_is rfl]; exact lx
/-- the first is the least -/
theorem HpO.least {le : Nat → Nat → Bool} {S : Nat → Prop} (lo : LeO le S) {r : Nat → Nat} {n : Nat} (h : HpO le r n) (ea : Ea r n S) : ∀ i, i < n → le (r 0) (r i) = true := by
  intro i
  induction i using Nat.strongRecOn with
  | ind i ih =>
    intro hi
    have s0 : S (r 0) := (ea.m _).mpr ⟨0, by omega, rfl⟩
    by_cases q : i = 0
    · rw [q]
      have := lo.tot _ _ s0 s0
      exact this.elim (fun h => h) (fun h => h)
    · have h1 := ih ((i - 1) / 2) (by omega) (by omega)
      exact lo.tr _ _ _ s0 ((ea.m _).mpr ⟨(i - 1) / 2, by omega, rfl⟩) ((ea.m _).mpr ⟨i, hi, rfl⟩) h1 (h i (by omega) hi)
