/-! frames: what of a heap with labels may change, and how much room is taken -/
abbrev Fr (A : Hp) (w : Lb) (A' : Hp) (w' : Lb) (X : Nat → Prop) (c s : Nat) : Prop := (sg A' = sg A) ∧ (nx A ≤ nx A') ∧ (nx A' ≤ nx A + c) ∧ (su A ≤ su A') ∧ (su A' ≤ su A + s) ∧ (∀ q, q < nx A → A'.2.1 q = A.2.1 q) ∧ (∀ q, q < nx A → ¬ X (w q) → w' q = w q ∧ (∀ f, A'.1 f q = A.1 f q) ∧ A'.2.2.1 q = A.2.2.1 q)
theorem Fr.e1 {A : Hp} {w : Lb} {A' : Hp} {w' : Lb} {X : Nat → Prop} {c s : Nat} (h : Fr A w A' w' X c s) : sg A' = sg A := h.1
theorem Fr.n1 {A : Hp} {w : Lb} {A' : Hp} {w' : Lb} {X : Nat → Prop} {c s : Nat} (h : Fr A w A' w' X c s) : nx A ≤ nx A' := h.2.1
theorem Fr.n2 {A : Hp} {w : Lb} {A' : Hp} {w' : Lb} {X : Nat → Prop} {c s : Nat} (h : Fr A w A' w' X c s) : nx A' ≤ nx A + c := h.2.2.1
theorem Fr.s1 {A : Hp} {w : Lb} {A' : Hp} {w' : Lb} {X : Nat → Prop} {c s : Nat} (h : Fr A w A' w' X c s) : su A ≤ su A' := h.2.2.2.1
theorem Fr.s2 {A : Hp} {w : Lb} {A' : Hp} {w' : Lb} {X : Nat → Prop} {c s : Nat} (h : Fr A w A' w' X c s) : su A' ≤ su A + s := h.2.2.2.2.1
theorem Fr.cl {A : Hp} {w : Lb} {A' : Hp} {w' : Lb} {X : Nat → Prop} {c s : Nat} (h : Fr A w A' w' X c s) : ∀ q, q < nx A → A'.2.1 q = A.2.1 q := h.2.2.2.2.2.1
theorem Fr.k {A : Hp} {w : Lb} {A' : Hp} {w' : Lb} {X : Nat → Prop} {c s : Nat} (h : Fr A w A' w' X c s) : ∀ q, q < nx A → ¬ X (w q) → w' q = w q ∧ (∀ f, A'.1 f q = A.1 f q) ∧ A'.2.2.1 q = A.2.2.1 q := h.2.2.2.2.2.2
section
variable {A A' A2 : Hp} {w w' w2 : Lb} {X Y : Nat → Prop} {c s c' s' p q f l n ci k : Nat} {v : Value} {x : ArC} {dv : Nat → Option Value}
theorem Fr.rf : Fr A w A w X 0 0 := ⟨rfl, Nat.le_refl _, Nat.le_refl _, Nat.le_refl _, Nat.le_refl _, fun _ _ => rfl, fun _ _ _ => ⟨rfl, fun _ => rfl, rfl⟩⟩
theorem Fr.trans (h : Fr A w A' w' X c s) (h2 : Fr A' w' A2 w2 X c' s') : Fr A w A2 w2 X (c + c') (s + s') := by
  obtain ⟨a1, a2, a3, a4, a5, a6, a7⟩ := h
  obtain ⟨b1, b2, b3, b4, b5, b6, b7⟩ := h2
  refine ⟨b1.trans a1, by omega, by omega, by omega, by omega, fun q hq => (b6 q (by omega)).trans (a6 q hq), fun q hq hx => ?_⟩
  obtain ⟨d1, d2, d3⟩ := a7 q hq hx
  obtain ⟨e1, e2, e3⟩ := b7 q (by omega) (by rw [d1]; exact hx)
  exact ⟨e1.trans d1, fun f => (e2 f).trans (d2 f), e3.trans d3⟩
theorem Fr.mono (h : Fr A w A' w' X c s) (hX : ∀ l, X l → Y l) (hc : c ≤ c') (hs : s ≤ s') : Fr A w A' w' Y c' s' := by
  obtain ⟨a1, a2, a3, a4, a5, a6, a7⟩ := h
  exact ⟨a1, a2, by omega, a4, by omega, a6, fun q hq hx => a7 q hq (fun z => hx (hX _ z))⟩
theorem Fr.fd (h : Fr A w A' w' X c s) (hw : ¬ X (w p)) (e : gf A p f = some v) : gf A' p f = some v := by
  obtain ⟨e1, e2⟩ := gf_spec e
  exact gf_i (Nat.lt_of_lt_of_le e1 h.n1) (((h.k p e1 hw).2.1 f).trans e2)
theorem Fr.cc (h : Fr A w A' w' X c s) (e : gc A p = some k) : gc A' p = some k := by
  obtain ⟨e1, e2⟩ := gc_spec e
  exact gc_i (Nat.lt_of_lt_of_le e1 h.n1) ((h.cl p e1).trans e2)
theorem Fr.ar (h : Fr A w A' w' X c s) (hw : ¬ X (w p)) (e : ga A p = some x) : ga A' p = some x := by
  obtain ⟨e1, e2⟩ := ga_spec e
  exact ga_i (Nat.lt_of_lt_of_le e1 h.n1) ((h.k p e1 hw).2.2.trans e2)
theorem Fr.lb (h : Fr A w A' w' X c s) (hw : ¬ X (w p)) (e : p < nx A) : w' p = w p := (h.k p e hw).1
/-- of what kind an object is, dynamic or standing: that stays -/
def Kd (A : Hp) (p ci : Nat) : Prop := p < nx A ∧ gcs A p = some ci
theorem Fr.cs (h : Fr A w A' w' X c s) (e : Kd A p ci) : Kd A' p ci := by
  obtain ⟨e1, e2⟩ := e
  refine ⟨Nat.lt_of_lt_of_le e1 h.n1, ?_⟩
  unfold gcs at e2 ⊢
  have : gc A' p = gc A p := by
    unfold gc
    rw [if_pos e1, if_pos (Nat.lt_of_lt_of_le e1 h.n1), h.cl p e1]
  rw [this, h.e1]
  exact e2
theorem Kd.of (e : gc A p = some ci) : Kd A p ci := ⟨gc_lt e, gcs_d e⟩
theorem Fr.stf (hX : X (w p)) : Fr A w (setf A p f v) w X 0 0 := ⟨rfl, Nat.le_refl _, Nat.le_refl _, Nat.le_refl _, Nat.le_refl _, fun _ _ => rfl, fun q _ h => ⟨rfl, fun g => (if_neg (fun e : q = p ∧ g = f => h (e.1 ▸ hX)) : (if q = p ∧ g = f then some v else A.1 g q) = A.1 g q), rfl⟩⟩
theorem Fr.sta (hX : X (w p)) : Fr A w (seta A p x) w X 0 0 := ⟨rfl, Nat.le_refl _, Nat.le_refl _, Nat.le_refl _, Nat.le_refl _, fun _ _ => rfl, fun q _ h => ⟨rfl, fun g => rfl, (if_neg (fun e : q = p => h (e ▸ hX)) : (if q = p then some x else A.2.2.1 q) = A.2.2.1 q)⟩⟩
theorem Fr.nwo : Fr A w (newo A ci n dv) (upL w (nx A) l) X 1 n := ⟨rfl, Nat.le_succ _, Nat.le_refl _, Nat.le_add_right _ _, Nat.le_refl _, fun q hq => if_neg (Nat.ne_of_lt hq), fun q hq _ => ⟨if_neg (Nat.ne_of_lt hq), fun g => if_neg (Nat.ne_of_lt hq), if_neg (Nat.ne_of_lt hq)⟩⟩
theorem Fr.nwa : Fr A w (newa A x) (upL w (nx A) l) X 1 x.2.1 := ⟨rfl, Nat.le_succ _, Nat.le_refl _, Nat.le_add_right _ _, Nat.le_refl _, fun q hq => if_neg (Nat.ne_of_lt hq), fun q hq _ => ⟨if_neg (Nat.ne_of_lt hq), fun g => if_neg (Nat.ne_of_lt hq), if_neg (Nat.ne_of_lt hq)⟩⟩
/-- labels alone change -/
theorem Fr.lab (hw : ∀ q, q < nx A → ¬ X (w q) → w' q = w q) : Fr A w A w' X 0 0 := ⟨rfl, Nat.le_refl _, Nat.le_refl _, Nat.le_refl _, Nat.le_refl _, fun _ _ => rfl, fun q hq h => ⟨hw q hq h, fun _ => rfl, rfl⟩⟩
theorem upL_is {l : Nat} (h : q = p) : upL w p l q = l := if_pos h
theorem upL_ne {l : Nat} (h : q ≠ p) : upL w p l q = w q := if_neg h
theorem gf_new (h : p = nx A) : gf (newo A ci n dv) p f = dv f := by rw [h]; exact gf_newo
theorem gc_new (h : p = nx A) : gc (newo A ci n dv) p = some ci := by rw [h]; exact gc_newo
theorem ga_new (h : p = nx A) : ga (newa A x) p = some x := by rw [h]; exact ga_newa
theorem gf_setf_is (h : p < nx A) : gf (setf A p f v) p f = some v := gf_i (A := setf A p f v) h (if_pos ⟨rfl, rfl⟩ : (if p = p ∧ f = f then some v else A.1 f p) = some v)
theorem va_rf_s {p : Nat} : va_rf (some p) = .ref p := rfl
theorem va_rf_n : va_rf none = .null := rfl
theorem okq_n {l : List Nat} : okq A l .null = true := rfl
end
