/-! heaps with labels: who owns a cell; what is kept -/
abbrev Lb : Type := Nat → Nat
/-- what has label l in (A, w) stands as it was in (A', w'), with label l' -/
def Kp (A : Hp) (w : Lb) (l : Nat) (A' : Hp) (w' : Lb) (l' : Nat) : Prop := sg A' = sg A ∧ nx A ≤ nx A' ∧ ∀ q, q < nx A → w q = l → w' q = l' ∧ (∀ f, A'.1 f q = A.1 f q) ∧ A'.2.1 q = A.2.1 q ∧ A'.2.2.1 q = A.2.2.1 q
def upL (w : Lb) (q l : Nat) : Lb := fun p => if p = q then l else w p
/-- room: at most c cells and s slots more -/
def Gr (A A' : Hp) (c s : Nat) : Prop := nx A ≤ nx A' ∧ nx A' ≤ nx A + c ∧ su A ≤ su A' ∧ su A' ≤ su A + s
section
variable {A A' A2 : Hp} {w w' w2 : Lb} {l l' l2 p q f g k n ci : Nat} {v : Value} {c : ArC} {dv : Nat → Option Value}
theorem gf_lt (h : gf A p f = some v) : p < nx A := (gf_spec h).1
theorem gc_lt (h : gc A p = some k) : p < nx A := (gc_spec h).1
theorem ga_lt (h : ga A p = some c) : p < nx A := (ga_spec h).1
theorem gf_i (h1 : p < nx A) (h2 : A.1 f p = some v) : gf A p f = some v := by unfold gf; rw [if_pos h1]; exact h2
theorem gc_i (h1 : p < nx A) (h2 : A.2.1 p = some k) : gc A p = some k := by unfold gc; rw [if_pos h1]; exact h2
theorem ga_i (h1 : p < nx A) (h2 : A.2.2.1 p = some c) : ga A p = some c := by unfold ga; rw [if_pos h1]; exact h2
theorem Kp.rf (A : Hp) (w : Lb) (l : Nat) : Kp A w l A w l := ⟨rfl, Nat.le_refl _, fun _ _ h => ⟨h, fun _ => rfl, rfl, rfl⟩⟩
theorem Kp.trans (h : Kp A w l A' w' l') (h2 : Kp A' w' l' A2 w2 l2) : Kp A w l A2 w2 l2 := by
  obtain ⟨a1, a2, a3⟩ := h
  obtain ⟨b1, b2, b3⟩ := h2
  refine ⟨b1.trans a1, Nat.le_trans a2 b2, fun q h1 h2 => ?_⟩
  obtain ⟨c1, c2, c3, c4⟩ := a3 q h1 h2
  obtain ⟨d1, d2, d3, d4⟩ := b3 q (Nat.lt_of_lt_of_le h1 a2) c1
  exact ⟨d1, fun f => (d2 f).trans (c2 f), d3.trans c3, d4.trans c4⟩
theorem Kp.gf (h : Kp A w l A' w' l') (hw : w p = l) (e : gf A p f = some v) : gf A' p f = some v := by
  obtain ⟨e1, e2⟩ := gf_spec e
  exact gf_i (Nat.lt_of_lt_of_le e1 h.2.1) (((h.2.2 p e1 hw).2.1 f).trans e2)
theorem Kp.gc (h : Kp A w l A' w' l') (hw : w p = l) (e : gc A p = some k) : gc A' p = some k := by
  obtain ⟨e1, e2⟩ := gc_spec e
  exact gc_i (Nat.lt_of_lt_of_le e1 h.2.1) ((h.2.2 p e1 hw).2.2.1.trans e2)
theorem Kp.ga (h : Kp A w l A' w' l') (hw : w p = l) (e : ga A p = some c) : ga A' p = some c := by
  obtain ⟨e1, e2⟩ := ga_spec e
  exact ga_i (Nat.lt_of_lt_of_le e1 h.2.1) ((h.2.2 p e1 hw).2.2.2.trans e2)
theorem Kp.lb (h : Kp A w l A' w' l') (hw : w p = l) (e : p < nx A) : w' p = l' := (h.2.2 p e hw).1
theorem Kp.setf (hw : w p ≠ l) : Kp A w l (setf A p f v) w l := ⟨rfl, Nat.le_refl _, fun q _ h => ⟨h, fun g => (if_neg (fun e : q = p ∧ g = f => hw (e.1 ▸ h)) : (if q = p ∧ g = f then some v else A.1 g q) = A.1 g q), rfl, rfl⟩⟩
theorem Kp.seta (hw : w p ≠ l) : Kp A w l (seta A p c) w l := ⟨rfl, Nat.le_refl _, fun q _ h => ⟨h, fun g => rfl, rfl, (if_neg (fun e : q = p => hw (e ▸ h)) : (if q = p then some c else A.2.2.1 q) = A.2.2.1 q)⟩⟩
theorem Kp.newo : Kp A w l (newo A ci n dv) (upL w (nx A) k) l := ⟨rfl, Nat.le_succ _, fun q hq h => by
  have : q ≠ nx A := Nat.ne_of_lt hq
  exact ⟨(if_neg this).trans h, fun g => if_neg this, if_neg this, if_neg this⟩⟩
theorem Kp.newa : Kp A w l (newa A c) (upL w (nx A) k) l := ⟨rfl, Nat.le_succ _, fun q hq h => by
  have : q ≠ nx A := Nat.ne_of_lt hq
  exact ⟨(if_neg this).trans h, fun g => if_neg this, if_neg this, if_neg this⟩⟩
theorem gf_setf_ne (h : g ≠ f) : gf (setf A p f v) q g = gf A q g := by
  unfold gf
  rw [setf_nx]
  show (if q < nx A then (if q = p ∧ g = f then some v else A.1 g q) else none) = _
  rw [if_neg (fun e : q = p ∧ g = f => h e.2)]
theorem gf_setf_p (h : q ≠ p) : gf (setf A p f v) q g = gf A q g := by
  unfold gf
  rw [setf_nx]
  show (if q < nx A then (if q = p ∧ g = f then some v else A.1 g q) else none) = _
  rw [if_neg (fun e : q = p ∧ g = f => h e.1)]
theorem gf_setf_eq (h : (gf A p f).isSome = true) : gf (setf A p f v) p f = some v := by
  obtain ⟨u, hu⟩ := Option.isSome_iff_exists.mp h
  exact gf_i (A := setf A p f v) (gf_lt (A := A) hu) (if_pos ⟨rfl, rfl⟩ : (if p = p ∧ f = f then some v else A.1 f p) = some v)
theorem gf_seta : gf (seta A p c) q f = gf A q f := rfl
theorem ga_setf : ga (setf A p f v) q = ga A q := rfl
theorem gc_setf : gc (setf A p f v) q = gc A q := rfl
theorem gc_seta : gc (seta A p c) q = gc A q := rfl
theorem ga_seta_ne (h : q ≠ p) : ga (seta A p c) q = ga A q := by
  unfold ga
  rw [seta_nx]
  show (if q < nx A then (if q = p then some c else A.2.2.1 q) else none) = _
  rw [if_neg h]
theorem ga_seta_eq {c' : ArC} (h : ga A p = some c') : ga (seta A p c) p = some c := ga_i (A := seta A p c) (ga_lt (A := A) h) (if_pos rfl : (if p = p then some c else A.2.2.1 p) = some c)
theorem gf_newo : gf (newo A ci n dv) (nx A) f = dv f := by
  unfold gf
  show (if nx A < nx A + 1 then (if nx A = nx A then dv f else A.1 f (nx A)) else none) = dv f
  rw [if_pos (Nat.lt_succ_self _), if_pos rfl]
theorem gc_newo : gc (newo A ci n dv) (nx A) = some ci := gc_i (A := newo A ci n dv) (Nat.lt_succ_self _) (if_pos rfl : (if nx A = nx A then some ci else A.2.1 (nx A)) = some ci)
theorem gf_newo_o (h : p < nx A) : gf (newo A ci n dv) p f = gf A p f := by
  unfold gf
  show (if p < nx A + 1 then (if p = nx A then dv f else A.1 f p) else none) = _
  rw [if_pos (show p < nx A + 1 by omega), if_pos h, if_neg (Nat.ne_of_lt h)]
theorem gc_newo_o (h : p < nx A) : gc (newo A ci n dv) p = gc A p := by
  unfold gc
  show (if p < nx A + 1 then (if p = nx A then some ci else A.2.1 p) else none) = _
  rw [if_pos (show p < nx A + 1 by omega), if_pos h, if_neg (Nat.ne_of_lt h)]
theorem ga_newo_o (h : p < nx A) : ga (newo A ci n dv) p = ga A p := by
  unfold ga
  show (if p < nx A + 1 then (if p = nx A then none else A.2.2.1 p) else none) = _
  rw [if_pos (show p < nx A + 1 by omega), if_pos h, if_neg (Nat.ne_of_lt h)]
theorem ga_newa : ga (newa A c) (nx A) = some c := ga_i (A := newa A c) (Nat.lt_succ_self _) (if_pos rfl : (if nx A = nx A then some c else A.2.2.1 (nx A)) = some c)
theorem gf_newa_o (h : p < nx A) : gf (newa A c) p f = gf A p f := by
  unfold gf
  show (if p < nx A + 1 then (if p = nx A then none else A.1 f p) else none) = _
  rw [if_pos (show p < nx A + 1 by omega), if_pos h, if_neg (Nat.ne_of_lt h)]
theorem gc_newa_o (h : p < nx A) : gc (newa A c) p = gc A p := by
  unfold gc
  show (if p < nx A + 1 then (if p = nx A then none else A.2.1 p) else none) = _
  rw [if_pos (show p < nx A + 1 by omega), if_pos h, if_neg (Nat.ne_of_lt h)]
theorem ga_newa_o (h : p < nx A) : ga (newa A c) p = ga A p := by
  unfold ga
  show (if p < nx A + 1 then (if p = nx A then some c else A.2.2.1 p) else none) = _
  rw [if_pos (show p < nx A + 1 by omega), if_pos h, if_neg (Nat.ne_of_lt h)]
theorem nx_setf : nx (setf A p f v) = nx A := rfl
theorem nx_seta : nx (seta A p c) = nx A := rfl
theorem nx_newo : nx (newo A ci n dv) = nx A + 1 := rfl
theorem nx_newa : nx (newa A c) = nx A + 1 := rfl
theorem su_setf : su (setf A p f v) = su A := rfl
theorem su_seta : su (seta A p c) = su A := rfl
theorem su_newo : su (newo A ci n dv) = su A + n := rfl
theorem su_newa : su (newa A c) = su A + c.2.1 := rfl
theorem sg_setf : sg (setf A p f v) = sg A := rfl
theorem sg_seta : sg (seta A p c) = sg A := rfl
theorem sg_newo : sg (newo A ci n dv) = sg A := rfl
theorem sg_newa : sg (newa A c) = sg A := rfl
theorem gfs_d (h : gf A p f = some v) : gfs A p f = some v := by unfold gfs; rw [h]; rfl
theorem gcs_d (h : gc A p = some k) : gcs A p = some k := by unfold gcs; rw [h]; rfl
theorem gas_d (h : ga A p = some c) : gas A p = some c := by unfold gas; rw [h]; rfl
theorem Gr.rf : Gr A A 0 0 := ⟨Nat.le_refl _, Nat.le_refl _, Nat.le_refl _, Nat.le_refl _⟩
theorem Gr.trans {a b a' b' : Nat} (h : Gr A A' a b) (h2 : Gr A' A2 a' b') : Gr A A2 (a + a') (b + b') := by
  obtain ⟨h1, h2', h3, h4⟩ := h
  obtain ⟨k1, k2, k3, k4⟩ := h2
  exact ⟨by omega, by omega, by omega, by omega⟩
theorem Gr.mono {a b a' b' : Nat} (h : Gr A A' a b) (h1 : a ≤ a') (h2 : b ≤ b') : Gr A A' a' b' := by
  obtain ⟨h1', h2', h3, h4⟩ := h
  exact ⟨by omega, by omega, by omega, by omega⟩
end
