/-! trips as a pure function: the order of a vehicle's reads, the trips laid out of it -/
/-- r into a list in the order of times, behind what has the same time -/
def insK (S : Nat → Int32) (r : Nat) : List Nat → List Nat
  | [] => [r]
  | x :: t => if S (280 + 7 * r + 2) < S (280 + 7 * x + 2) then r :: x :: t else x :: insK S r t
theorem insK_split {S : Nat → Int32} {r : Nat} : ∀ {l1 l2 : List Nat}, (∀ x, x ∈ l1 → ¬ S (280 + 7 * r + 2) < S (280 + 7 * x + 2)) → (∀ x, x ∈ l2 → S (280 + 7 * r + 2) < S (280 + 7 * x + 2)) → insK S r (l1 ++ l2) = l1 ++ r :: l2
  | [], [], _, _ => rfl
  | [], x :: t, _, h2 => by
    show insK S r (x :: t) = r :: x :: t
    unfold insK
    rw [if_pos (h2 x (List.mem_cons_self))]
  | x :: l1, l2, h1, h2 => by
    show insK S r (x :: (l1 ++ l2)) = x :: (l1 ++ r :: l2)
    unfold insK
    rw [if_neg (h1 x List.mem_cons_self), insK_split (fun y hy => h1 y (List.mem_cons_of_mem _ hy)) h2]
theorem insK_mem {S : Nat → Int32} {r y : Nat} : ∀ {l : List Nat}, y ∈ insK S r l ↔ y = r ∨ y ∈ l
  | [] => by simp [insK]
  | x :: t => by
    unfold insK
    split
    · simp
    · simp only [List.mem_cons, insK_mem (l := t)]
      constructor
      · rintro (h | h | h)
        · exact Or.inr (Or.inl h)
        · exact Or.inl h
        · exact Or.inr (Or.inr h)
      · rintro (h | h | h)
        · exact Or.inr (Or.inl h)
        · exact Or.inl h
        · exact Or.inr (Or.inr h)
theorem insK_length {S : Nat → Int32} {r : Nat} : ∀ {l : List Nat}, (insK S r l).length = l.length + 1
  | [] => rfl
  | x :: t => by
    unfold insK
    split
    · rfl
    · show (insK S r t).length + 1 = t.length + 1 + 1
      rw [insK_length]
/-- in the order of times -/
def SrtT (S : Nat → Int32) (l : List Nat) : Prop := l.Pairwise (fun x y => ¬ S (280 + 7 * y + 2) < S (280 + 7 * x + 2))
theorem insK_srt {S : Nat → Int32} {r : Nat} : ∀ {l : List Nat}, SrtT S l → SrtT S (insK S r l)
  | [], _ => by unfold SrtT insK; simp
  | x :: t, h => by
    unfold SrtT at h ⊢
    unfold insK
    obtain ⟨h1, h2⟩ := List.pairwise_cons.mp h
    split
    · rename_i q
      refine List.pairwise_cons.mpr ⟨fun y hy => ?_, h⟩
      rcases List.mem_cons.mp hy with rfl | hy
      · exact Int32.not_lt.mpr (Int32.le_of_lt q)
      · intro q2
        exact h1 y hy (Int32.lt_trans q2 q)
    · rename_i q
      refine List.pairwise_cons.mpr ⟨fun y hy => ?_, insK_srt h2⟩
      rcases insK_mem.mp hy with rfl | hy
      · exact q
      · exact h1 y hy
def ordL (S : Nat → Int32) (v : Int32) (R : Nat) : List Nat := lpF (fun i l => if S (280 + 7 * i) = v ∧ S (280 + 7 * i + 5) = nI 1 then insK S i l else l) 0 R []
theorem lpF_ind {α : Type} {f : Nat → α → α} {P : Nat → α → Prop} {k : Nat} {a : α} (h0 : P 0 a) (hs : ∀ j b, j < k → P j b → P (j + 1) (f j b)) : P k (lpF f 0 k a) := by
  have := lpF_inv (P := P) k 0 a h0 (fun j b _ h2 h => hs j b (by omega) h)
  rw [Nat.zero_add] at this
  exact this
/-- what is in the order: reads of the vehicle that count -/
abbrev OrdOK (S : Nat → Int32) (v : Int32) (i : Nat) (l : List Nat) : Prop := (SrtT S l) ∧ (∀ r, r ∈ l ↔ r < i ∧ S (280 + 7 * r) = v ∧ S (280 + 7 * r + 5) = nI 1) ∧ (l.length ≤ i) ∧ (l.Nodup)
theorem OrdOK.srt {S : Nat → Int32} {v : Int32} {i : Nat} {l : List Nat} (h : OrdOK S v i l) : SrtT S l := h.1
theorem OrdOK.mem {S : Nat → Int32} {v : Int32} {i : Nat} {l : List Nat} (h : OrdOK S v i l) : ∀ r, r ∈ l ↔ r < i ∧ S (280 + 7 * r) = v ∧ S (280 + 7 * r + 5) = nI 1 := h.2.1
theorem OrdOK.len {S : Nat → Int32} {v : Int32} {i : Nat} {l : List Nat} (h : OrdOK S v i l) : l.length ≤ i := h.2.2.1
theorem OrdOK.nd {S : Nat → Int32} {v : Int32} {i : Nat} {l : List Nat} (h : OrdOK S v i l) : l.Nodup := h.2.2.2
theorem insK_nd {S : Nat → Int32} {r : Nat} : ∀ {l : List Nat}, r ∉ l → l.Nodup → (insK S r l).Nodup
  | [], _, _ => by simp [insK]
  | x :: t, h, h2 => by
    unfold insK
    obtain ⟨a, b⟩ := List.nodup_cons.mp h2
    split
    · exact List.nodup_cons.mpr ⟨h, h2⟩
    · refine List.nodup_cons.mpr ⟨fun q => ?_, insK_nd (fun q => h (List.mem_cons_of_mem _ q)) b⟩
      rcases insK_mem.mp q with q | q
      · exact h (q ▸ List.mem_cons_self)
      · exact a q
theorem ordL_ok' (S : Nat → Int32) (v : Int32) (i : Nat) : OrdOK S v i (ordL S v i) := by
  unfold ordL
  refine lpF_ind (P := OrdOK S v) ⟨List.Pairwise.nil, fun r => by simp, Nat.le_refl _, List.nodup_nil⟩ (fun j l hj h => ?_)
  by_cases q : S (280 + 7 * j) = v ∧ S (280 + 7 * j + 5) = nI 1
  · rw [if_pos q]
    refine ⟨insK_srt h.srt, fun r => ?_, by rw [insK_length]; exact Nat.succ_le_succ h.len, insK_nd (fun hm => by have := ((h.mem j).mp hm).1; omega) h.nd⟩
    rw [insK_mem, h.mem r]
    constructor
    · rintro (rfl | h3)
      · exact ⟨Nat.lt_succ_self _, q⟩
      · exact ⟨by omega, h3.2⟩
    · rintro ⟨h3, h4⟩
      by_cases e : r = j
      · exact Or.inl e
      · exact Or.inr ⟨by omega, h4⟩
  · rw [if_neg q]
    refine ⟨h.srt, fun r => ?_, Nat.le_succ_of_le h.len, h.nd⟩
    rw [h.mem r]
    constructor
    · rintro ⟨h3, h4⟩
      exact ⟨by omega, h4⟩
    · rintro ⟨h3, h4⟩
      refine ⟨?_, h4⟩
      rcases Nat.lt_or_ge r j with h5 | h5
      · exact h5
      · have : r = j := by omega
        subst this
        exact absurd h4 q
theorem ordL_succ (S : Nat → Int32) (v : Int32) (i : Nat) : ordL S v (i + 1) = if S (280 + 7 * i) = v ∧ S (280 + 7 * i + 5) = nI 1 then insK S i (ordL S v i) else ordL S v i := by
  unfold ordL
  rw [lpF_end, Nat.zero_add]
/-- a trip: its reads, its places (gantry, whether missing), the latest read that led on, cost, tolls -/
abbrev Tp : Type := (List Nat) × (List (Nat × Bool)) × (Nat) × (Int32) × (Int32)
abbrev Tp.rs (t : Tp) : List Nat := t.1
abbrev Tp.ps (t : Tp) : List (Nat × Bool) := t.2.1
abbrev Tp.la (t : Tp) : Nat := t.2.2.1
abbrev Tp.co (t : Tp) : Int32 := t.2.2.2.1
abbrev Tp.to (t : Tp) : Int32 := t.2.2.2.2
def tp0 : Tp := ⟨[], [], 0, nI 0, nI 0⟩
def gN (S : Nat → Int32) (r : Nat) : Nat := (S (280 + 7 * r + 1)).toNatClampNeg
def tpN (S : Nat → Int32) (r : Nat) : Tp := ⟨[r], [(gN S r, false)], r, nI 0, nI 0⟩
def elp (S : Nat → Int32) (a r : Nat) : Int32 := S (280 + 7 * r + 2) - S (280 + 7 * a + 2)
/-- the places of a way of r roads, behind its first one -/
def wyP (w : Nat → Int32) (r : Nat) : List (Nat × Bool) := (List.range r).map fun j => ((w (j + 1)).toNatClampNeg, decide (j + 1 < r))
/-- the search for what leads on from a trip to a read -/
def tpB (S : Nat → Int32) (G D a r : Nat) : Ac := bst S G D (S (280 + 7 * a + 1)) (gN S r) (elp S a r)
/-- a trip with a read more, if it can take it -/
def tpK (S : Nat → Int32) (G D : Nat) (t : Tp) (r : Nat) : Option Tp :=
  if S (280 + 7 * t.la + 1) = S (280 + 7 * r + 1) then (if elp S t.la r ≤ S 1 then some ⟨t.rs ++ [r], t.ps, t.la, t.co, t.to⟩ else none)
  else if S 0 < elp S t.la r then none
  else if (tpB S G D t.la r).1 = far then none
  else some ⟨t.rs ++ [r], t.ps ++ wyP (tpB S G D t.la r).2.2.2.2.2 (tpB S G D t.la r).2.1.toNatClampNeg, r, t.co + (tpB S G D t.la r).1, t.to + (tpB S G D t.la r).2.2.1⟩
def upT (T : Nat → Tp) (n : Nat) (t : Tp) : Nat → Tp := fun k => if k = n then t else T k
theorem upT_is {T : Nat → Tp} {n k : Nat} {t : Tp} (h : k = n) : upT T n t k = t := if_pos h
theorem upT_ne {T : Nat → Tp} {n k : Nat} {t : Tp} (h : k ≠ n) : upT T n t k = T k := if_neg h
def lyS (S : Nat → Int32) (G D : Nat) (a : Nat × (Nat → Tp)) (r : Nat) : Nat × (Nat → Tp) :=
  if a.1 = 0 then (1, upT a.2 0 (tpN S r)) else match tpK S G D (a.2 (a.1 - 1)) r with
    | some t => (a.1, upT a.2 (a.1 - 1) t)
    | none => (a.1 + 1, upT a.2 a.1 (tpN S r))
/-- the trips of a list of reads: how many, which -/
def lay (S : Nat → Int32) (G D : Nat) (l : List Nat) : Nat × (Nat → Tp) := l.foldl (lyS S G D) (0, fun _ => tp0)
def pS (T : Nat → Tp) : Nat → Nat
  | 0 => 0
  | n + 1 => pS T n + (T n).ps.length
def rS (T : Nat → Tp) : Nat → Nat
  | 0 => 0
  | n + 1 => rS T n + (T n).rs.length
theorem pS_congr {T T' : Nat → Tp} : ∀ (n : Nat), (∀ k, k < n → T k = T' k) → pS T n = pS T' n
  | 0, _ => rfl
  | n + 1, h => by
    unfold pS
    rw [pS_congr n (fun k hk => h k (by omega)), h n (by omega)]
theorem rS_congr {T T' : Nat → Tp} : ∀ (n : Nat), (∀ k, k < n → T k = T' k) → rS T n = rS T' n
  | 0, _ => rfl
  | n + 1, h => by
    unfold rS
    rw [rS_congr n (fun k hk => h k (by omega)), h n (by omega)]
theorem pS_mono {T : Nat → Tp} : ∀ {n k : Nat}, k ≤ n → pS T k ≤ pS T n
  | 0, k, h => by rw [Nat.le_zero.mp h]; exact Nat.le_refl _
  | n + 1, k, h => by
    by_cases q : k = n + 1
    · rw [q]; exact Nat.le_refl _
    · exact Nat.le_trans (pS_mono (n := n) (k := k) (by omega)) (Nat.le_add_right _ _)
theorem rS_mono {T : Nat → Tp} : ∀ {n k : Nat}, k ≤ n → rS T k ≤ rS T n
  | 0, k, h => by rw [Nat.le_zero.mp h]; exact Nat.le_refl _
  | n + 1, k, h => by
    by_cases q : k = n + 1
    · rw [q]; exact Nat.le_refl _
    · exact Nat.le_trans (rS_mono (n := n) (k := k) (by omega)) (Nat.le_add_right _ _)
theorem pS_lt {T : Nat → Tp} {n k : Nat} (h : k < n) : pS T k + (T k).ps.length ≤ pS T n := pS_mono (T := T) (n := n) (k := k + 1) h
theorem rS_lt {T : Nat → Tp} {n k : Nat} (h : k < n) : rS T k + (T k).rs.length ≤ rS T n := rS_mono (T := T) (n := n) (k := k + 1) h
