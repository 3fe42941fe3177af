/-! all ways from a gantry to another one, as a pure function: of at most f roads more, behind s roads; a note at each end -/
def rdO (S : Nat → Int32) (a b : Int32) : Nat → Nat → Option Nat
  | _, 0 => none
  | i, k + 1 => if S (27 + 4 * i) = a ∧ S (27 + 4 * i + 1) = b then some i else rdO S a b (i + 1) k
theorem rdF_O (S : Nat → Int32) (a b : Int32) : ∀ (k i : Nat), rdF S a b i k = match rdO S a b i k with
    | none => nN
    | some r => nI r
  | 0, i => rfl
  | k + 1, i => by
    unfold rdF rdO
    by_cases h : S (27 + 4 * i) = a ∧ S (27 + 4 * i + 1) = b
    · rw [if_pos h, if_pos h]
    · rw [if_neg h, if_neg h]
      exact rdF_O S a b k (i + 1)
theorem rdO_lt {S : Nat → Int32} {a b : Int32} : ∀ {k i r : Nat}, rdO S a b i k = some r → i ≤ r ∧ r < i + k
  | 0, i, r, h => by cases h
  | k + 1, i, r, h => by
    unfold rdO at h
    by_cases q : S (27 + 4 * i) = a ∧ S (27 + 4 * i + 1) = b
    · rw [if_pos q] at h
      cases h
      omega
    · rw [if_neg q] at h
      have := rdO_lt h
      omega
theorem onR_congr {f g : Nat → Int32} {x : Int32} : ∀ (k i : Nat), (∀ j, i ≤ j → j < i + k → f j = g j) → onR f x i k = onR g x i k
  | 0, _, _ => rfl
  | k + 1, i, h => by
    unfold onR
    rw [h i (Nat.le_refl _) (by omega), onR_congr k (i + 1) (fun j h1 h2 => h j (by omega) (by omega))]
def dfs {α : Type} (S : Nat → Int32) (G R to : Nat) (nt : Nat → (Nat → Int32) → Int32 → Int32 → Int32 → α → α) : Nat → Nat → (Nat → Int32) → Int32 → Int32 → Int32 → α → α
  | 0, _, _, _, _, _, a => a
  | f + 1, s, wy, mi, tl, ms, a => lpF (fun t a => if onR wy (nI t) 0 (s + 1) = true then a else match rdO S (wy s) (nI t) 0 R with
    | none => a
    | some r => if t = to then nt (s + 1) (upd wy (s + 1) (nI t)) (mi + S (27 + 4 * r + 2)) (tl + S (27 + 4 * r + 3)) ms a
      else dfs S G R to nt f (s + 1) (upd wy (s + 1) (nI t)) (mi + S (27 + 4 * r + 2)) (tl + S (27 + 4 * r + 3)) (ms + S (15 + t)) a) 0 G a
/-- a note that looks at the way as far as it goes -/
def NtC {α : Type} (nt : Nat → (Nat → Int32) → Int32 → Int32 → Int32 → α → α) : Prop := ∀ r wy wy' mi tl ms a, (∀ j, j ≤ r → wy j = wy' j) → nt r wy mi tl ms a = nt r wy' mi tl ms a
theorem dfs_congr {α : Type} {S : Nat → Int32} {G R to : Nat} {nt : Nat → (Nat → Int32) → Int32 → Int32 → Int32 → α → α} (hn : NtC nt) : ∀ (f s : Nat) (wy wy' : Nat → Int32) (mi tl ms : Int32) (a : α), (∀ j, j ≤ s → wy j = wy' j) → dfs S G R to nt f s wy mi tl ms a = dfs S G R to nt f s wy' mi tl ms a
  | 0, _, _, _, _, _, _, _, _ => rfl
  | f + 1, s, wy, wy', mi, tl, ms, a, h => by
    unfold dfs
    refine lpF_congr _ _ _ (fun t b _ _ => ?_)
    rw [onR_congr (f := wy) (g := wy') (s + 1) 0 (fun j _ h2 => h j (by omega)), h s (Nat.le_refl _)]
    have hu : ∀ j, j ≤ s + 1 → upd wy (s + 1) (nI t) j = upd wy' (s + 1) (nI t) j := fun j hj => by
      unfold upd
      by_cases q : j = s + 1
      · rw [if_pos q, if_pos q]
      · rw [if_neg q, if_neg q]; exact h j (by omega)
    cases hr : rdO S (wy' s) (nI t) 0 R with
    | none => rfl
    | some r =>
      dsimp only
      rw [hn (s + 1) _ _ _ _ _ b hu, dfs_congr hn f (s + 1) _ _ _ _ _ b hu]
