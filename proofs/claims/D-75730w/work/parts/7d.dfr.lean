/-! the pure search: two notes side by side; what a found way is like -/
theorem lpF_rel {α β : Type} {f : Nat → α → α} {g : Nat → β → β} {Q : α → β → Prop} : ∀ (k i : Nat) (a : α) (b : β), (∀ j a b, i ≤ j → j < i + k → Q a b → Q (f j a) (g j b)) → Q a b → Q (lpF f i k a) (lpF g i k b)
  | 0, _, _, _, _, h => h
  | k + 1, i, a, b, s, h => lpF_rel k (i + 1) (f i a) (g i b) (fun j a b h1 h2 => s j a b (by omega) (by omega)) (s i a b (Nat.le_refl _) (by omega) h)
/-- the roads' and gantries' numbers stand in their bounds -/
abbrev NetOK (S : Nat → Int32) (G R : Nat) : Prop := (G ≤ 12) ∧ (R ≤ 40) ∧ (∀ r, r < R → ∃ a, S (27 + 4 * r + 2) = nI a ∧ 1 ≤ a ∧ a ≤ 60) ∧ (∀ r, r < R → ∃ a, S (27 + 4 * r + 3) = nI a ∧ a ≤ 999) ∧ (∀ g, g < G → ∃ a, S (15 + g) = nI a ∧ a ≤ 99)
theorem NetOK.G12 {S : Nat → Int32} {G R : Nat} (h : NetOK S G R) : G ≤ 12 := h.1
theorem NetOK.R40 {S : Nat → Int32} {G R : Nat} (h : NetOK S G R) : R ≤ 40 := h.2.1
theorem NetOK.mi {S : Nat → Int32} {G R : Nat} (h : NetOK S G R) : ∀ r, r < R → ∃ a, S (27 + 4 * r + 2) = nI a ∧ 1 ≤ a ∧ a ≤ 60 := h.2.2.1
theorem NetOK.tl {S : Nat → Int32} {G R : Nat} (h : NetOK S G R) : ∀ r, r < R → ∃ a, S (27 + 4 * r + 3) = nI a ∧ a ≤ 999 := h.2.2.2.1
theorem NetOK.ms {S : Nat → Int32} {G R : Nat} (h : NetOK S G R) : ∀ g, g < G → ∃ a, S (15 + g) = nI a ∧ a ≤ 99 := h.2.2.2.2
/-- a way of s roads that hasn't come to its end -/
abbrev WyOK (G to : Nat) (fr : Int32) (s : Nat) (wy : Nat → Int32) (mi tl ms : Int32) : Prop := (wy 0 = fr) ∧ (∀ j, 0 < j → j ≤ s → ∃ g, g < G ∧ g ≠ to ∧ wy j = nI g) ∧ (∃ a, mi = nI a ∧ a ≤ 60 * s) ∧ (∃ a, tl = nI a ∧ a ≤ 999 * s) ∧ (∃ a, ms = nI a ∧ a ≤ 99 * s)
theorem WyOK.z {G to : Nat} {fr : Int32} {s : Nat} {wy : Nat → Int32} {mi tl ms : Int32} (h : WyOK G to fr s wy mi tl ms) : wy 0 = fr := h.1
theorem WyOK.g {G to : Nat} {fr : Int32} {s : Nat} {wy : Nat → Int32} {mi tl ms : Int32} (h : WyOK G to fr s wy mi tl ms) : ∀ j, 0 < j → j ≤ s → ∃ g, g < G ∧ g ≠ to ∧ wy j = nI g := h.2.1
theorem WyOK.m {G to : Nat} {fr : Int32} {s : Nat} {wy : Nat → Int32} {mi tl ms : Int32} (h : WyOK G to fr s wy mi tl ms) : ∃ a, mi = nI a ∧ a ≤ 60 * s := h.2.2.1
theorem WyOK.t {G to : Nat} {fr : Int32} {s : Nat} {wy : Nat → Int32} {mi tl ms : Int32} (h : WyOK G to fr s wy mi tl ms) : ∃ a, tl = nI a ∧ a ≤ 999 * s := h.2.2.2.1
theorem WyOK.c {G to : Nat} {fr : Int32} {s : Nat} {wy : Nat → Int32} {mi tl ms : Int32} (h : WyOK G to fr s wy mi tl ms) : ∃ a, ms = nI a ∧ a ≤ 99 * s := h.2.2.2.2
/-- a way of r roads at its end -/
abbrev NoOK (G to : Nat) (fr : Int32) (r : Nat) (wy : Nat → Int32) (mi tl ms : Int32) : Prop := (1 ≤ r) ∧ (r ≤ 6) ∧ (wy 0 = fr) ∧ (wy r = nI to) ∧ (∀ j, 0 < j → j < r → ∃ g, g < G ∧ g ≠ to ∧ wy j = nI g) ∧ (∃ a, mi = nI a ∧ a ≤ 360) ∧ (∃ a, tl = nI a ∧ a ≤ 5994) ∧ (∃ a, ms = nI a ∧ a ≤ 594)
theorem NoOK.r1 {G to : Nat} {fr : Int32} {r : Nat} {wy : Nat → Int32} {mi tl ms : Int32} (h : NoOK G to fr r wy mi tl ms) : 1 ≤ r := h.1
theorem NoOK.r6 {G to : Nat} {fr : Int32} {r : Nat} {wy : Nat → Int32} {mi tl ms : Int32} (h : NoOK G to fr r wy mi tl ms) : r ≤ 6 := h.2.1
theorem NoOK.z {G to : Nat} {fr : Int32} {r : Nat} {wy : Nat → Int32} {mi tl ms : Int32} (h : NoOK G to fr r wy mi tl ms) : wy 0 = fr := h.2.2.1
theorem NoOK.e {G to : Nat} {fr : Int32} {r : Nat} {wy : Nat → Int32} {mi tl ms : Int32} (h : NoOK G to fr r wy mi tl ms) : wy r = nI to := h.2.2.2.1
theorem NoOK.g {G to : Nat} {fr : Int32} {r : Nat} {wy : Nat → Int32} {mi tl ms : Int32} (h : NoOK G to fr r wy mi tl ms) : ∀ j, 0 < j → j < r → ∃ g, g < G ∧ g ≠ to ∧ wy j = nI g := h.2.2.2.2.1
theorem NoOK.m {G to : Nat} {fr : Int32} {r : Nat} {wy : Nat → Int32} {mi tl ms : Int32} (h : NoOK G to fr r wy mi tl ms) : ∃ a, mi = nI a ∧ a ≤ 360 := h.2.2.2.2.2.1
theorem NoOK.t {G to : Nat} {fr : Int32} {r : Nat} {wy : Nat → Int32} {mi tl ms : Int32} (h : NoOK G to fr r wy mi tl ms) : ∃ a, tl = nI a ∧ a ≤ 5994 := h.2.2.2.2.2.2.1
theorem NoOK.c {G to : Nat} {fr : Int32} {r : Nat} {wy : Nat → Int32} {mi tl ms : Int32} (h : NoOK G to fr r wy mi tl ms) : ∃ a, ms = nI a ∧ a ≤ 594 := h.2.2.2.2.2.2.2
theorem dfs_rel {α β : Type} {S : Nat → Int32} {G R to : Nat} {fr : Int32} {nt : Nat → (Nat → Int32) → Int32 → Int32 → Int32 → α → α} {nt' : Nat → (Nat → Int32) → Int32 → Int32 → Int32 → β → β} {Q : α → β → Prop} (hS : NetOK S G R)
    (hn : ∀ r wy mi tl ms a b, NoOK G to fr r wy mi tl ms → Q a b → Q (nt r wy mi tl ms a) (nt' r wy mi tl ms b)) :
    ∀ (f s : Nat) (wy : Nat → Int32) (mi tl ms : Int32) (a : α) (b : β), s + f ≤ 6 → WyOK G to fr s wy mi tl ms → Q a b → Q (dfs S G R to nt f s wy mi tl ms a) (dfs S G R to nt' f s wy mi tl ms b)
  | 0, _, _, _, _, _, _, _, _, _, h => h
  | f + 1, s, wy, mi, tl, ms, a, b, hf, hw, h => by
    unfold dfs
    refine lpF_rel G 0 a b (fun t a b _ ht hq => ?_) h
    by_cases ho : onR wy (nI t) 0 (s + 1) = true
    · rw [if_pos ho, if_pos ho]; exact hq
    · rw [if_neg ho, if_neg ho]
      cases hr : rdO S (wy s) (nI t) 0 R with
      | none => exact hq
      | some r =>
        dsimp only
        have hr2 := (rdO_lt hr).2
        obtain ⟨m1, em, lm⟩ := hw.m
        obtain ⟨t1, et, lt⟩ := hw.t
        obtain ⟨c1, ec, lc⟩ := hw.c
        obtain ⟨m2, em2, _, lm2⟩ := hS.mi r (by omega)
        obtain ⟨t2, et2, lt2⟩ := hS.tl r (by omega)
        obtain ⟨c2, ec2, lc2⟩ := hS.ms t (by omega)
        have hz : upd wy (s + 1) (nI t) 0 = fr := by rw [upd_ne (by omega)]; exact hw.z
        have hg : ∀ j, 0 < j → j < s + 1 → ∃ g, g < G ∧ g ≠ to ∧ upd wy (s + 1) (nI t) j = nI g := fun j h0 hj => by rw [upd_ne (by omega)]; exact hw.g j h0 (by omega)
        have e1 : mi + S (27 + 4 * r + 2) = nI (m1 + m2) := by rw [em, em2, nI_add]
        have e2 : tl + S (27 + 4 * r + 3) = nI (t1 + t2) := by rw [et, et2, nI_add]
        by_cases htt : t = to
        · rw [if_pos htt, if_pos htt]
          exact hn _ _ _ _ _ a b ⟨by omega, by omega, hz, by rw [upd_is rfl, htt], hg, ⟨_, e1, by omega⟩, ⟨_, e2, by omega⟩, ⟨_, ec, by omega⟩⟩ hq
        · rw [if_neg htt, if_neg htt]
          refine dfs_rel hS hn f (s + 1) _ _ _ _ a b (by omega) ⟨hz, fun j h0 hj => ?_, ⟨_, e1, by omega⟩, ⟨_, e2, by omega⟩, ⟨c1 + c2, by rw [ec, ec2, nI_add], by omega⟩⟩ hq
          by_cases q : j = s + 1
          · exact ⟨t, by omega, htt, by rw [upd_is q]⟩
          · exact hg j h0 (by omega)
theorem absI_n {a b : Nat} (ha : a < 1000000) (hb : b < 1000000) : absI (nI a - nI b) = nI (if b ≤ a then a - b else b - a) := by
  have e := pk_sub_toInt (a := a) (b := b) (by omega) (by omega)
  unfold absI
  by_cases h : b ≤ a
  · rw [pk_sub h, if_pos h, if_pos]
    exact (nI_leI (by omega) (by omega)).mpr (Nat.zero_le _)
  · rw [if_neg h, if_neg]
    · apply Int32.toInt.inj
      rw [nI_toInt (by omega), Int32.toInt_neg, e]
      rw [show -((a : Int) - b) = ((b - a : Nat) : Int) by omega]
      exact Int.bmod_eq_of_le (by omega) (by omega)
    · intro q
      have := Int32.le_iff_toInt_le.mp q
      rw [e, nI_toInt (by omega)] at this
      omega
theorem n_ltFar {c : Nat} (h : c < 1000000000) : (nI c < far) = True := eq_true ((nI_ltI (by omega) (by omega)).mpr h)
/-- the best way, whatever stood there before -/
def ac0 : Ac := (nI 0, (nI 0, (nI 0, (nI 0, (nI 0, fun _ => nI 0)))))
def bst (S : Nat → Int32) (G R : Nat) (fr : Int32) (to : Nat) (el : Int32) : Ac := best S G R fr to el ac0
/-- a found way -/
abbrev FdOK (G to : Nat) (fr : Int32) (a : Ac) (r : Nat) : Prop := (1 ≤ r) ∧ (r ≤ 6) ∧ (a.2.1 = nI r) ∧ (∃ c, a.1 = nI c ∧ c ≤ 1000000) ∧ (∃ c, a.2.2.1 = nI c ∧ c ≤ 5994) ∧ (∃ c, a.2.2.2.1 = nI c ∧ c ≤ 360) ∧ (a.2.2.2.2.2 0 = fr) ∧ (a.2.2.2.2.2 r = nI to) ∧ (∀ j, 0 < j → j < r → ∃ g, g < G ∧ g ≠ to ∧ a.2.2.2.2.2 j = nI g)
theorem FdOK.r1 {G to : Nat} {fr : Int32} {a : Ac} {r : Nat} (h : FdOK G to fr a r) : 1 ≤ r := h.1
theorem FdOK.r6 {G to : Nat} {fr : Int32} {a : Ac} {r : Nat} (h : FdOK G to fr a r) : r ≤ 6 := h.2.1
theorem FdOK.rd {G to : Nat} {fr : Int32} {a : Ac} {r : Nat} (h : FdOK G to fr a r) : a.2.1 = nI r := h.2.2.1
theorem FdOK.co {G to : Nat} {fr : Int32} {a : Ac} {r : Nat} (h : FdOK G to fr a r) : ∃ c, a.1 = nI c ∧ c ≤ 1000000 := h.2.2.2.1
theorem FdOK.tl {G to : Nat} {fr : Int32} {a : Ac} {r : Nat} (h : FdOK G to fr a r) : ∃ c, a.2.2.1 = nI c ∧ c ≤ 5994 := h.2.2.2.2.1
theorem FdOK.mi {G to : Nat} {fr : Int32} {a : Ac} {r : Nat} (h : FdOK G to fr a r) : ∃ c, a.2.2.2.1 = nI c ∧ c ≤ 360 := h.2.2.2.2.2.1
theorem FdOK.z {G to : Nat} {fr : Int32} {a : Ac} {r : Nat} (h : FdOK G to fr a r) : a.2.2.2.2.2 0 = fr := h.2.2.2.2.2.2.1
theorem FdOK.e {G to : Nat} {fr : Int32} {a : Ac} {r : Nat} (h : FdOK G to fr a r) : a.2.2.2.2.2 r = nI to := h.2.2.2.2.2.2.2.1
theorem FdOK.g {G to : Nat} {fr : Int32} {a : Ac} {r : Nat} (h : FdOK G to fr a r) : ∀ j, 0 < j → j < r → ∃ g, g < G ∧ g ≠ to ∧ a.2.2.2.2.2 j = nI g := h.2.2.2.2.2.2.2.2
/-- the cheapest one: none, or in its bounds -/
def ChOK (x : Int32) : Prop := x = far ∨ ∃ c, x = nI c ∧ c ≤ 5994
def BtOK (G to : Nat) (fr : Int32) (a b : Ac) : Prop := a.2.2.2.2.1 = b.2.2.2.2.1 ∧ ChOK b.2.2.2.2.1 ∧ ((a.1 = far ∧ b.1 = far ∧ a.2.1 = far ∧ b.2.1 = far) ∨ (a.1 = b.1 ∧ a.2.1 = b.2.1 ∧ a.2.2.1 = b.2.2.1 ∧ a.2.2.2.1 = b.2.2.2.1 ∧ ∃ r, FdOK G to fr b r ∧ ∀ j, j ≤ r → a.2.2.2.2.2 j = b.2.2.2.2.2 j))
theorem minI_Ch {x : Int32} (h : ChOK x) {t : Nat} (ht : t ≤ 5994) : ∃ c, minI x (nI t) = nI c ∧ c ≤ 5994 := by
  unfold minI
  rcases h with rfl | ⟨c, rfl, hc⟩
  · rw [if_pos (of_eq_true (n_ltFar (by omega)))]
    exact ⟨t, rfl, ht⟩
  · by_cases q : nI t < nI c
    · rw [if_pos q]; exact ⟨t, rfl, ht⟩
    · rw [if_neg q]; exact ⟨c, rfl, hc⟩
theorem far_ne {c : Nat} (h : c < 1000000000) : nI c ≠ far := fun q => by
  have := (nI_eq (by omega) (by omega)).mp q
  omega
theorem aNote_bt {S : Nat → Int32} {G to : Nat} {fr : Int32} {e sl : Nat} (he : e ≤ 600) (hsl : S 2 = nI sl) (hsl2 : sl ≤ 20) {r : Nat} {wy : Nat → Int32} {mi tl ms : Int32} {a b : Ac} (hn : NoOK G to fr r wy mi tl ms) (h : BtOK G to fr a b) : BtOK G to fr (aNote S (nI e) r wy mi tl ms a) (aNote S (nI e) r wy mi tl ms b) := by
  obtain ⟨h1, h2, h3⟩ := h
  obtain ⟨m, em, lm⟩ := hn.m
  obtain ⟨t, et, lt⟩ := hn.t
  obtain ⟨c, ec, lc⟩ := hn.c
  have r6 := hn.r6
  have hco : ∃ k, ms + S 2 * absI (nI e - mi) = nI k ∧ k ≤ 1000000 := by
    rw [em, absI_n (by omega) (by omega), hsl, ec, pk_mul, nI_add]
    refine ⟨_, rfl, ?_⟩
    have : (if m ≤ e then e - m else m - e) ≤ 600 := by split <;> omega
    have := Nat.mul_le_mul hsl2 this
    omega
  obtain ⟨k, ek, lk⟩ := hco
  have hch : ChOK (minI b.2.2.2.2.1 tl) := Or.inr (by rw [et]; exact minI_Ch h2 lt)
  have hfd : FdOK G to fr (ms + S 2 * absI (nI e - mi), (nI r, (tl, (mi, (minI b.2.2.2.2.1 tl, cpyR wy b.2.2.2.2.2 0 0 (r + 1)))))) r := by
    refine ⟨hn.r1, hn.r6, rfl, ⟨k, ek, lk⟩, ⟨t, et, lt⟩, ⟨m, em, lm⟩, ?_, ?_, fun j h0 hj => ?_⟩
    · show cpyR wy b.2.2.2.2.2 0 0 (r + 1) 0 = fr
      unfold cpyR
      rw [if_pos (by omega)]
      exact hn.z
    · show cpyR wy b.2.2.2.2.2 0 0 (r + 1) r = nI to
      unfold cpyR
      rw [if_pos (by omega), Nat.zero_add, Nat.sub_zero]
      exact hn.e
    · obtain ⟨g, g1, g2, g3⟩ := hn.g j h0 hj
      refine ⟨g, g1, g2, ?_⟩
      show cpyR wy b.2.2.2.2.2 0 0 (r + 1) j = nI g
      unfold cpyR
      rw [if_pos (by omega), Nat.zero_add, Nat.sub_zero]
      exact g3
  have hcp : ∀ x y : Nat → Int32, ∀ j, j ≤ r → cpyR wy x 0 0 (r + 1) j = cpyR wy y 0 0 (r + 1) j := fun x y j hj => by
    unfold cpyR
    rw [if_pos (by omega), if_pos (by omega)]
  unfold aNote
  by_cases q1 : nI e * nI 100 < mi * S 3
  · rw [if_pos q1, if_pos q1]
    refine ⟨by rw [h1], hch, ?_⟩
    rcases h3 with h3 | ⟨x1, x2, x3, x4, r', f, w⟩
    · exact Or.inl h3
    · exact Or.inr ⟨x1, x2, x3, x4, r', ⟨f.r1, f.r6, f.rd, f.co, f.tl, f.mi, f.z, f.e, f.g⟩, w⟩
  · rw [if_neg q1, if_neg q1]
    rcases h3 with ⟨x1, x2, x3, x4⟩ | ⟨x1, x2, x3, x4, r', f, w⟩
    · have y1 : ¬ far < ms + S 2 * absI (nI e - mi) := by
        rw [ek]
        exact Int32.not_lt.mpr (Int32.le_of_lt (of_eq_true (n_ltFar (by omega))))
      have y2 : ¬ (ms + S 2 * absI (nI e - mi) = far ∧ far ≤ nI r) := by
        rw [ek]
        exact fun q => far_ne (by omega) q.1
      rw [x1, x2, x3, x4, if_neg y1, if_neg y1, if_neg y2, if_neg y2]
      exact ⟨by rw [h1], hch, Or.inr ⟨rfl, rfl, rfl, rfl, r, hfd, hcp _ _⟩⟩
    · rw [x1, x2]
      by_cases q2 : b.1 < ms + S 2 * absI (nI e - mi)
      · rw [if_pos q2, if_pos q2]
        exact ⟨by rw [h1], hch, Or.inr ⟨rfl, rfl, x3, x4, r', ⟨f.r1, f.r6, f.rd, f.co, f.tl, f.mi, f.z, f.e, f.g⟩, w⟩⟩
      · rw [if_neg q2, if_neg q2]
        by_cases q3 : ms + S 2 * absI (nI e - mi) = b.1 ∧ b.2.1 ≤ nI r
        · rw [if_pos q3, if_pos q3]
          exact ⟨by rw [h1], hch, Or.inr ⟨rfl, rfl, x3, x4, r', ⟨f.r1, f.r6, f.rd, f.co, f.tl, f.mi, f.z, f.e, f.g⟩, w⟩⟩
        · rw [if_neg q3, if_neg q3]
          exact ⟨by rw [h1], hch, Or.inr ⟨rfl, rfl, rfl, rfl, r, hfd, hcp _ _⟩⟩
theorem best_ok {S : Nat → Int32} {G R to : Nat} {fr : Int32} {e sl : Nat} (hS : NetOK S G R) (he : e ≤ 600) (hsl : S 2 = nI sl) (hsl2 : sl ≤ 20) (a : Ac) : BtOK G to fr (best S G R fr to (nI e) a) (bst S G R fr to (nI e)) := by
  have hw : WyOK G to fr 0 (fun _ => fr) (nI 0) (nI 0) (nI 0) := ⟨rfl, fun j h0 hj => by omega, ⟨0, rfl, by omega⟩, ⟨0, rfl, by omega⟩, ⟨0, rfl, by omega⟩⟩
  have h0 : ∀ a b : Ac, BtOK G to fr (far, (far, (a.2.2.1, (a.2.2.2.1, (far, a.2.2.2.2.2))))) (far, (far, (b.2.2.1, (b.2.2.2.1, (far, b.2.2.2.2.2))))) := fun a b => ⟨rfl, Or.inl rfl, Or.inl ⟨rfl, rfl, rfl, rfl⟩⟩
  exact dfs_rel (Q := BtOK G to fr) (nt := aNote S (nI e)) (nt' := aNote S (nI e)) hS (fun r wy mi tl ms a b hn h => aNote_bt he hsl hsl2 hn h) 6 0 (fun _ => fr) (nI 0) (nI 0) (nI 0) _ _ (by omega) hw (h0 a ac0)
