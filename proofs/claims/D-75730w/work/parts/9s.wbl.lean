/-! the component's bills: what is known of each -/
/-- a bill's rows against its trip -/
abbrev BlR (S : Nat → Int32) (R i : Nat) (t : Tp) : Prop := (t.rs ≠ []) ∧ (t.rs.length ≤ 120) ∧ (1 ≤ t.ps.length ∧ t.ps.length + 5 ≤ 6 * t.rs.length) ∧ (∀ j, j < R → (S (280 + 7 * j + 6) = nI i ↔ j ∈ t.rs)) ∧ (∀ j, j ∈ t.rs → j < R ∧ S (280 + 7 * j + 5) = nI 3) ∧ (∀ x, x ∈ t.ps → x.1 < cS S 8) ∧ (∃ c, t.to = nI c ∧ c ≤ 719280) ∧ (∃ v, v < cS S 11 ∧ S (1120 + 18 * i) = nI v) ∧ (S (1120 + 18 * i + 1) = nN ∨ ∃ c, c < cS S 10 ∧ S (1120 + 18 * i + 1) = nI c) ∧ (∃ z, (1 ≤ z ∧ z ≤ 4) ∧ S (1120 + 18 * i + 13) = nI z) ∧ (∃ c, c ≤ 50 ∧ S (1120 + 18 * i + 14) = nI c) ∧ (∃ c, c ≤ 119880 ∧ S (1120 + 18 * i + 5) = nI c) ∧ (∃ c, c ≤ 999 ∧ S (1120 + 18 * i + 16) = nI c) ∧ (S (1120 + 18 * i + 2) = S (1120 + 18 * i + 3) - S (1120 + 18 * i + 3) * S (1120 + 18 * i + 14) / nI 100 + S (1120 + 18 * i + 5) + S (1120 + 18 * i + 16)) ∧ (S (1120 + 18 * i + 3) = t.to * S (1120 + 18 * i + 13)) ∧ (S (1120 + 18 * i + 4) = S (1120 + 18 * i + 3) * S (1120 + 18 * i + 14) / nI 100) ∧ (S (1120 + 18 * i + 6) = fstT S t) ∧ (S (1120 + 18 * i + 7) = lstT S t) ∧ (S (1120 + 18 * i + 8) = nI t.ps.length) ∧ (S (1120 + 18 * i + 9) = nI (misN t.ps)) ∧ (S (1120 + 18 * i + 10) = nI t.rs.length) ∧ (S (1120 + 18 * i + 17) = nI (imgN S t.rs)) ∧ (∃ P, S (1120 + 18 * i + 15) = nI P ∧ P + t.ps.length ≤ cS S 14 ∧ ∀ k, k < t.ps.length → S (2200 + (P + k)) = nI (codP (t.ps.getD k (0, false))))
theorem BlR.ne {S : Nat → Int32} {R i : Nat} {t : Tp} (hse1f : BlR S R i t) : t.rs ≠ [] := hse1f.1
theorem BlR.lr {S : Nat → Int32} {R i : Nat} {t : Tp} (hse1f : BlR S R i t) : t.rs.length ≤ 120 := hse1f.2.1
theorem BlR.lp {S : Nat → Int32} {R i : Nat} {t : Tp} (hse1f : BlR S R i t) : 1 ≤ t.ps.length ∧ t.ps.length + 5 ≤ 6 * t.rs.length := hse1f.2.2.1
theorem BlR.mem {S : Nat → Int32} {R i : Nat} {t : Tp} (hse1f : BlR S R i t) : ∀ j, j < R → (S (280 + 7 * j + 6) = nI i ↔ j ∈ t.rs) := hse1f.2.2.2.1
theorem BlR.rs {S : Nat → Int32} {R i : Nat} {t : Tp} (hse1f : BlR S R i t) : ∀ j, j ∈ t.rs → j < R ∧ S (280 + 7 * j + 5) = nI 3 := hse1f.2.2.2.2.1
theorem BlR.g {S : Nat → Int32} {R i : Nat} {t : Tp} (hse1f : BlR S R i t) : ∀ x, x ∈ t.ps → x.1 < cS S 8 := hse1f.2.2.2.2.2.1
theorem BlR.to {S : Nat → Int32} {R i : Nat} {t : Tp} (hse1f : BlR S R i t) : ∃ c, t.to = nI c ∧ c ≤ 719280 := hse1f.2.2.2.2.2.2.1
theorem BlR.v {S : Nat → Int32} {R i : Nat} {t : Tp} (hse1f : BlR S R i t) : ∃ v, v < cS S 11 ∧ S (1120 + 18 * i) = nI v := hse1f.2.2.2.2.2.2.2.1
theorem BlR.ac {S : Nat → Int32} {R i : Nat} {t : Tp} (hse1f : BlR S R i t) : S (1120 + 18 * i + 1) = nN ∨ ∃ c, c < cS S 10 ∧ S (1120 + 18 * i + 1) = nI c := hse1f.2.2.2.2.2.2.2.2.1
theorem BlR.sz {S : Nat → Int32} {R i : Nat} {t : Tp} (hse1f : BlR S R i t) : ∃ z, (1 ≤ z ∧ z ≤ 4) ∧ S (1120 + 18 * i + 13) = nI z := hse1f.2.2.2.2.2.2.2.2.2.1
theorem BlR.pc {S : Nat → Int32} {R i : Nat} {t : Tp} (hse1f : BlR S R i t) : ∃ c, c ≤ 50 ∧ S (1120 + 18 * i + 14) = nI c := hse1f.2.2.2.2.2.2.2.2.2.2.1
theorem BlR.im {S : Nat → Int32} {R i : Nat} {t : Tp} (hse1f : BlR S R i t) : ∃ c, c ≤ 119880 ∧ S (1120 + 18 * i + 5) = nI c := hse1f.2.2.2.2.2.2.2.2.2.2.2.1
theorem BlR.iv {S : Nat → Int32} {R i : Nat} {t : Tp} (hse1f : BlR S R i t) : ∃ c, c ≤ 999 ∧ S (1120 + 18 * i + 16) = nI c := hse1f.2.2.2.2.2.2.2.2.2.2.2.2.1
theorem BlR.r2 {S : Nat → Int32} {R i : Nat} {t : Tp} (hse1f : BlR S R i t) : S (1120 + 18 * i + 2) = S (1120 + 18 * i + 3) - S (1120 + 18 * i + 3) * S (1120 + 18 * i + 14) / nI 100 + S (1120 + 18 * i + 5) + S (1120 + 18 * i + 16) := hse1f.2.2.2.2.2.2.2.2.2.2.2.2.2.1
theorem BlR.r3 {S : Nat → Int32} {R i : Nat} {t : Tp} (hse1f : BlR S R i t) : S (1120 + 18 * i + 3) = t.to * S (1120 + 18 * i + 13) := hse1f.2.2.2.2.2.2.2.2.2.2.2.2.2.2.1
theorem BlR.r4 {S : Nat → Int32} {R i : Nat} {t : Tp} (hse1f : BlR S R i t) : S (1120 + 18 * i + 4) = S (1120 + 18 * i + 3) * S (1120 + 18 * i + 14) / nI 100 := hse1f.2.2.2.2.2.2.2.2.2.2.2.2.2.2.2.1
theorem BlR.r6 {S : Nat → Int32} {R i : Nat} {t : Tp} (hse1f : BlR S R i t) : S (1120 + 18 * i + 6) = fstT S t := hse1f.2.2.2.2.2.2.2.2.2.2.2.2.2.2.2.2.1
theorem BlR.r7 {S : Nat → Int32} {R i : Nat} {t : Tp} (hse1f : BlR S R i t) : S (1120 + 18 * i + 7) = lstT S t := hse1f.2.2.2.2.2.2.2.2.2.2.2.2.2.2.2.2.2.1
theorem BlR.r8 {S : Nat → Int32} {R i : Nat} {t : Tp} (hse1f : BlR S R i t) : S (1120 + 18 * i + 8) = nI t.ps.length := hse1f.2.2.2.2.2.2.2.2.2.2.2.2.2.2.2.2.2.2.1
theorem BlR.r9 {S : Nat → Int32} {R i : Nat} {t : Tp} (hse1f : BlR S R i t) : S (1120 + 18 * i + 9) = nI (misN t.ps) := hse1f.2.2.2.2.2.2.2.2.2.2.2.2.2.2.2.2.2.2.2.1
theorem BlR.r10 {S : Nat → Int32} {R i : Nat} {t : Tp} (hse1f : BlR S R i t) : S (1120 + 18 * i + 10) = nI t.rs.length := hse1f.2.2.2.2.2.2.2.2.2.2.2.2.2.2.2.2.2.2.2.2.1
theorem BlR.r17 {S : Nat → Int32} {R i : Nat} {t : Tp} (hse1f : BlR S R i t) : S (1120 + 18 * i + 17) = nI (imgN S t.rs) := hse1f.2.2.2.2.2.2.2.2.2.2.2.2.2.2.2.2.2.2.2.2.2.1
theorem BlR.pl {S : Nat → Int32} {R i : Nat} {t : Tp} (hse1f : BlR S R i t) : ∃ P, S (1120 + 18 * i + 15) = nI P ∧ P + t.ps.length ≤ cS S 14 ∧ ∀ k, k < t.ps.length → S (2200 + (P + k)) = nI (codP (t.ps.getD k (0, false))) := hse1f.2.2.2.2.2.2.2.2.2.2.2.2.2.2.2.2.2.2.2.2.2.2
/-- what a change of the row leaves of the bills -/
abbrev AgB (S S' : Nat → Int32) (Bn R R' : Nat) : Prop := (∀ i k, i < Bn → k < 18 → k ≠ 11 → k ≠ 12 → S' (1120 + 18 * i + k) = S (1120 + 18 * i + k)) ∧ (∀ k, k < cS S 14 → S' (2200 + k) = S (2200 + k)) ∧ (cS S 14 ≤ cS S' 14) ∧ (∀ j, j < R → S (280 + 7 * j + 5) = nI 3 → ∀ k, k < 7 → S' (280 + 7 * j + k) = S (280 + 7 * j + k)) ∧ (∀ j i, j < R' → i < Bn → S' (280 + 7 * j + 6) = nI i → j < R ∧ S (280 + 7 * j + 6) = nI i) ∧ (R ≤ R') ∧ (cS S 8 ≤ cS S' 8) ∧ (cS S 10 ≤ cS S' 10) ∧ (cS S 11 ≤ cS S' 11)
theorem AgB.bl {S S' : Nat → Int32} {Bn R R' : Nat} (hse1f : AgB S S' Bn R R') : ∀ i k, i < Bn → k < 18 → k ≠ 11 → k ≠ 12 → S' (1120 + 18 * i + k) = S (1120 + 18 * i + k) := hse1f.1
theorem AgB.pl {S S' : Nat → Int32} {Bn R R' : Nat} (hse1f : AgB S S' Bn R R') : ∀ k, k < cS S 14 → S' (2200 + k) = S (2200 + k) := hse1f.2.1
theorem AgB.p14 {S S' : Nat → Int32} {Bn R R' : Nat} (hse1f : AgB S S' Bn R R') : cS S 14 ≤ cS S' 14 := hse1f.2.2.1
theorem AgB.rd {S S' : Nat → Int32} {Bn R R' : Nat} (hse1f : AgB S S' Bn R R') : ∀ j, j < R → S (280 + 7 * j + 5) = nI 3 → ∀ k, k < 7 → S' (280 + 7 * j + k) = S (280 + 7 * j + k) := hse1f.2.2.2.1
theorem AgB.bk {S S' : Nat → Int32} {Bn R R' : Nat} (hse1f : AgB S S' Bn R R') : ∀ j i, j < R' → i < Bn → S' (280 + 7 * j + 6) = nI i → j < R ∧ S (280 + 7 * j + 6) = nI i := hse1f.2.2.2.2.1
theorem AgB.RR {S S' : Nat → Int32} {Bn R R' : Nat} (hse1f : AgB S S' Bn R R') : R ≤ R' := hse1f.2.2.2.2.2.1
theorem AgB.cG {S S' : Nat → Int32} {Bn R R' : Nat} (hse1f : AgB S S' Bn R R') : cS S 8 ≤ cS S' 8 := hse1f.2.2.2.2.2.2.1
theorem AgB.cC {S S' : Nat → Int32} {Bn R R' : Nat} (hse1f : AgB S S' Bn R R') : cS S 10 ≤ cS S' 10 := hse1f.2.2.2.2.2.2.2.1
theorem AgB.cV {S S' : Nat → Int32} {Bn R R' : Nat} (hse1f : AgB S S' Bn R R') : cS S 11 ≤ cS S' 11 := hse1f.2.2.2.2.2.2.2.2
section
variable {S S' : Nat → Int32} {R R' i Bn : Nat} {t : Tp}
theorem fstT_c (h : ∀ j, j ∈ t.rs → S' (280 + 7 * j + 2) = S (280 + 7 * j + 2)) (hn : t.rs ≠ []) : fstT S' t = fstT S t := by
  unfold fstT
  cases hr : t.rs with
  | nil => exact absurd hr hn
  | cons a b => exact h a (by rw [hr]; exact List.mem_cons_self)
theorem lstT_c (h : ∀ j, j ∈ t.rs → S' (280 + 7 * j + 2) = S (280 + 7 * j + 2)) (hn : t.rs ≠ []) : lstT S' t = lstT S t := by
  unfold lstT
  exact h _ (last_mem hn)
theorem imgN_cc {l : List Nat} (h : ∀ j, j ∈ l → S' (280 + 7 * j + 3) = S (280 + 7 * j + 3)) : imgN S' l = imgN S l := by
  unfold imgN
  exact List.countP_congr (fun x hx => by rw [h x hx])
theorem BlR.sc (h : BlR S R i t) (ag : AgB S S' Bn R R') (hi : i < Bn) : BlR S' R' i t := by
  have e : ∀ k, k < 18 → k ≠ 11 → k ≠ 12 → S' (1120 + 18 * i + k) = S (1120 + 18 * i + k) := fun k h1 h2 h3 => ag.bl i k hi h1 h2 h3
  have e0 : S' (1120 + 18 * i) = S (1120 + 18 * i) := e 0 (by decide) (by decide) (by decide)
  have rd : ∀ j, j ∈ t.rs → ∀ k, k < 7 → S' (280 + 7 * j + k) = S (280 + 7 * j + k) := fun j hj => ag.rd j (h.rs j hj).1 (h.rs j hj).2
  obtain ⟨P, p1, p2, p3⟩ := h.pl
  refine ⟨h.ne, h.lr, h.lp, fun j hj => ⟨fun z => ?_, fun z => ?_⟩, fun j hj => ⟨Nat.lt_of_lt_of_le (h.rs j hj).1 ag.RR, ?_⟩, fun x hx => Nat.lt_of_lt_of_le (h.g x hx) ag.cG, h.to, ?_, ?_, ?_, ?_, ?_, ?_, ?_, ?_, ?_, ?_, ?_, ?_, ?_, ?_, ?_, ⟨P, ?_, Nat.le_trans p2 ag.p14, fun k hk => ?_⟩⟩
  · obtain ⟨a, b⟩ := ag.bk j i hj hi z
    exact (h.mem j a).mp b
  · have hr := (h.rs j z).1
    rw [rd j z 6 (by decide)]
    exact (h.mem j hr).mpr z
  · rw [rd j hj 5 (by decide)]; exact (h.rs j hj).2
  · obtain ⟨v, v1, v2⟩ := h.v
    exact ⟨v, Nat.lt_of_lt_of_le v1 ag.cV, e0.trans v2⟩
  · rw [e 1 (by decide) (by decide) (by decide)]
    rcases h.ac with z | ⟨c, c1, c2⟩
    · exact Or.inl z
    · exact Or.inr ⟨c, Nat.lt_of_lt_of_le c1 ag.cC, c2⟩
  · rw [e 13 (by decide) (by decide) (by decide)]; exact h.sz
  · rw [e 14 (by decide) (by decide) (by decide)]; exact h.pc
  · rw [e 5 (by decide) (by decide) (by decide)]; exact h.im
  · rw [e 16 (by decide) (by decide) (by decide)]; exact h.iv
  · rw [e 2 (by decide) (by decide) (by decide), e 3 (by decide) (by decide) (by decide), e 14 (by decide) (by decide) (by decide), e 5 (by decide) (by decide) (by decide), e 16 (by decide) (by decide) (by decide)]; exact h.r2
  · rw [e 3 (by decide) (by decide) (by decide), e 13 (by decide) (by decide) (by decide)]; exact h.r3
  · rw [e 4 (by decide) (by decide) (by decide), e 3 (by decide) (by decide) (by decide), e 14 (by decide) (by decide) (by decide)]; exact h.r4
  · rw [e 6 (by decide) (by decide) (by decide), fstT_c (fun j hj => rd j hj 2 (by decide)) h.ne]; exact h.r6
  · rw [e 7 (by decide) (by decide) (by decide), lstT_c (fun j hj => rd j hj 2 (by decide)) h.ne]; exact h.r7
  · rw [e 8 (by decide) (by decide) (by decide)]; exact h.r8
  · rw [e 9 (by decide) (by decide) (by decide)]; exact h.r9
  · rw [e 10 (by decide) (by decide) (by decide)]; exact h.r10
  · rw [e 17 (by decide) (by decide) (by decide), imgN_cc (fun j hj => rd j hj 3 (by decide))]; exact h.r17
  · rw [e 15 (by decide) (by decide) (by decide)]; exact p1
  · rw [ag.pl (P + k) (by omega)]; exact p3 k hk
end
/-- the ints of a bill by its row -/
def blF (S : Nat → Int32) (i : Nat) : Nat → Int32 := fun k => if k = 0 then S (1120 + 18 * i) else if k = 1 then S (1120 + 18 * i + 1) else if k = 2 then S (1120 + 18 * i + 2) else if k = 3 then S (1120 + 18 * i + 3) else if k = 4 then S (1120 + 18 * i + 14) else if k = 5 then S (1120 + 18 * i + 5) else if k = 6 then S (1120 + 18 * i + 16) else if k = 8 then S (1120 + 18 * i + 11) else S (1120 + 18 * i + 12)
/-- a bill, its trip, the trip's reads -/
def BlX (A : Hp) (w : Lb) (b y : Nat) (S : Nat → Int32) (R i : Nat) : Prop := ∃ T t aO, BlO A w y (1000 * b + (300 + i)) (blF S i) T ∧ TpO A w T 0 0 aO (S (1120 + 18 * i + 13)) t ∧ (∀ j, j ∈ t.rs → ObI A w (aO j) 0 17 89 8 (rdFn S j)) ∧ BlR S R i t
abbrev WBl (A : Hp) (w : Lb) (b bl n : Nat) (bO : Nat → Nat) (S : Nat → Int32) (R : Nat) : Prop := (WL A w bl (1000 * b + 8) n bO) ∧ (n ≤ 60) ∧ (∀ i, i < n → BlX A w b (bO i) S R i)
theorem WBl.l {A : Hp} {w : Lb} {b bl n : Nat} {bO : Nat → Nat} {S : Nat → Int32} {R : Nat} (hse1f : WBl A w b bl n bO S R) : WL A w bl (1000 * b + 8) n bO := hse1f.1
theorem WBl.n60 {A : Hp} {w : Lb} {b bl n : Nat} {bO : Nat → Nat} {S : Nat → Int32} {R : Nat} (hse1f : WBl A w b bl n bO S R) : n ≤ 60 := hse1f.2.1
theorem WBl.o {A : Hp} {w : Lb} {b bl n : Nat} {bO : Nat → Nat} {S : Nat → Int32} {R : Nat} (hse1f : WBl A w b bl n bO S R) : ∀ i, i < n → BlX A w b (bO i) S R i := hse1f.2.2
section
variable {A A' B : Hp} {w w' wB : Lb} {X : Nat → Prop} {b y bl n R R' i c u : Nat} {bO : Nat → Nat} {S S' : Nat → Int32}
theorem BlX.fr (h : BlX A w b y S R i) (k : Fr A w A' w' X c u) (hl : ¬ X (1000 * b + (300 + i))) (h0 : ¬ X 0) : BlX A' w' b y S R i := by
  obtain ⟨T, t, aO, h1, h2, h3, h4⟩ := h
  exact ⟨T, t, aO, h1.fr k hl, h2.fr k h0 h0 h0 h0, fun j hj => (h3 j hj).fr k h0, h4⟩
theorem rdFn_c {j : Nat} (h : ∀ k, k < 7 → S' (280 + 7 * j + k) = S (280 + 7 * j + k)) : ∀ k, k < 8 → rdFn S' j k = rdFn S j k := by
  intro k hk
  have e0 : S' (280 + 7 * j) = S (280 + 7 * j) := h 0 (by decide)
  have e1 := h 1 (by decide)
  have e2 := h 2 (by decide)
  have e3 := h 3 (by decide)
  have e4 := h 4 (by decide)
  have e5 := h 5 (by decide)
  have e6 := h 6 (by decide)
  unfold rdFn
  rw [e0, e1, e2, e3, e4, e5, e6]
theorem blF_c (h : ∀ k, k < 18 → S' (1120 + 18 * i + k) = S (1120 + 18 * i + k)) : ∀ k, blF S' i k = blF S i k := by
  intro k
  have e0 : S' (1120 + 18 * i) = S (1120 + 18 * i) := h 0 (by decide)
  unfold blF
  rw [e0, h 1 (by decide), h 2 (by decide), h 3 (by decide), h 14 (by decide), h 5 (by decide), h 16 (by decide), h 11 (by decide), h 12 (by decide)]
theorem BlX.sc (h : BlX A w b y S R i) (ag : AgB S S' n R R') (hi : i < n) (h11 : S' (1120 + 18 * i + 11) = S (1120 + 18 * i + 11)) (h12 : S' (1120 + 18 * i + 12) = S (1120 + 18 * i + 12)) : BlX A w b y S' R' i := by
  obtain ⟨T, t, aO, h1, h2, h3, h4⟩ := h
  have e : ∀ k, k < 18 → S' (1120 + 18 * i + k) = S (1120 + 18 * i + k) := fun k hk => by
    by_cases z1 : k = 11
    · rw [z1]; exact h11
    · by_cases z2 : k = 12
      · rw [z2]; exact h12
      · exact ag.bl i k hi hk z1 z2
  exact ⟨T, t, aO, h1.too (fun k _ _ => blF_c e k), by rw [e 13 (by decide)]; exact h2, fun j hj => (h3 j hj).to (rdFn_c (ag.rd j (h4.rs j hj).1 (h4.rs j hj).2)), h4.sc ag hi⟩
theorem WBl.fr (h : WBl A w b bl n bO S R) (k : Fr A w A' w' X c u) (h8 : ¬ X (1000 * b + 8)) (h0 : ¬ X 0) (hx : ∀ i, i < 60 → ¬ X (1000 * b + (300 + i))) : WBl A' w' b bl n bO S R := ⟨h.l.fr k h8, h.n60, fun i hi => (h.o i hi).fr k (hx i (Nat.lt_of_lt_of_le hi h.n60)) h0⟩
theorem WBl.sc (h : WBl A w b bl n bO S R) (ag : AgB S S' n R R') (hd : ∀ i, i < n → S' (1120 + 18 * i + 11) = S (1120 + 18 * i + 11) ∧ S' (1120 + 18 * i + 12) = S (1120 + 18 * i + 12)) : WBl A w b bl n bO S' R' := ⟨h.l, h.n60, fun i hi => (h.o i hi).sc ag hi (hd i hi).1 (hd i hi).2⟩
end
