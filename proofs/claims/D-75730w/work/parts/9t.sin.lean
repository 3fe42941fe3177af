/-! the row of a world: what always holds of it -/
def hiS (k : Nat) : Nat := if k = 0 then 600 else if k = 1 then 60 else if k = 2 then 20 else if k < 6 then 100 else 999
/-- a read's row -/
abbrev RdR (S : Nat → Int32) (G V Bn j : Nat) : Prop := (∃ v, v < V ∧ S (280 + 7 * j) = nI v) ∧ (∃ g, g < G ∧ S (280 + 7 * j + 1) = nI g) ∧ (∃ t, t ≤ 100000 ∧ S (280 + 7 * j + 2) = nI t) ∧ (S (280 + 7 * j + 3) = nI 0 ∨ S (280 + 7 * j + 3) = nI 1) ∧ (∃ c, c ≤ 100 ∧ S (280 + 7 * j + 4) = nI c) ∧ (∃ s, s ≤ 4 ∧ S (280 + 7 * j + 5) = nI s) ∧ ((S (280 + 7 * j + 6) = nN ∧ ¬ S (280 + 7 * j + 5) = nI 3) ∨ (S (280 + 7 * j + 5) = nI 3 ∧ ∃ i, i < Bn ∧ S (280 + 7 * j + 6) = nI i))
theorem RdR.v {S : Nat → Int32} {G V Bn j : Nat} (hse1f : RdR S G V Bn j) : ∃ v, v < V ∧ S (280 + 7 * j) = nI v := hse1f.1
theorem RdR.g {S : Nat → Int32} {G V Bn j : Nat} (hse1f : RdR S G V Bn j) : ∃ g, g < G ∧ S (280 + 7 * j + 1) = nI g := hse1f.2.1
theorem RdR.t {S : Nat → Int32} {G V Bn j : Nat} (hse1f : RdR S G V Bn j) : ∃ t, t ≤ 100000 ∧ S (280 + 7 * j + 2) = nI t := hse1f.2.2.1
theorem RdR.k {S : Nat → Int32} {G V Bn j : Nat} (hse1f : RdR S G V Bn j) : S (280 + 7 * j + 3) = nI 0 ∨ S (280 + 7 * j + 3) = nI 1 := hse1f.2.2.2.1
theorem RdR.c {S : Nat → Int32} {G V Bn j : Nat} (hse1f : RdR S G V Bn j) : ∃ c, c ≤ 100 ∧ S (280 + 7 * j + 4) = nI c := hse1f.2.2.2.2.1
theorem RdR.s {S : Nat → Int32} {G V Bn j : Nat} (hse1f : RdR S G V Bn j) : ∃ s, s ≤ 4 ∧ S (280 + 7 * j + 5) = nI s := hse1f.2.2.2.2.2.1
theorem RdR.b {S : Nat → Int32} {G V Bn j : Nat} (hse1f : RdR S G V Bn j) : (S (280 + 7 * j + 6) = nN ∧ ¬ S (280 + 7 * j + 5) = nI 3) ∨ (S (280 + 7 * j + 5) = nI 3 ∧ ∃ i, i < Bn ∧ S (280 + 7 * j + 6) = nI i) := hse1f.2.2.2.2.2.2
abbrev SI (S : Nat → Int32) (G D C V R Bn P : Nat) : Prop := (S 8 = nI G) ∧ (S 9 = nI D) ∧ (S 10 = nI C) ∧ (S 11 = nI V) ∧ (S 12 = nI R) ∧ (S 13 = nI Bn) ∧ (S 14 = nI P) ∧ (C ≤ 8) ∧ (V ≤ 15) ∧ (R ≤ 120) ∧ (Bn ≤ 60) ∧ (NetOK S G D) ∧ (∀ k, k < 8 → ∃ x, x ≤ hiS k ∧ S k = nI x) ∧ (∀ c, c < C → ∃ x, x ≤ 50 ∧ S (187 + 6 * c + 1) = nI x) ∧ (∀ j, 187 + 6 * C ≤ j → j < 235 → S j = nI 0) ∧ (∀ v, v < V → (∃ z, (1 ≤ z ∧ z ≤ 4) ∧ S (235 + 3 * v) = nI z) ∧ (S (235 + 3 * v + 1) = nN ∨ ∃ c, c < C ∧ S (235 + 3 * v + 1) = nI c)) ∧ (∀ j, j < R → RdR S G V Bn j) ∧ (P ≤ 6 * cN (fun j => decide (S (280 + 7 * j + 5) = nI 3)) R)
theorem SI.c8 {S : Nat → Int32} {G D C V R Bn P : Nat} (hse1f : SI S G D C V R Bn P) : S 8 = nI G := hse1f.1
theorem SI.c9 {S : Nat → Int32} {G D C V R Bn P : Nat} (hse1f : SI S G D C V R Bn P) : S 9 = nI D := hse1f.2.1
theorem SI.c10 {S : Nat → Int32} {G D C V R Bn P : Nat} (hse1f : SI S G D C V R Bn P) : S 10 = nI C := hse1f.2.2.1
theorem SI.c11 {S : Nat → Int32} {G D C V R Bn P : Nat} (hse1f : SI S G D C V R Bn P) : S 11 = nI V := hse1f.2.2.2.1
theorem SI.c12 {S : Nat → Int32} {G D C V R Bn P : Nat} (hse1f : SI S G D C V R Bn P) : S 12 = nI R := hse1f.2.2.2.2.1
theorem SI.c13 {S : Nat → Int32} {G D C V R Bn P : Nat} (hse1f : SI S G D C V R Bn P) : S 13 = nI Bn := hse1f.2.2.2.2.2.1
theorem SI.c14 {S : Nat → Int32} {G D C V R Bn P : Nat} (hse1f : SI S G D C V R Bn P) : S 14 = nI P := hse1f.2.2.2.2.2.2.1
theorem SI.bC {S : Nat → Int32} {G D C V R Bn P : Nat} (hse1f : SI S G D C V R Bn P) : C ≤ 8 := hse1f.2.2.2.2.2.2.2.1
theorem SI.bV {S : Nat → Int32} {G D C V R Bn P : Nat} (hse1f : SI S G D C V R Bn P) : V ≤ 15 := hse1f.2.2.2.2.2.2.2.2.1
theorem SI.bR {S : Nat → Int32} {G D C V R Bn P : Nat} (hse1f : SI S G D C V R Bn P) : R ≤ 120 := hse1f.2.2.2.2.2.2.2.2.2.1
theorem SI.bB {S : Nat → Int32} {G D C V R Bn P : Nat} (hse1f : SI S G D C V R Bn P) : Bn ≤ 60 := hse1f.2.2.2.2.2.2.2.2.2.2.1
theorem SI.net {S : Nat → Int32} {G D C V R Bn P : Nat} (hse1f : SI S G D C V R Bn P) : NetOK S G D := hse1f.2.2.2.2.2.2.2.2.2.2.2.1
theorem SI.st {S : Nat → Int32} {G D C V R Bn P : Nat} (hse1f : SI S G D C V R Bn P) : ∀ k, k < 8 → ∃ x, x ≤ hiS k ∧ S k = nI x := hse1f.2.2.2.2.2.2.2.2.2.2.2.2.1
theorem SI.ac {S : Nat → Int32} {G D C V R Bn P : Nat} (hse1f : SI S G D C V R Bn P) : ∀ c, c < C → ∃ x, x ≤ 50 ∧ S (187 + 6 * c + 1) = nI x := hse1f.2.2.2.2.2.2.2.2.2.2.2.2.2.1
theorem SI.az {S : Nat → Int32} {G D C V R Bn P : Nat} (hse1f : SI S G D C V R Bn P) : ∀ j, 187 + 6 * C ≤ j → j < 235 → S j = nI 0 := hse1f.2.2.2.2.2.2.2.2.2.2.2.2.2.2.1
theorem SI.vh {S : Nat → Int32} {G D C V R Bn P : Nat} (hse1f : SI S G D C V R Bn P) : ∀ v, v < V → (∃ z, (1 ≤ z ∧ z ≤ 4) ∧ S (235 + 3 * v) = nI z) ∧ (S (235 + 3 * v + 1) = nN ∨ ∃ c, c < C ∧ S (235 + 3 * v + 1) = nI c) := hse1f.2.2.2.2.2.2.2.2.2.2.2.2.2.2.2.1
theorem SI.rs {S : Nat → Int32} {G D C V R Bn P : Nat} (hse1f : SI S G D C V R Bn P) : ∀ j, j < R → RdR S G V Bn j := hse1f.2.2.2.2.2.2.2.2.2.2.2.2.2.2.2.2.1
theorem SI.pb {S : Nat → Int32} {G D C V R Bn P : Nat} (hse1f : SI S G D C V R Bn P) : P ≤ 6 * cN (fun j => decide (S (280 + 7 * j + 5) = nI 3)) R := hse1f.2.2.2.2.2.2.2.2.2.2.2.2.2.2.2.2.2
section
variable {S S' : Nat → Int32} {G D C V R R' Bn P i : Nat} {t : Tp}
theorem SI.ly (h : SI S G D C V R Bn P) : LyOK S G D R := by
  refine ⟨h.net, h.c8, h.c9, h.c12, h.bR, ?_, ?_, fun r hr => ?_, fun r hr => (h.rs r hr).t⟩
  · obtain ⟨x, h1, h2⟩ := h.st 0 (by decide)
    exact ⟨x, h2, h1⟩
  · obtain ⟨x, h1, h2⟩ := h.st 2 (by decide)
    exact ⟨x, h2, h1⟩
  · obtain ⟨g, h1, h2⟩ := (h.rs r hr).g
    exact ⟨g, h1, h2⟩
theorem SI.aok (h : SI S G D C V R Bn P) {v : Nat} (hv : v < V) : AcOK S v := by
  rcases (h.vh v hv).2 with z | ⟨c, h1, h2⟩
  · exact Or.inl z
  · exact Or.inr ⟨c, Nat.lt_of_lt_of_le h1 h.bC, h2⟩
theorem SI.k12 (h : SI S G D C V R Bn P) : cS S 8 = G ∧ cS S 9 = D ∧ cS S 10 = C ∧ cS S 11 = V ∧ cS S 12 = R ∧ cS S 13 = Bn ∧ P ≤ 720 ∧ cS S 14 = P := by
  have e : ∀ k n, S k = nI n → n < 2147483648 → cS S k = n := fun k n h h2 => by unfold cS; rw [h]; exact n_cl h2
  have h1 := h.net.G12
  have h2 := h.net.R40
  have h3 := h.bC
  have h4 := h.bV
  have h5 := h.bR
  have h6 := h.bB
  have h7 := h.pb
  have h8 := cN_le (p := fun j => decide (S (280 + 7 * j + 5) = nI 3)) R
  exact ⟨e 8 G h.c8 (by omega), e 9 D h.c9 (by omega), e 10 C h.c10 (by omega), e 11 V h.c11 (by omega), e 12 R h.c12 (by omega), e 13 Bn h.c13 (by omega), by omega, e 14 P h.c14 (by omega)⟩
theorem cN_list : ∀ (l : List Nat), l.Nodup → (∀ x, x ∈ l → x < R) → cN (fun j => decide (j ∈ l)) R = l.length
  | [], _, _ => by
    have : ∀ n, cN (fun j => decide (j ∈ ([] : List Nat))) n = 0 := fun n => by
      induction n with
      | zero => rfl
      | succ n ih => rw [cN_s, ih]; simp
    exact this R
  | x :: l, h, hl => by
    obtain ⟨h1, h2⟩ := List.nodup_cons.mp h
    have e : cN (fun j => decide (j ∈ x :: l)) R = cN (fun j => decide (j = x) || decide (j ∈ l)) R := cN_congr R (fun j hj => by simp [List.mem_cons])
    rw [e, cN_add R (fun j hj z => by
      have z1 := of_decide_eq_true z.1
      have z2 := of_decide_eq_true z.2
      rw [z1] at z2
      exact h1 z2), cN_one, if_pos (hl x List.mem_cons_self), cN_list l h2 (fun y hy => hl y (List.mem_cons_of_mem _ hy)), List.length_cons]
    omega
theorem mkB_in {x : Nat} : ∀ (l : List Nat) (Z : Nat → Int32), x ∈ l → l.foldl (fun S r => mkB Bn r S) Z (280 + 7 * x + 5) = nI 3 ∧ l.foldl (fun S r => mkB Bn r S) Z (280 + 7 * x + 6) = nI Bn
  | [], _, h => absurd h List.not_mem_nil
  | y :: l, Z, h => by
    rw [List.foldl_cons]
    by_cases z : x ∈ l
    · exact mkB_in l _ z
    · have e : x = y := (List.mem_cons.mp h).resolve_right z
      subst e
      rw [mkB_c (fun r hr => by have : r ≠ x := fun e => z (e ▸ hr); omega), mkB_c (fun r hr => by have : r ≠ x := fun e => z (e ▸ hr); omega)]
      exact ⟨mkB_5, mkB_6⟩
/-- what must hold of a trip that is billed -/
abbrev TpB (S : Nat → Int32) (G R i : Nat) (t : Tp) : Prop := (∀ x, x ∈ t.rs → x < R ∧ S (280 + 7 * x) = nI i ∧ S (280 + 7 * x + 5) = nI 1) ∧ (t.rs.Nodup) ∧ (t.rs ≠ []) ∧ (1 ≤ t.ps.length ∧ t.ps.length + 5 ≤ 6 * t.rs.length) ∧ (∀ x, x ∈ t.ps → x.1 < G) ∧ (∃ c, t.to = nI c ∧ c ≤ 719280) ∧ (∃ r rs ps, t.rs = r :: rs ∧ t.ps = (gN S r, false) :: ps ∧ Mk S (gN S r) rs ps)
theorem TpB.rs {S : Nat → Int32} {G R i : Nat} {t : Tp} (hse1f : TpB S G R i t) : ∀ x, x ∈ t.rs → x < R ∧ S (280 + 7 * x) = nI i ∧ S (280 + 7 * x + 5) = nI 1 := hse1f.1
theorem TpB.nd {S : Nat → Int32} {G R i : Nat} {t : Tp} (hse1f : TpB S G R i t) : t.rs.Nodup := hse1f.2.1
theorem TpB.ne {S : Nat → Int32} {G R i : Nat} {t : Tp} (hse1f : TpB S G R i t) : t.rs ≠ [] := hse1f.2.2.1
theorem TpB.lp {S : Nat → Int32} {G R i : Nat} {t : Tp} (hse1f : TpB S G R i t) : 1 ≤ t.ps.length ∧ t.ps.length + 5 ≤ 6 * t.rs.length := hse1f.2.2.2.1
theorem TpB.g {S : Nat → Int32} {G R i : Nat} {t : Tp} (hse1f : TpB S G R i t) : ∀ x, x ∈ t.ps → x.1 < G := hse1f.2.2.2.2.1
theorem TpB.to {S : Nat → Int32} {G R i : Nat} {t : Tp} (hse1f : TpB S G R i t) : ∃ c, t.to = nI c ∧ c ≤ 719280 := hse1f.2.2.2.2.2.1
theorem TpB.mk {S : Nat → Int32} {G R i : Nat} {t : Tp} (hse1f : TpB S G R i t) : ∃ r rs ps, t.rs = r :: rs ∧ t.ps = (gN S r, false) :: ps ∧ Mk S (gN S r) rs ps := hse1f.2.2.2.2.2.2
/-- the rows of a trip billed -/
abbrev BtR (S : Nat → Int32) (i Bn P : Nat) (t : Tp) (S' : Nat → Int32) : Prop := (∀ j, j < 187 → j ≠ 13 → j ≠ 14 → S' j = S j) ∧ (S' 13 = nI (Bn + 1)) ∧ (S' 14 = nI (P + t.ps.length)) ∧ (∀ c, c < 8 → S' (187 + 6 * c + 1) = S (187 + 6 * c + 1)) ∧ (∀ j, 187 ≤ j → j < 235 → (S (235 + 3 * i + 1) = nN ∨ j < 187 + 6 * acN S i ∨ 187 + 6 * acN S i + 6 ≤ j) → S' j = S j) ∧ (∀ v, v < 15 → S' (235 + 3 * v) = S (235 + 3 * v) ∧ S' (235 + 3 * v + 1) = S (235 + 3 * v + 1)) ∧ (∀ j k, j < 120 → k < 7 → (j ∈ t.rs → k < 5) → S' (280 + 7 * j + k) = S (280 + 7 * j + k)) ∧ (∀ j, j ∈ t.rs → S' (280 + 7 * j + 5) = nI 3 ∧ S' (280 + 7 * j + 6) = nI Bn) ∧ (∀ j, 1120 ≤ j → j < 1120 + 18 * Bn → S' j = S j) ∧ (∀ j, 1120 ≤ j → j < 2200 → j ≠ 1120 + 18 * Bn + 15 → S' j = blH S i Bn t (prcV S i (gotV S i)) j) ∧ (S' (1120 + 18 * Bn + 15) = nI P) ∧ (∀ k, k < P → S' (2200 + k) = S (2200 + k)) ∧ (∀ k, k < t.ps.length → S' (2200 + (P + k)) = nI (codP (t.ps.getD k (0, false))))
theorem BtR.lo {S : Nat → Int32} {i Bn P : Nat} {t : Tp} {S' : Nat → Int32} (hse1f : BtR S i Bn P t S') : ∀ j, j < 187 → j ≠ 13 → j ≠ 14 → S' j = S j := hse1f.1
theorem BtR.c13 {S : Nat → Int32} {i Bn P : Nat} {t : Tp} {S' : Nat → Int32} (hse1f : BtR S i Bn P t S') : S' 13 = nI (Bn + 1) := hse1f.2.1
theorem BtR.c14 {S : Nat → Int32} {i Bn P : Nat} {t : Tp} {S' : Nat → Int32} (hse1f : BtR S i Bn P t S') : S' 14 = nI (P + t.ps.length) := hse1f.2.2.1
theorem BtR.a1 {S : Nat → Int32} {i Bn P : Nat} {t : Tp} {S' : Nat → Int32} (hse1f : BtR S i Bn P t S') : ∀ c, c < 8 → S' (187 + 6 * c + 1) = S (187 + 6 * c + 1) := hse1f.2.2.2.1
theorem BtR.az {S : Nat → Int32} {i Bn P : Nat} {t : Tp} {S' : Nat → Int32} (hse1f : BtR S i Bn P t S') : ∀ j, 187 ≤ j → j < 235 → (S (235 + 3 * i + 1) = nN ∨ j < 187 + 6 * acN S i ∨ 187 + 6 * acN S i + 6 ≤ j) → S' j = S j := hse1f.2.2.2.2.1
theorem BtR.v0 {S : Nat → Int32} {i Bn P : Nat} {t : Tp} {S' : Nat → Int32} (hse1f : BtR S i Bn P t S') : ∀ v, v < 15 → S' (235 + 3 * v) = S (235 + 3 * v) ∧ S' (235 + 3 * v + 1) = S (235 + 3 * v + 1) := hse1f.2.2.2.2.2.1
theorem BtR.ro {S : Nat → Int32} {i Bn P : Nat} {t : Tp} {S' : Nat → Int32} (hse1f : BtR S i Bn P t S') : ∀ j k, j < 120 → k < 7 → (j ∈ t.rs → k < 5) → S' (280 + 7 * j + k) = S (280 + 7 * j + k) := hse1f.2.2.2.2.2.2.1
theorem BtR.ri {S : Nat → Int32} {i Bn P : Nat} {t : Tp} {S' : Nat → Int32} (hse1f : BtR S i Bn P t S') : ∀ j, j ∈ t.rs → S' (280 + 7 * j + 5) = nI 3 ∧ S' (280 + 7 * j + 6) = nI Bn := hse1f.2.2.2.2.2.2.2.1
theorem BtR.bo {S : Nat → Int32} {i Bn P : Nat} {t : Tp} {S' : Nat → Int32} (hse1f : BtR S i Bn P t S') : ∀ j, 1120 ≤ j → j < 1120 + 18 * Bn → S' j = S j := hse1f.2.2.2.2.2.2.2.2.1
theorem BtR.bn {S : Nat → Int32} {i Bn P : Nat} {t : Tp} {S' : Nat → Int32} (hse1f : BtR S i Bn P t S') : ∀ j, 1120 ≤ j → j < 2200 → j ≠ 1120 + 18 * Bn + 15 → S' j = blH S i Bn t (prcV S i (gotV S i)) j := hse1f.2.2.2.2.2.2.2.2.2.1
theorem BtR.b15 {S : Nat → Int32} {i Bn P : Nat} {t : Tp} {S' : Nat → Int32} (hse1f : BtR S i Bn P t S') : S' (1120 + 18 * Bn + 15) = nI P := hse1f.2.2.2.2.2.2.2.2.2.2.1
theorem BtR.po {S : Nat → Int32} {i Bn P : Nat} {t : Tp} {S' : Nat → Int32} (hse1f : BtR S i Bn P t S') : ∀ k, k < P → S' (2200 + k) = S (2200 + k) := hse1f.2.2.2.2.2.2.2.2.2.2.2.1
theorem BtR.pn {S : Nat → Int32} {i Bn P : Nat} {t : Tp} {S' : Nat → Int32} (hse1f : BtR S i Bn P t S') : ∀ k, k < t.ps.length → S' (2200 + (P + k)) = nI (codP (t.ps.getD k (0, false))) := hse1f.2.2.2.2.2.2.2.2.2.2.2.2
theorem blT_R (h : SI S G D C V R Bn P) (hi : i < V) (tb : TpB S G R i t) (hB : Bn < 60) : BtR S i Bn P t (blT S i Bn P t) := by
  obtain ⟨k8, k9, k10, k11, k12, k13, kP, k14⟩ := h.k12
  have R120 := h.bR
  have V15 := h.bV
  have hac := (h.vh i hi).2
  have C8 := h.bC
  have hx : ∀ x, x ∈ t.rs → x < 120 := fun x hx => Nat.lt_of_lt_of_le (tb.rs x hx).1 R120
  generalize hW : kpS (blH S i Bn t (prcV S i (gotV S i))) Bn P t.ps = W
  have w1 : ∀ j, j < 1120 → j ≠ 14 → W j = S j := fun j h1 h2 => by rw [← hW, kpS_c h1 h2, blH_c h1]
  have e1 : W (235 + 3 * i + 1) = S (235 + 3 * i + 1) := w1 _ (by omega) (by omega)
  have ea : acN W i = acN S i := by unfold acN; rw [e1]
  have a8 : W (235 + 3 * i + 1) = nN ∨ acN W i < 8 := by
    rw [e1, ea]
    rcases hac with z | ⟨c, c1, c2⟩
    · exact Or.inl z
    · refine Or.inr ?_
      unfold acN
      rw [c2, n_cl (by omega)]
      omega
  have bT : ∀ j, j ≠ 13 → (j < 280 ∨ 1120 ≤ j) → blT S i Bn P t j = chS W i (amtV S i t (prcV S i (gotV S i))) j := fun j h1 h2 => by
    unfold blT
    rw [upd_ne h1, mkB_c (fun r hr => by have := hx r hr; omega), hW]
  have hi' : ∀ j, 1120 ≤ j → blT S i Bn P t j = W j := fun j hj => by rw [bT j (by omega) (Or.inr hj)]; exact chS_hi (by omega) a8 (by omega)
  have chA : ∀ j, 187 ≤ j → j < 280 → j ≠ 235 + 3 * i + 2 → (W (235 + 3 * i + 1) = nN ∨ (j ≠ 187 + 6 * acN W i ∧ j ≠ 187 + 6 * acN W i + 3 ∧ j ≠ 187 + 6 * acN W i + 4)) → chS W i (amtV S i t (prcV S i (gotV S i))) j = W j := fun j h1 h2 h3 h4 => by
    unfold chS
    by_cases z : W (235 + 3 * i + 1) = nN
    · rw [if_pos z, upd_ne h3]
    · have h5 := h4.resolve_left z
      rw [if_neg z, upd_ne h5.2.2, upd_ne h5.2.1, upd_ne h5.1]
  refine ⟨fun j h1 h2 h3 => ?_, ?_, ?_, fun c hc => ?_, fun j h1 h2 h3 => ?_, fun v hv => ⟨?_, ?_⟩, fun j k hj hk hjk => ?_, fun j hj => ?_, fun j h1 h2 => ?_, fun j h1 h2 h3 => ?_, ?_, fun k hk => ?_, fun k hk => ?_⟩
  · rw [bT j h2 (Or.inl (by omega)), chS_lo (by omega) a8 h1]; exact w1 j (by omega) h3
  · exact blT_13
  · exact blT_14 (by omega) (h.aok hi)
  · rw [bT _ (by omega) (Or.inl (by omega)), chA _ (by omega) (by omega) (by omega) (Or.inr (by omega))]; exact w1 _ (by omega) (by omega)
  · rw [bT _ (by omega) (Or.inl (by omega)), chA _ (by omega) (by omega) (by omega) (by rw [e1, ea]; exact h3.imp id (fun z => by omega))]; exact w1 _ (by omega) (by omega)
  · rw [bT _ (by omega) (Or.inl (by omega)), chA _ (by omega) (by omega) (by omega) (a8.imp id (fun z => by omega))]; exact w1 _ (by omega) (by omega)
  · rw [bT _ (by omega) (Or.inl (by omega)), chA _ (by omega) (by omega) (by omega) (a8.imp id (fun z => by omega))]; exact w1 _ (by omega) (by omega)
  · unfold blT
    rw [upd_ne (by omega), mkB_c (fun r hr => by
      by_cases z : r = j
      · have := hjk (z ▸ hr); omega
      · omega), hW, chS_hi (by omega) a8 (by omega)]
    exact w1 _ (by omega) (by omega)
  · unfold blT
    rw [upd_ne (by omega), upd_ne (by omega)]
    exact mkB_in _ _ hj
  · rw [hi' j h1, ← hW, kpS_lo (by omega) (by omega) (by omega), blH_lo h2]
  · rw [hi' j h1, ← hW, kpS_lo (by omega) h3 h2]
  · rw [hi' _ (by omega), ← hW, kpS_15 hB]
  · rw [hi' _ (by omega), ← hW, kpS_po hB hk, blH_hi (by omega)]
  · rw [hi' _ (by omega), ← hW, kpS_pl hB hk]
end
