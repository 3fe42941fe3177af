/-! the component's disputes: the pure part -/
section
variable {S S' : Nat → Int32} {G D C V R R' Bn P i : Nat} {t : Tp}
theorem n_div {a d : Nat} (ha : a < 2147483648) (h0 : 0 < d) (hd : d < 2147483648) : nI a / nI d = nI (a / d) := pk_div ha h0 hd
theorem BlR.pa (h : BlR S R i t) (hG : cS S 8 ≤ 12) (hp : cS S 14 ≤ 720) : bP S i + t.ps.length ≤ 720 ∧ bN S i = t.ps.length ∧ bA S i = (t.ps.getD 0 (0, false)).1 ∧ bZ S i = (t.ps.getD (t.ps.length - 1) (0, false)).1 ∧ (∀ k, k < t.ps.length → S (2200 + (bP S i + k)) = nI (codP (t.ps.getD k (0, false))) ∧ codP (t.ps.getD k (0, false)) < 100 ∧ codP (t.ps.getD k (0, false)) % 16 = (t.ps.getD k (0, false)).1 ∧ (t.ps.getD k (0, false)).1 < cS S 8) := by
  obtain ⟨P, p1, p2, p3⟩ := h.pl
  have lp := h.lp
  have eP : bP S i = P := by unfold bP; rw [p1]; exact n_cl (by omega)
  have hl : t.ps.length ≤ 720 := by omega
  have eN : bN S i = t.ps.length := by unfold bN; rw [h.r8]; exact n_cl (by omega)
  have cd : ∀ k, k < t.ps.length → codP (t.ps.getD k (0, false)) < 100 ∧ codP (t.ps.getD k (0, false)) % 16 = (t.ps.getD k (0, false)).1 ∧ (t.ps.getD k (0, false)).1 < cS S 8 := fun k hk => by
    have hm : t.ps.getD k (0, false) ∈ t.ps := by rw [List.getD_eq_getElem?_getD, List.getElem?_eq_getElem hk]; exact List.getElem_mem _
    have hg := h.g _ hm
    unfold codP
    split <;> omega
  have e0 : bA S i = (t.ps.getD 0 (0, false)).1 := by
    have h0 := p3 0 (by omega)
    have c0 := cd 0 (by omega)
    unfold bA
    rw [eP, show 2200 + P = 2200 + (P + 0) from rfl, h0, n_cl (by omega)]
    exact c0.2.1
  have e1 : bZ S i = (t.ps.getD (t.ps.length - 1) (0, false)).1 := by
    have h0 := p3 (t.ps.length - 1) (by omega)
    have c0 := cd (t.ps.length - 1) (by omega)
    unfold bZ
    rw [eP, eN, show P + t.ps.length - 1 = P + (t.ps.length - 1) from by omega, h0, n_cl (by omega)]
    exact c0.2.1
  exact ⟨by omega, eN, e0, e1, fun k hk => ⟨by rw [eP]; exact p3 k hk, cd k hk⟩⟩
theorem BlR.bk (h : BlR S R i t) (hG : cS S 8 ≤ 12) (hp : cS S 14 ≤ 720) : BkOK S (cS S 8) i := by
  obtain ⟨a1, a2, a3, a4, a5⟩ := h.pa hG hp
  have lp := h.lp
  obtain ⟨P, p1, p2, p3⟩ := h.pl
  have eP : bP S i = P := by unfold bP; rw [p1]; exact n_cl (by omega)
  obtain ⟨q1, q2, q3, q4⟩ := a5 0 (by omega)
  obtain ⟨z1, z2, z3, z4⟩ := a5 (t.ps.length - 1) (by omega)
  refine ⟨by rw [eP]; exact p1, by rw [a2]; exact h.r8, by rw [a2]; exact lp.1, by rw [a2]; omega, ⟨_, by rw [Nat.add_zero] at q1; exact q1, q2, by rw [a3]; exact q3⟩, ⟨_, by rw [a2, show bP S i + t.ps.length - 1 = bP S i + (t.ps.length - 1) from by omega]; exact z1, z2, by rw [a4]; exact z3⟩, by rw [a3]; exact q4, by rw [a4]; exact z4⟩
/-- the least of a trip's reads is the least of the bill's reads -/
theorem minI_t {a b : Int32} : (minI a b).toInt = min a.toInt b.toInt := by
  unfold minI
  split
  · rename_i h
    have := Int32.lt_iff_toInt_lt.mp h
    omega
  · rename_i h
    have := mt Int32.lt_iff_toInt_lt.mpr h
    omega
theorem fmin {c : Nat → Int32} : ∀ (l : List Nat) (a : Int32), (l.foldl (fun a j => minI a (c j)) a).toInt ≤ a.toInt ∧ (∀ j, j ∈ l → (l.foldl (fun a j => minI a (c j)) a).toInt ≤ (c j).toInt) ∧ ((l.foldl (fun a j => minI a (c j)) a).toInt = a.toInt ∨ ∃ j, j ∈ l ∧ (l.foldl (fun a j => minI a (c j)) a).toInt = (c j).toInt)
  | [], a => ⟨Int.le_refl _, fun j hj => absurd hj List.not_mem_nil, Or.inl rfl⟩
  | x :: l, a => by
    obtain ⟨h1, h2, h3⟩ := fmin (c := c) l (minI a (c x))
    rw [List.foldl_cons]
    have hm := minI_t (a := a) (b := c x)
    refine ⟨by omega, fun j hj => ?_, ?_⟩
    · rcases List.mem_cons.mp hj with z | z
      · rw [z]; omega
      · exact h2 j z
    · rcases h3 with z | ⟨j, j1, j2⟩
      · by_cases q : a.toInt ≤ (c x).toInt
        · exact Or.inl (by omega)
        · exact Or.inr ⟨x, List.mem_cons_self, by omega⟩
      · exact Or.inr ⟨j, List.mem_cons_of_mem _ j1, j2⟩
theorem lmin {c : Nat → Int32} {p : Nat → Bool} {a : Int32} : ∀ n, (lpF (fun i a => if p i = true then minI a (c i) else a) 0 n a).toInt ≤ a.toInt ∧ (∀ j, j < n → p j = true → (lpF (fun i a => if p i = true then minI a (c i) else a) 0 n a).toInt ≤ (c j).toInt) ∧ ((lpF (fun i a => if p i = true then minI a (c i) else a) 0 n a).toInt = a.toInt ∨ ∃ j, j < n ∧ p j = true ∧ (lpF (fun i a => if p i = true then minI a (c i) else a) 0 n a).toInt = (c j).toInt)
  | 0 => ⟨Int.le_refl _, fun j hj => absurd hj (Nat.not_lt_zero _), Or.inl rfl⟩
  | n + 1 => by
    obtain ⟨h1, h2, h3⟩ := lmin (c := c) (p := p) (a := a) n
    rw [lpF_end, Nat.zero_add]
    generalize lpF (fun i a => if p i = true then minI a (c i) else a) 0 n a = z at h1 h2 h3
    by_cases hp : p n = true
    · rw [if_pos hp]
      have hm := minI_t (a := z) (b := c n)
      refine ⟨by omega, fun j hj hpj => ?_, ?_⟩
      · by_cases e : j = n
        · rw [e]; omega
        · have := h2 j (by omega) hpj; omega
      · by_cases q : z.toInt ≤ (c n).toInt
        · rcases h3 with k | ⟨j, j1, j2, j3⟩
          · exact Or.inl (by omega)
          · exact Or.inr ⟨j, by omega, j2, by omega⟩
        · exact Or.inr ⟨n, by omega, hp, by omega⟩
    · rw [if_neg hp]
      refine ⟨h1, fun j hj hpj => ?_, ?_⟩
      · by_cases e : j = n
        · rw [e] at hpj; exact absurd hpj hp
        · exact h2 j (by omega) hpj
      · rcases h3 with k | ⟨j, j1, j2, j3⟩
        · exact Or.inl k
        · exact Or.inr ⟨j, by omega, j2, j3⟩
theorem BlR.ls (h : BlR S R i t) : t.rs.foldl (fun a j => minI a (S (280 + 7 * j + 4))) (nI 101) = lsu S (nI i) R := by
  have e : lsu S (nI i) R = lpF (fun j a => if decide (S (280 + 7 * j + 6) = nI i) = true then minI a (S (280 + 7 * j + 4)) else a) 0 R (nI 101) := by
    unfold lsu
    refine lpF_congr _ _ _ (fun j a _ _ => ?_)
    by_cases z : S (280 + 7 * j + 6) = nI i
    · rw [if_pos z, if_pos (decide_eq_true z)]
    · rw [if_neg z, if_neg (by rw [decide_eq_false z]; decide)]
  rw [e]
  apply Int32.toInt_inj.mp
  obtain ⟨a1, a2, a3⟩ := fmin (c := fun j => S (280 + 7 * j + 4)) t.rs (nI 101)
  obtain ⟨b1, b2, b3⟩ := lmin (c := fun j => S (280 + 7 * j + 4)) (p := fun j => decide (S (280 + 7 * j + 6) = nI i)) (a := nI 101) R
  refine Int.le_antisymm ?_ ?_
  · rcases b3 with z | ⟨j, j1, j2, j3⟩
    · rw [z]; exact a1
    · rw [j3]
      exact a2 j ((h.mem j j1).mp (of_decide_eq_true j2))
  · rcases a3 with z | ⟨j, j1, j2⟩
    · rw [z]; exact b1
    · rw [j2]
      exact b2 j (h.rs j j1).1 (decide_eq_true ((h.mem j (h.rs j j1).1).mpr j1))
/-- what a bill is made of, as numbers -/
theorem BlR.nu (h : BlR S R i t) : ∃ T z pc im iv, T ≤ 719280 ∧ 1 ≤ z ∧ z ≤ 4 ∧ pc ≤ 50 ∧ im ≤ 119880 ∧ iv ≤ 999 ∧ S (1120 + 18 * i + 13) = nI z ∧ S (1120 + 18 * i + 3) = nI (T * z) ∧ S (1120 + 18 * i + 14) = nI pc ∧ S (1120 + 18 * i + 5) = nI im ∧ S (1120 + 18 * i + 16) = nI iv ∧ (∀ y, y ≤ 2877120 → nwA S i (nI y) = nI (y - y * pc / 100 + im + iv) ∧ y * pc / 100 ≤ y) ∧ S (1120 + 18 * i + 2) = nI (T * z - T * z * pc / 100 + im + iv) := by
  obtain ⟨T, t1, t2⟩ := h.to
  obtain ⟨z, ⟨z1, z2⟩, z3⟩ := h.sz
  obtain ⟨pc, p1, p2⟩ := h.pc
  obtain ⟨im, i1, i2⟩ := h.im
  obtain ⟨iv, v1, v2⟩ := h.iv
  have e3 : S (1120 + 18 * i + 3) = nI (T * z) := by rw [h.r3, t1, z3, n_mul]
  have hTz : T * z ≤ 2877120 := by
    have := Nat.mul_le_mul t2 z2
    omega
  have key : ∀ y, y ≤ 2877120 → y * pc ≤ 143856000 ∧ y * pc / 100 ≤ y := fun y hy => by
    have h1 := Nat.mul_le_mul hy p1
    have h2 : y * pc ≤ y * 100 := Nat.mul_le_mul_left y (by omega)
    exact ⟨by omega, by omega⟩
  refine ⟨T, z, pc, im, iv, t2, z1, z2, p1, i1, v1, z3, e3, p2, i2, v2, fun y hy => ⟨?_, (key y hy).2⟩, ?_⟩
  · obtain ⟨k1, k2⟩ := key y hy
    unfold nwA
    rw [p2, i2, v2, n_mul, n_div (by omega) (by decide) (by decide), n_sub k2, nI_add, nI_add]
  · obtain ⟨k1, k2⟩ := key _ hTz
    rw [h.r2, e3, p2, i2, v2, n_mul, n_div (by omega) (by decide) (by decide), n_sub k2, nI_add, nI_add]
/-- a refund is never negative -/
theorem rfW_nn {w : Nat} (h : BlR S R i t) (hw : w < 3) (hls : ∀ x, (nI 0 < S (1120 + 18 * i + 9) ∧ ¬ x = nN ∧ x * S (1120 + 18 * i + 13) < S (1120 + 18 * i + 3)) → x = blS S G D (bA S i) (bZ S i) → ∃ c, x = nI c ∧ c ≤ 5994) : ∃ c, c < 10000000 ∧ rfW S G D R i w = nI c := by
  obtain ⟨T, z, pc, im, iv, t2, z1, z2, p1, i1, v1, z3, e3, p2, i2, v2, nw, e2⟩ := h.nu
  have hTz : T * z ≤ 2877120 := by
    have := Nat.mul_le_mul t2 z2
    omega
  have hA : T * z - T * z * pc / 100 + im + iv < 10000000 := by omega
  unfold rfW rfV
  by_cases w0 : w = 0
  · rw [if_pos w0]
    unfold rf0
    split
    · exact ⟨_, hA, e2⟩
    · exact ⟨0, by decide, rfl⟩
  · rw [if_neg w0]
    by_cases w1 : w = 1
    · rw [if_pos w1]
      unfold rfR
      split
      · rename_i hc
        obtain ⟨c, c1, c2⟩ := hls _ hc rfl
        obtain ⟨q1, q2, q3⟩ := hc
        rw [c1, z3, e3, n_mul] at q3
        have hcz : c * z ≤ 23976 := by
          have := Nat.mul_le_mul c2 z2
          omega
        have hlt := (nI_ltI (by omega) (by omega)).mp q3
        obtain ⟨n1, n2⟩ := nw (c * z) (by omega)
        obtain ⟨n3, n4⟩ := nw (T * z) hTz
        rw [e2, c1, z3, n_mul, n1]
        have hmono : c * z - c * z * pc / 100 ≤ T * z - T * z * pc / 100 := by
          obtain ⟨k, hk⟩ : ∃ k, T * z = c * z + k := ⟨T * z - c * z, by omega⟩
          have e : T * z * pc = c * z * pc + k * pc := by rw [hk, Nat.add_mul]
          have hkp : k * pc ≤ k * 50 := Nat.mul_le_mul_left k p1
          rw [e]
          generalize c * z * pc = u at n2 ⊢
          generalize k * pc = v at hkp ⊢
          omega
        rw [n_sub (by omega)]
        exact ⟨_, by omega, rfl⟩
      · exact ⟨0, by decide, rfl⟩
    · rw [if_neg w1]
      unfold rf2
      split
      · exact ⟨im, by omega, i2⟩
      · exact ⟨0, by decide, rfl⟩
end
