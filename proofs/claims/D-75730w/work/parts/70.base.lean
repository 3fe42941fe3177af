/-! THE FUNCTIONAL PART: rules for the simplifier, loops -/
theorem lkn_hd {k v : Nat} {l : List (Nat × Nat)} : lkn ((k, v) :: l) k = some v := if_pos rfl
theorem lkn_tl {k v j : Nat} {l : List (Nat × Nat)} (h : ¬ k = j) : lkn ((k, v) :: l) j = lkn l j := if_neg h
theorem c1_i (x : Int32) : c1 (.int x) = true := rfl
theorem c1_r (p : Nat) : c1 (.ref p) = true := rfl
theorem c1_n : c1 .null = true := rfl
theorem c1_f (x : UInt32) : c1 (.float x) = true := rfl
theorem c1_rf (o : Option Nat) : c1 (va_rf o) = true := by cases o <;> rfl
theorem okv_f (x : UInt32) : okv 3 (.float x) = true := rfl
theorem okv_d (x : UInt64) : okv 4 (.double x) = true := rfl
theorem okv_0 : okv 5 (.int (nI 0)) = true := by decide
theorem okv_1 : okv 5 (.int (nI 1)) = true := by decide
theorem bI_t : bI true = nI 1 := by decide
theorem bI_f : bI false = nI 0 := by decide
theorem n_eq {a b : Nat} (ha : a < 2147483648) (hb : b < 2147483648) : (nI a = nI b) = (a = b) := propext (nI_eq ha hb)
theorem n_le {a b : Nat} (ha : a < 2147483648) (hb : b < 2147483648) : (nI a ≤ nI b) = (a ≤ b) := propext (nI_leI ha hb)
theorem n_lt {a b : Nat} (ha : a < 2147483648) (hb : b < 2147483648) : (nI a < nI b) = (a < b) := propext (nI_ltI ha hb)
theorem n_mul (a b : Nat) : nI a * nI b = nI (a * b) := pk_mul a b
theorem n_sub {a b : Nat} (h : b ≤ a) : nI a - nI b = nI (a - b) := pk_sub h
theorem n_nN : nI 0 + nN = nN := by decide
theorem n_pred {a : Nat} (h : 0 < a) : nI a + nN = nI (a - 1) := by
  obtain ⟨k, rfl⟩ : ∃ k, a = k + 1 := ⟨a - 1, by omega⟩
  exact pk_m1 k
theorem n_neN {a : Nat} (ha : a < 2147483648) : (nI a = nN) = False := by
  refine eq_false fun h => ?_
  have := congrArg Int32.toInt h
  rw [nI_toInt (by omega)] at this
  have h2 : nN.toInt = -1 := by decide
  omega
theorem n_Nne {a : Nat} (ha : a < 2147483648) : (nN = nI a) = False := by
  refine eq_false fun h => ?_
  have e := h.symm
  rw [n_neN ha] at e
  exact e
theorem N_lt {a : Nat} (ha : a < 2147483648) : (nN < nI a) = True := by
  refine eq_true (Int32.lt_iff_toInt_lt.mpr ?_)
  rw [nI_toInt (by omega)]
  have h2 : nN.toInt = -1 := by decide
  omega
theorem N_le {a : Nat} (ha : a < 2147483648) : (nN ≤ nI a) = True := by
  refine eq_true (Int32.le_iff_toInt_le.mpr ?_)
  rw [nI_toInt (by omega)]
  have h2 : nN.toInt = -1 := by decide
  omega
theorem n_ltN {a : Nat} (ha : a < 2147483648) : (nI a < nN) = False := by
  refine eq_false fun h => ?_
  have h := Int32.lt_iff_toInt_lt.mp h
  rw [nI_toInt (by omega)] at h
  have h2 : nN.toInt = -1 := by decide
  omega
theorem n_leN {a : Nat} (ha : a < 2147483648) : (nI a ≤ nN) = False := by
  refine eq_false fun h => ?_
  have h := Int32.le_iff_toInt_le.mp h
  rw [nI_toInt (by omega)] at h
  have h2 : nN.toInt = -1 := by decide
  omega
theorem n_cl {n : Nat} (h : n < 2147483648) : (nI n).toNatClampNeg = n := nI_clamp (by omega)
theorem inb_n {k n : Nat} (h : k < n) (hn : n ≤ 2147483648) : inb (nI k) n = true := by
  unfold inb
  rw [n_cl (by omega), decide_eq_true (nI_pos' (by omega)), decide_eq_true h]
  rfl
theorem beqT (t : Nat) : Nat.beq t t = true := Nat.beq_refl t
section
variable {t n k : Nat} {f : Nat → Int32} {g : Nat → Int64} {u : Nat → UInt64} {q : Nat → Option Nat}
theorem rdI_n (h : k < n) (hn : n ≤ 2147483648) : rdI t (some (t, (n, .inl f))) (nI k) = some (f k) := by
  unfold rdI; dsimp only; rw [beqT, inb_n h hn, n_cl (by omega)]; rfl
theorem rdJ_n (h : k < n) (hn : n ≤ 2147483648) : rdJ (some (3, (n, .inr (.inl g)))) (nI k) = some (g k) := by
  show (bif inb (nI k) n then some (g (nI k).toNatClampNeg) else none) = _; rw [inb_n h hn, n_cl (by omega)]; rfl
theorem rdD_n (h : k < n) (hn : n ≤ 2147483648) : rdD (some (4, (n, .inr (.inr (.inr (.inl u)))))) (nI k) = some (u k) := by
  show (bif inb (nI k) n then some (u (nI k).toNatClampNeg) else none) = _; rw [inb_n h hn, n_cl (by omega)]; rfl
theorem rdQ_n (ht : 5 ≤ t) (h : k < n) (hn : n ≤ 2147483648) : rdQ (some (t, (n, .inr (.inr (.inr (.inr q)))))) (nI k) = some (q k) := by
  unfold rdQ; dsimp only; rw [inb_n h hn, n_cl (by omega), Nat.ble_eq.mpr ht]; rfl
theorem wrI_n {x : Int32} (h : k < n) (hn : n ≤ 2147483648) : wrI 0 (some (0, (n, .inl f))) (nI k) x = some (0, (n, .inl (upd f k x))) := by
  unfold wrI; dsimp only; rw [inb_n h hn, n_cl (by omega)]; rfl
theorem wrI_b {x : Int32} (h : k < n) (hn : n ≤ 2147483648) : wrI 1 (some (1, (n, .inl f))) (nI k) x = some (1, (n, .inl (upd f k x.toInt8.toInt32))) := by
  unfold wrI; dsimp only; rw [inb_n h hn, n_cl (by omega)]; rfl
theorem wrI_z0 (h : k < n) (hn : n ≤ 2147483648) : wrI 2 (some (2, (n, .inl f))) (nI k) (nI 0) = some (2, (n, .inl (upd f k (nI 0)))) := by
  unfold wrI; dsimp only; rw [inb_n h hn, n_cl (by omega), show narT 2 (nI 0) = nI 0 by decide]; rfl
theorem wrI_z1 (h : k < n) (hn : n ≤ 2147483648) : wrI 2 (some (2, (n, .inl f))) (nI k) (nI 1) = some (2, (n, .inl (upd f k (nI 1)))) := by
  unfold wrI; dsimp only; rw [inb_n h hn, n_cl (by omega), show narT 2 (nI 1) = nI 1 by decide]; rfl
theorem wrI_zb {b : Bool} (h : k < n) (hn : n ≤ 2147483648) : wrI 2 (some (2, (n, .inl f))) (nI k) (bI b) = some (2, (n, .inl (upd f k (bI b)))) := by
  cases b
  · rw [bI_f]; exact wrI_z0 h hn
  · rw [bI_t]; exact wrI_z1 h hn
theorem wrJ_n {x : Int64} (h : k < n) (hn : n ≤ 2147483648) : wrJ (some (3, (n, .inr (.inl g)))) (nI k) x = some (3, (n, .inr (.inl (vp_updL g k x)))) := by
  show (bif inb (nI k) n then some ((3, (n, .inr (.inl (vp_updL g (nI k).toNatClampNeg x)))) : ArC) else none) = _; rw [inb_n h hn, n_cl (by omega)]; rfl
theorem wrD_n {x : UInt64} (h : k < n) (hn : n ≤ 2147483648) : wrD (some (4, (n, .inr (.inr (.inr (.inl u)))))) (nI k) x = some (4, (n, .inr (.inr (.inr (.inl (vf_upd u k x)))))) := by
  show (bif inb (nI k) n then some ((4, (n, .inr (.inr (.inr (.inl (vf_upd u (nI k).toNatClampNeg x)))))) : ArC) else none) = _; rw [inb_n h hn, n_cl (by omega)]; rfl
theorem wrQ_n {x : Option Nat} (ht : 5 ≤ t) (h : k < n) (hn : n ≤ 2147483648) : wrQ (some (t, (n, .inr (.inr (.inr (.inr q)))))) (nI k) x = some (t, (n, .inr (.inr (.inr (.inr (va_up q k x)))))) := by
  unfold wrQ; dsimp only; rw [inb_n h hn, n_cl (by omega), Nat.ble_eq.mpr ht]; rfl
theorem aln_s {c : Nat × vp_A} : aln (some c) = some (nI c.2.1) := rfl
theorem okn_n (h : n ≤ 60000000) : okn (nI n) = true := by
  unfold okn
  rw [n_cl (by omega), decide_eq_true (nI_pos' (by omega)), decide_eq_true h]
  rfl
end
theorem upd_at {f : Nat → Int32} {k j : Nat} {x : Int32} : upd f k x j = if j = k then x else f j := rfl
theorem zar_0 (n : Nat) : zar 0 n = (0, (n, .inl (fun _ => 0))) := rfl
theorem zar_1 (n : Nat) : zar 1 n = (1, (n, .inl (fun _ => 0))) := rfl
theorem zar_2 (n : Nat) : zar 2 n = (2, (n, .inl (fun _ => 0))) := rfl
theorem zar_3 (n : Nat) : zar 3 n = (3, (n, .inr (.inl (fun _ => 0)))) := rfl
theorem zar_4 (n : Nat) : zar 4 n = (4, (n, .inr (.inr (.inr (.inl (fun _ => 0)))))) := rfl
theorem zar_5 (n : Nat) : zar 5 n = (5, (n, .inr (.inr (.inr (.inr (fun _ => none)))))) := rfl
theorem zar_6 (n : Nat) : zar 6 n = (6, (n, .inr (.inr (.inr (.inr (fun _ => none)))))) := rfl
theorem zar_7 (n : Nat) : zar 7 n = (7, (n, .inr (.inr (.inr (.inr (fun _ => none)))))) := rfl
theorem zar_8 (n : Nat) : zar 8 n = (8, (n, .inr (.inr (.inr (.inr (fun _ => none)))))) := rfl
theorem zar_9 (n : Nat) : zar 9 n = (9, (n, .inr (.inr (.inr (.inr (fun _ => none)))))) := rfl
/-- k rounds, from round i on -/
def lpF {α : Type} (f : Nat → α → α) : Nat → Nat → α → α
  | _, 0, a => a
  | i, k + 1, a => lpF f (i + 1) k (f i a)
theorem lpF_add {α : Type} (f : Nat → α → α) : ∀ (k j i : Nat) (a : α), lpF f i (k + j) a = lpF f (i + k) j (lpF f i k a)
  | 0, j, i, a => by rw [Nat.zero_add]; rfl
  | k + 1, j, i, a => by
    rw [Nat.add_right_comm]
    show lpF f (i + 1) (k + j) (f i a) = lpF f (i + (k + 1)) j (lpF f (i + 1) k (f i a))
    rw [lpF_add f k j, Nat.add_assoc, Nat.add_comm 1 k]
theorem lpF_end {α : Type} (f : Nat → α → α) (k i : Nat) (a : α) : lpF f i (k + 1) a = f (i + k) (lpF f i k a) := lpF_add f k 1 i a
theorem lpF_congr {α : Type} {f g : Nat → α → α} : ∀ (k i : Nat) (a : α), (∀ j b, i ≤ j → j < i + k → f j b = g j b) → lpF f i k a = lpF g i k a
  | 0, _, _, _ => rfl
  | k + 1, i, a, h => by
    show lpF f (i + 1) k (f i a) = lpF g (i + 1) k (g i a)
    rw [h i a (Nat.le_refl _) (by omega)]
    exact lpF_congr k (i + 1) _ (fun j b h1 h2 => h j b (by omega) (by omega))
theorem lpF_inv {α : Type} {f : Nat → α → α} {P : Nat → α → Prop} : ∀ (k i : Nat) (a : α), P i a → (∀ j b, i ≤ j → j < i + k → P j b → P (j + 1) (f j b)) → P (i + k) (lpF f i k a)
  | 0, _, _, h, _ => h
  | k + 1, i, a, h, s => by
    have := lpF_inv k (i + 1) (f i a) (s i a (Nat.le_refl _) (by omega) h) (fun j b h1 h2 => s j b (by omega) (by omega))
    rw [show i + (k + 1) = i + 1 + k by omega]
    exact this
/-- a counting loop -/
theorem loop_n {α : Type} {H : Nat → α → Rv} {E : α → Rv} {f : Nat → α → α} {n : Nat} (P : Nat → α → Prop) (h1 : ∀ i a, P i a → i < n → H i a = H (i + 1) (f i a) ∧ P (i + 1) (f i a)) (h2 : ∀ a, P n a → H n a = E a) : ∀ (k i : Nat) (a : α), i + k = n → P i a → H i a = E (lpF f i k a)
  | 0, i, a, e, p => by
    have e : i = n := e
    subst e
    exact h2 a p
  | k + 1, i, a, e, p => by
    obtain ⟨g1, g2⟩ := h1 i a p (by omega)
    rw [g1]
    exact loop_n P h1 h2 k (i + 1) (f i a) (by omega) g2
theorem loop0 {α : Type} {H : Nat → α → Rv} {E : α → Rv} {f : Nat → α → α} {n : Nat} (a : α) (h1 : ∀ i a, i < n → H i a = H (i + 1) (f i a)) (h2 : ∀ a, H n a = E a) : H 0 a = E (lpF f 0 n a) :=
  loop_n (fun _ _ => True) (fun i a _ hi => ⟨h1 i a hi, trivial⟩) (fun a _ => h2 a) n 0 a (by omega) trivial
/-! the model's heap as a function of its values -/
abbrev Ms : Type := (Nat → Nat → Int32) × ((Nat → Int32) × Int64)
def mA (M : Ms) (k : Nat) : Nat → Int32 := M.1 k
def mF (M : Ms) (f : Nat) : Int32 := M.2.1 f
def mW (M : Ms) : Int64 := M.2.2
def uA (M : Ms) (k : Nat) (g : Nat → Int32) : Ms := (fun q => if q = k then g else M.1 q, M.2)
def uF (M : Ms) (f : Nat) (x : Int32) : Ms := (M.1, (fun q => if q = f then x else M.2.1 q, M.2.2))
def uW (M : Ms) (w : Int64) : Ms := (M.1, (M.2.1, w))
section
variable {M : Ms} {k j f h : Nat} {g : Nat → Int32} {x : Int32} {w : Int64}
theorem mA_uA : mA (uA M k g) j = if j = k then g else mA M j := rfl
theorem mA_uF : mA (uF M f x) j = mA M j := rfl
theorem mA_uW : mA (uW M w) j = mA M j := rfl
theorem mF_uA : mF (uA M k g) h = mF M h := rfl
theorem mF_uF : mF (uF M f x) h = if h = f then x else mF M h := rfl
theorem mF_uW : mF (uW M w) h = mF M h := rfl
theorem mW_uA : mW (uA M k g) = mW M := rfl
theorem mW_uF : mW (uF M f x) = mW M := rfl
theorem mW_uW : mW (uW M w) = w := rfl
end

def mSz (k : Nat) : Nat := [3100, 3100, 6200, 2, 8, 8, 8, 700, 7, 7, 7, 7, 7, 7, 120, 120, 121, 120, 120, 900, 900].getD k 0
def mTg (k : Nat) : Nat := [0, 0, 0, 2, 0, 0, 0, 0, 0, 0, 0, 0, 0, 0, 0, 0, 0, 0, 0, 0, 2].getD k 0
/-- kinds of the model's fields: 1 an array, 2 an int, 3 the long; which array -/
def mK (f : Nat) : Nat := if f < 148 then 0 else [1, 1, 1, 1, 1, 1, 1, 2, 1, 2, 2, 2, 2, 2, 2, 2, 2, 3, 1, 1, 1, 1, 1, 1, 2, 2, 2, 2, 2, 1, 1, 1, 1, 1, 1, 1, 2, 2, 2].getD (f - 148) 0
def mAd (f : Nat) : Nat := [1, 2, 3, 4, 5, 6, 7, 0, 8, 0, 0, 0, 0, 0, 0, 0, 0, 0, 9, 10, 11, 12, 13, 14, 0, 0, 0, 0, 0, 15, 16, 17, 18, 19, 20, 21, 0, 0, 0].getD (f - 148) 0
def mfd (m0 : Nat) (M : Ms) (f : Nat) : Option Value := match mK f with
  | 0 => none
  | 1 => some (.ref (m0 + mAd f))
  | 2 => some (.int (mF M f))
  | _ => some (.long (mW M))
def hM (A : Hp) (m0 : Nat) (M : Ms) : Hp := (fun f q => if q = m0 then mfd m0 M f else A.1 f q, (A.2.1, (fun q => if m0 < q ∧ q ≤ m0 + 21 then some (mTg (q - m0 - 1), (mSz (q - m0 - 1), .inl (mA M (q - m0 - 1)))) else A.2.2.1 q, A.2.2.2)))
def mO (A : Hp) (m0 : Nat) : Prop := m0 + 22 ≤ nx A ∧ A.2.1 m0 = some 30
section
variable {A : Hp} {m0 : Nat} {M : Ms}
theorem hM_nx : nx (hM A m0 M) = nx A := rfl
theorem hM_su : su (hM A m0 M) = su A := rfl
theorem hM_sg : sg (hM A m0 M) = sg A := rfl
theorem hM_hM {M' : Ms} : hM (hM A m0 M) m0 M' = hM A m0 M' := by
  unfold hM
  refine Prod.ext ?_ (Prod.ext rfl (Prod.ext ?_ rfl))
  · funext f q
    dsimp only
    by_cases h : q = m0
    · rw [if_pos h, if_pos h]
    · rw [if_neg h, if_neg h, if_neg h]
  · funext q
    dsimp only
    by_cases h : m0 < q ∧ q ≤ m0 + 21
    · rw [if_pos h, if_pos h]
    · rw [if_neg h, if_neg h, if_neg h]
theorem hM_mO (h : mO A m0) : mO (hM A m0 M) m0 := h
theorem hm_f (h : mO A m0) (f : Nat) : gf (hM A m0 M) m0 f = mfd m0 M f := by
  unfold gf
  rw [hM_nx, if_pos (by have := h.1; omega)]
  show (if m0 = m0 then _ else _) = _
  rw [if_pos rfl]
theorem hm_c (h : mO A m0) : gc (hM A m0 M) m0 = some 30 := by
  unfold gc
  rw [hM_nx, if_pos (by have := h.1; omega)]
  exact h.2
theorem hm_a (h : mO A m0) (k : Nat) (hk : k < 21) : ga (hM A m0 M) (m0 + 1 + k) = some (mTg k, (mSz k, .inl (mA M k))) := by
  unfold ga
  rw [hM_nx, if_pos (by have := h.1; omega)]
  show (if m0 < m0 + 1 + k ∧ m0 + 1 + k ≤ m0 + 21 then _ else _) = _
  rw [if_pos ⟨by omega, by omega⟩, show m0 + 1 + k - m0 - 1 = k by omega]
theorem hm_sf (f : Nat) (x : Int32) (hk : mK f = 2) : setf (hM A m0 M) m0 f (.int x) = hM A m0 (uF M f x) := by
  unfold setf
  refine Prod.ext ?_ rfl
  funext g q
  show (if q = m0 ∧ g = f then some (Value.int x) else if q = m0 then mfd m0 M g else A.1 g q) = if q = m0 then mfd m0 (uF M f x) g else A.1 g q
  by_cases h1 : q = m0
  · rw [if_pos h1, if_pos h1]
    by_cases h2 : g = f
    · rw [if_pos ⟨h1, h2⟩, h2]
      unfold mfd
      rw [hk]
      show some (Value.int x) = some (.int (mF (uF M f x) f))
      rw [mF_uF, if_pos rfl]
    · rw [if_neg (fun q => h2 q.2)]
      unfold mfd
      rw [mF_uF, if_neg h2, mW_uF]
  · rw [if_neg h1, if_neg h1, if_neg (fun q => h1 q.1)]
theorem hm_sw (w : Int64) : setf (hM A m0 M) m0 165 (.long w) = hM A m0 (uW M w) := by
  unfold setf
  refine Prod.ext ?_ rfl
  funext g q
  show (if q = m0 ∧ g = 165 then some (Value.long w) else if q = m0 then mfd m0 M g else A.1 g q) = if q = m0 then mfd m0 (uW M w) g else A.1 g q
  by_cases h1 : q = m0
  · rw [if_pos h1, if_pos h1]
    by_cases h2 : g = 165
    · rw [if_pos ⟨h1, h2⟩, h2]
      rfl
    · rw [if_neg (fun q => h2 q.2)]
      unfold mfd
      rw [mF_uW, mW_uW]
      have h3 : mK g = 0 ∨ mK g = 1 ∨ mK g = 2 := by
        unfold mK
        by_cases h4 : g < 148
        · rw [if_pos h4]; exact Or.inl rfl
        · rw [if_neg h4]
          obtain ⟨j, rfl⟩ : ∃ j, g = 148 + j := ⟨g - 148, by omega⟩
          rw [Nat.add_sub_cancel_left]
          by_cases h5 : j < 39
          · have : ∀ j, j < 39 → j ≠ 17 → ([1, 1, 1, 1, 1, 1, 1, 2, 1, 2, 2, 2, 2, 2, 2, 2, 2, 3, 1, 1, 1, 1, 1, 1, 2, 2, 2, 2, 2, 1, 1, 1, 1, 1, 1, 1, 2, 2, 2].getD j 0 = 0 ∨ [1, 1, 1, 1, 1, 1, 1, 2, 1, 2, 2, 2, 2, 2, 2, 2, 2, 3, 1, 1, 1, 1, 1, 1, 2, 2, 2, 2, 2, 1, 1, 1, 1, 1, 1, 1, 2, 2, 2].getD j 0 = 1 ∨ [1, 1, 1, 1, 1, 1, 1, 2, 1, 2, 2, 2, 2, 2, 2, 2, 2, 3, 1, 1, 1, 1, 1, 1, 2, 2, 2, 2, 2, 1, 1, 1, 1, 1, 1, 1, 2, 2, 2].getD j 0 = 2) := by decide
            exact this j h5 (by omega)
          · left
            rw [List.getD_eq_getElem?_getD, List.getElem?_eq_none (by show 39 ≤ j; omega)]
            rfl
      rcases h3 with h3 | h3 | h3 <;> simp only [h3]
  · rw [if_neg h1, if_neg h1, if_neg (fun q => h1 q.1)]
theorem hm_sa (k : Nat) (hk : k < 21) (g : Nat → Int32) : seta (hM A m0 M) (m0 + 1 + k) (mTg k, (mSz k, .inl g)) = hM A m0 (uA M k g) := by
  unfold seta
  refine Prod.ext rfl (Prod.ext rfl (Prod.ext ?_ rfl))
  funext q
  show (if q = m0 + 1 + k then some (mTg k, (mSz k, .inl g)) else if m0 < q ∧ q ≤ m0 + 21 then some (mTg (q - m0 - 1), (mSz (q - m0 - 1), .inl (mA M (q - m0 - 1)))) else A.2.2.1 q) = if m0 < q ∧ q ≤ m0 + 21 then some (mTg (q - m0 - 1), (mSz (q - m0 - 1), .inl (mA (uA M k g) (q - m0 - 1)))) else A.2.2.1 q
  by_cases h1 : q = m0 + 1 + k
  · rw [if_pos h1, if_pos ⟨by omega, by omega⟩, h1, show m0 + 1 + k - m0 - 1 = k by omega, mA_uA, if_pos rfl]
  · rw [if_neg h1]
    by_cases h2 : m0 < q ∧ q ≤ m0 + 21
    · rw [if_pos h2, if_pos h2, mA_uA, if_neg (by omega)]
    · rw [if_neg h2, if_neg h2]
theorem hm_148 (h : mO A m0) : gf (hM A m0 M) m0 148 = some (.ref (m0 + 1)) := hm_f h 148
theorem hg_0 (h : mO A m0) : ga (hM A m0 M) (m0 + 1) = some (0, (3100, .inl (mA M 0))) := hm_a h 0 (by decide)
theorem ha_0 {g : Nat → Int32} : seta (hM A m0 M) (m0 + 1) (0, (3100, .inl g)) = hM A m0 (uA M 0 g) := by
  have := hm_sa (A := A) (m0 := m0) (M := M) 0 (by decide) g
  rw [Nat.add_assoc] at this
  exact this
theorem hm_149 (h : mO A m0) : gf (hM A m0 M) m0 149 = some (.ref (m0 + 2)) := hm_f h 149
theorem hg_1 (h : mO A m0) : ga (hM A m0 M) (m0 + 2) = some (0, (3100, .inl (mA M 1))) := by
  have := hm_a (M := M) h 1 (by decide)
  rw [Nat.add_assoc] at this
  exact this
theorem ha_1 {g : Nat → Int32} : seta (hM A m0 M) (m0 + 2) (0, (3100, .inl g)) = hM A m0 (uA M 1 g) := by
  have := hm_sa (A := A) (m0 := m0) (M := M) 1 (by decide) g
  rw [Nat.add_assoc] at this
  exact this
theorem hm_150 (h : mO A m0) : gf (hM A m0 M) m0 150 = some (.ref (m0 + 3)) := hm_f h 150
theorem hg_2 (h : mO A m0) : ga (hM A m0 M) (m0 + 3) = some (0, (6200, .inl (mA M 2))) := by
  have := hm_a (M := M) h 2 (by decide)
  rw [Nat.add_assoc] at this
  exact this
theorem ha_2 {g : Nat → Int32} : seta (hM A m0 M) (m0 + 3) (0, (6200, .inl g)) = hM A m0 (uA M 2 g) := by
  have := hm_sa (A := A) (m0 := m0) (M := M) 2 (by decide) g
  rw [Nat.add_assoc] at this
  exact this
theorem hm_151 (h : mO A m0) : gf (hM A m0 M) m0 151 = some (.ref (m0 + 4)) := hm_f h 151
theorem hg_3 (h : mO A m0) : ga (hM A m0 M) (m0 + 4) = some (2, (2, .inl (mA M 3))) := by
  have := hm_a (M := M) h 3 (by decide)
  rw [Nat.add_assoc] at this
  exact this
theorem ha_3 {g : Nat → Int32} : seta (hM A m0 M) (m0 + 4) (2, (2, .inl g)) = hM A m0 (uA M 3 g) := by
  have := hm_sa (A := A) (m0 := m0) (M := M) 3 (by decide) g
  rw [Nat.add_assoc] at this
  exact this
theorem hm_152 (h : mO A m0) : gf (hM A m0 M) m0 152 = some (.ref (m0 + 5)) := hm_f h 152
theorem hg_4 (h : mO A m0) : ga (hM A m0 M) (m0 + 5) = some (0, (8, .inl (mA M 4))) := by
  have := hm_a (M := M) h 4 (by decide)
  rw [Nat.add_assoc] at this
  exact this
theorem ha_4 {g : Nat → Int32} : seta (hM A m0 M) (m0 + 5) (0, (8, .inl g)) = hM A m0 (uA M 4 g) := by
  have := hm_sa (A := A) (m0 := m0) (M := M) 4 (by decide) g
  rw [Nat.add_assoc] at this
  exact this
theorem hm_153 (h : mO A m0) : gf (hM A m0 M) m0 153 = some (.ref (m0 + 6)) := hm_f h 153
theorem hg_5 (h : mO A m0) : ga (hM A m0 M) (m0 + 6) = some (0, (8, .inl (mA M 5))) := by
  have := hm_a (M := M) h 5 (by decide)
  rw [Nat.add_assoc] at this
  exact this
theorem ha_5 {g : Nat → Int32} : seta (hM A m0 M) (m0 + 6) (0, (8, .inl g)) = hM A m0 (uA M 5 g) := by
  have := hm_sa (A := A) (m0 := m0) (M := M) 5 (by decide) g
  rw [Nat.add_assoc] at this
  exact this
theorem hm_154 (h : mO A m0) : gf (hM A m0 M) m0 154 = some (.ref (m0 + 7)) := hm_f h 154
theorem hg_6 (h : mO A m0) : ga (hM A m0 M) (m0 + 7) = some (0, (8, .inl (mA M 6))) := by
  have := hm_a (M := M) h 6 (by decide)
  rw [Nat.add_assoc] at this
  exact this
theorem ha_6 {g : Nat → Int32} : seta (hM A m0 M) (m0 + 7) (0, (8, .inl g)) = hM A m0 (uA M 6 g) := by
  have := hm_sa (A := A) (m0 := m0) (M := M) 6 (by decide) g
  rw [Nat.add_assoc] at this
  exact this
theorem hm_155 (h : mO A m0) : gf (hM A m0 M) m0 155 = some (.int (mF M 155)) := hm_f h 155
theorem hs_155 {x : Int32} : setf (hM A m0 M) m0 155 (.int x) = hM A m0 (uF M 155 x) := hm_sf 155 x rfl
theorem hm_156 (h : mO A m0) : gf (hM A m0 M) m0 156 = some (.ref (m0 + 8)) := hm_f h 156
theorem hg_7 (h : mO A m0) : ga (hM A m0 M) (m0 + 8) = some (0, (700, .inl (mA M 7))) := by
  have := hm_a (M := M) h 7 (by decide)
  rw [Nat.add_assoc] at this
  exact this
theorem ha_7 {g : Nat → Int32} : seta (hM A m0 M) (m0 + 8) (0, (700, .inl g)) = hM A m0 (uA M 7 g) := by
  have := hm_sa (A := A) (m0 := m0) (M := M) 7 (by decide) g
  rw [Nat.add_assoc] at this
  exact this
theorem hm_157 (h : mO A m0) : gf (hM A m0 M) m0 157 = some (.int (mF M 157)) := hm_f h 157
theorem hs_157 {x : Int32} : setf (hM A m0 M) m0 157 (.int x) = hM A m0 (uF M 157 x) := hm_sf 157 x rfl
theorem hm_158 (h : mO A m0) : gf (hM A m0 M) m0 158 = some (.int (mF M 158)) := hm_f h 158
theorem hs_158 {x : Int32} : setf (hM A m0 M) m0 158 (.int x) = hM A m0 (uF M 158 x) := hm_sf 158 x rfl
theorem hm_159 (h : mO A m0) : gf (hM A m0 M) m0 159 = some (.int (mF M 159)) := hm_f h 159
theorem hs_159 {x : Int32} : setf (hM A m0 M) m0 159 (.int x) = hM A m0 (uF M 159 x) := hm_sf 159 x rfl
theorem hm_160 (h : mO A m0) : gf (hM A m0 M) m0 160 = some (.int (mF M 160)) := hm_f h 160
theorem hs_160 {x : Int32} : setf (hM A m0 M) m0 160 (.int x) = hM A m0 (uF M 160 x) := hm_sf 160 x rfl
theorem hm_161 (h : mO A m0) : gf (hM A m0 M) m0 161 = some (.int (mF M 161)) := hm_f h 161
theorem hs_161 {x : Int32} : setf (hM A m0 M) m0 161 (.int x) = hM A m0 (uF M 161 x) := hm_sf 161 x rfl
theorem hm_162 (h : mO A m0) : gf (hM A m0 M) m0 162 = some (.int (mF M 162)) := hm_f h 162
theorem hs_162 {x : Int32} : setf (hM A m0 M) m0 162 (.int x) = hM A m0 (uF M 162 x) := hm_sf 162 x rfl
theorem hm_163 (h : mO A m0) : gf (hM A m0 M) m0 163 = some (.int (mF M 163)) := hm_f h 163
theorem hs_163 {x : Int32} : setf (hM A m0 M) m0 163 (.int x) = hM A m0 (uF M 163 x) := hm_sf 163 x rfl
theorem hm_164 (h : mO A m0) : gf (hM A m0 M) m0 164 = some (.int (mF M 164)) := hm_f h 164
theorem hs_164 {x : Int32} : setf (hM A m0 M) m0 164 (.int x) = hM A m0 (uF M 164 x) := hm_sf 164 x rfl
theorem hm_165 (h : mO A m0) : gf (hM A m0 M) m0 165 = some (.long (mW M)) := hm_f h 165
theorem hs_165 {w : Int64} : setf (hM A m0 M) m0 165 (.long w) = hM A m0 (uW M w) := hm_sw w
theorem hm_166 (h : mO A m0) : gf (hM A m0 M) m0 166 = some (.ref (m0 + 9)) := hm_f h 166
theorem hg_8 (h : mO A m0) : ga (hM A m0 M) (m0 + 9) = some (0, (7, .inl (mA M 8))) := by
  have := hm_a (M := M) h 8 (by decide)
  rw [Nat.add_assoc] at this
  exact this
theorem ha_8 {g : Nat → Int32} : seta (hM A m0 M) (m0 + 9) (0, (7, .inl g)) = hM A m0 (uA M 8 g) := by
  have := hm_sa (A := A) (m0 := m0) (M := M) 8 (by decide) g
  rw [Nat.add_assoc] at this
  exact this
theorem hm_167 (h : mO A m0) : gf (hM A m0 M) m0 167 = some (.ref (m0 + 10)) := hm_f h 167
theorem hg_9 (h : mO A m0) : ga (hM A m0 M) (m0 + 10) = some (0, (7, .inl (mA M 9))) := by
  have := hm_a (M := M) h 9 (by decide)
  rw [Nat.add_assoc] at this
  exact this
theorem ha_9 {g : Nat → Int32} : seta (hM A m0 M) (m0 + 10) (0, (7, .inl g)) = hM A m0 (uA M 9 g) := by
  have := hm_sa (A := A) (m0 := m0) (M := M) 9 (by decide) g
  rw [Nat.add_assoc] at this
  exact this
theorem hm_168 (h : mO A m0) : gf (hM A m0 M) m0 168 = some (.ref (m0 + 11)) := hm_f h 168
theorem hg_10 (h : mO A m0) : ga (hM A m0 M) (m0 + 11) = some (0, (7, .inl (mA M 10))) := by
  have := hm_a (M := M) h 10 (by decide)
  rw [Nat.add_assoc] at this
  exact this
theorem ha_10 {g : Nat → Int32} : seta (hM A m0 M) (m0 + 11) (0, (7, .inl g)) = hM A m0 (uA M 10 g) := by
  have := hm_sa (A := A) (m0 := m0) (M := M) 10 (by decide) g
  rw [Nat.add_assoc] at this
  exact this
theorem hm_169 (h : mO A m0) : gf (hM A m0 M) m0 169 = some (.ref (m0 + 12)) := hm_f h 169
theorem hg_11 (h : mO A m0) : ga (hM A m0 M) (m0 + 12) = some (0, (7, .inl (mA M 11))) := by
  have := hm_a (M := M) h 11 (by decide)
  rw [Nat.add_assoc] at this
  exact this
theorem ha_11 {g : Nat → Int32} : seta (hM A m0 M) (m0 + 12) (0, (7, .inl g)) = hM A m0 (uA M 11 g) := by
  have := hm_sa (A := A) (m0 := m0) (M := M) 11 (by decide) g
  rw [Nat.add_assoc] at this
  exact this
theorem hm_170 (h : mO A m0) : gf (hM A m0 M) m0 170 = some (.ref (m0 + 13)) := hm_f h 170
theorem hg_12 (h : mO A m0) : ga (hM A m0 M) (m0 + 13) = some (0, (7, .inl (mA M 12))) := by
  have := hm_a (M := M) h 12 (by decide)
  rw [Nat.add_assoc] at this
  exact this
theorem ha_12 {g : Nat → Int32} : seta (hM A m0 M) (m0 + 13) (0, (7, .inl g)) = hM A m0 (uA M 12 g) := by
  have := hm_sa (A := A) (m0 := m0) (M := M) 12 (by decide) g
  rw [Nat.add_assoc] at this
  exact this
theorem hm_171 (h : mO A m0) : gf (hM A m0 M) m0 171 = some (.ref (m0 + 14)) := hm_f h 171
theorem hg_13 (h : mO A m0) : ga (hM A m0 M) (m0 + 14) = some (0, (7, .inl (mA M 13))) := by
  have := hm_a (M := M) h 13 (by decide)
  rw [Nat.add_assoc] at this
  exact this
theorem ha_13 {g : Nat → Int32} : seta (hM A m0 M) (m0 + 14) (0, (7, .inl g)) = hM A m0 (uA M 13 g) := by
  have := hm_sa (A := A) (m0 := m0) (M := M) 13 (by decide) g
  rw [Nat.add_assoc] at this
  exact this
theorem hm_172 (h : mO A m0) : gf (hM A m0 M) m0 172 = some (.int (mF M 172)) := hm_f h 172
theorem hs_172 {x : Int32} : setf (hM A m0 M) m0 172 (.int x) = hM A m0 (uF M 172 x) := hm_sf 172 x rfl
theorem hm_173 (h : mO A m0) : gf (hM A m0 M) m0 173 = some (.int (mF M 173)) := hm_f h 173
theorem hs_173 {x : Int32} : setf (hM A m0 M) m0 173 (.int x) = hM A m0 (uF M 173 x) := hm_sf 173 x rfl
theorem hm_174 (h : mO A m0) : gf (hM A m0 M) m0 174 = some (.int (mF M 174)) := hm_f h 174
theorem hs_174 {x : Int32} : setf (hM A m0 M) m0 174 (.int x) = hM A m0 (uF M 174 x) := hm_sf 174 x rfl
theorem hm_175 (h : mO A m0) : gf (hM A m0 M) m0 175 = some (.int (mF M 175)) := hm_f h 175
theorem hs_175 {x : Int32} : setf (hM A m0 M) m0 175 (.int x) = hM A m0 (uF M 175 x) := hm_sf 175 x rfl
theorem hm_176 (h : mO A m0) : gf (hM A m0 M) m0 176 = some (.int (mF M 176)) := hm_f h 176
theorem hs_176 {x : Int32} : setf (hM A m0 M) m0 176 (.int x) = hM A m0 (uF M 176 x) := hm_sf 176 x rfl
theorem hm_177 (h : mO A m0) : gf (hM A m0 M) m0 177 = some (.ref (m0 + 15)) := hm_f h 177
theorem hg_14 (h : mO A m0) : ga (hM A m0 M) (m0 + 15) = some (0, (120, .inl (mA M 14))) := by
  have := hm_a (M := M) h 14 (by decide)
  rw [Nat.add_assoc] at this
  exact this
theorem ha_14 {g : Nat → Int32} : seta (hM A m0 M) (m0 + 15) (0, (120, .inl g)) = hM A m0 (uA M 14 g) := by
  have := hm_sa (A := A) (m0 := m0) (M := M) 14 (by decide) g
  rw [Nat.add_assoc] at this
  exact this
theorem hm_178 (h : mO A m0) : gf (hM A m0 M) m0 178 = some (.ref (m0 + 16)) := hm_f h 178
theorem hg_15 (h : mO A m0) : ga (hM A m0 M) (m0 + 16) = some (0, (120, .inl (mA M 15))) := by
  have := hm_a (M := M) h 15 (by decide)
  rw [Nat.add_assoc] at this
  exact this
theorem ha_15 {g : Nat → Int32} : seta (hM A m0 M) (m0 + 16) (0, (120, .inl g)) = hM A m0 (uA M 15 g) := by
  have := hm_sa (A := A) (m0 := m0) (M := M) 15 (by decide) g
  rw [Nat.add_assoc] at this
  exact this
theorem hm_179 (h : mO A m0) : gf (hM A m0 M) m0 179 = some (.ref (m0 + 17)) := hm_f h 179
theorem hg_16 (h : mO A m0) : ga (hM A m0 M) (m0 + 17) = some (0, (121, .inl (mA M 16))) := by
  have := hm_a (M := M) h 16 (by decide)
  rw [Nat.add_assoc] at this
  exact this
theorem ha_16 {g : Nat → Int32} : seta (hM A m0 M) (m0 + 17) (0, (121, .inl g)) = hM A m0 (uA M 16 g) := by
  have := hm_sa (A := A) (m0 := m0) (M := M) 16 (by decide) g
  rw [Nat.add_assoc] at this
  exact this
theorem hm_180 (h : mO A m0) : gf (hM A m0 M) m0 180 = some (.ref (m0 + 18)) := hm_f h 180
theorem hg_17 (h : mO A m0) : ga (hM A m0 M) (m0 + 18) = some (0, (120, .inl (mA M 17))) := by
  have := hm_a (M := M) h 17 (by decide)
  rw [Nat.add_assoc] at this
  exact this
theorem ha_17 {g : Nat → Int32} : seta (hM A m0 M) (m0 + 18) (0, (120, .inl g)) = hM A m0 (uA M 17 g) := by
  have := hm_sa (A := A) (m0 := m0) (M := M) 17 (by decide) g
  rw [Nat.add_assoc] at this
  exact this
theorem hm_181 (h : mO A m0) : gf (hM A m0 M) m0 181 = some (.ref (m0 + 19)) := hm_f h 181
theorem hg_18 (h : mO A m0) : ga (hM A m0 M) (m0 + 19) = some (0, (120, .inl (mA M 18))) := by
  have := hm_a (M := M) h 18 (by decide)
  rw [Nat.add_assoc] at this
  exact this
theorem ha_18 {g : Nat → Int32} : seta (hM A m0 M) (m0 + 19) (0, (120, .inl g)) = hM A m0 (uA M 18 g) := by
  have := hm_sa (A := A) (m0 := m0) (M := M) 18 (by decide) g
  rw [Nat.add_assoc] at this
  exact this
theorem hm_182 (h : mO A m0) : gf (hM A m0 M) m0 182 = some (.ref (m0 + 20)) := hm_f h 182
theorem hg_19 (h : mO A m0) : ga (hM A m0 M) (m0 + 20) = some (0, (900, .inl (mA M 19))) := by
  have := hm_a (M := M) h 19 (by decide)
  rw [Nat.add_assoc] at this
  exact this
theorem ha_19 {g : Nat → Int32} : seta (hM A m0 M) (m0 + 20) (0, (900, .inl g)) = hM A m0 (uA M 19 g) := by
  have := hm_sa (A := A) (m0 := m0) (M := M) 19 (by decide) g
  rw [Nat.add_assoc] at this
  exact this
theorem hm_183 (h : mO A m0) : gf (hM A m0 M) m0 183 = some (.ref (m0 + 21)) := hm_f h 183
theorem hg_20 (h : mO A m0) : ga (hM A m0 M) (m0 + 21) = some (2, (900, .inl (mA M 20))) := by
  have := hm_a (M := M) h 20 (by decide)
  rw [Nat.add_assoc] at this
  exact this
theorem ha_20 {g : Nat → Int32} : seta (hM A m0 M) (m0 + 21) (2, (900, .inl g)) = hM A m0 (uA M 20 g) := by
  have := hm_sa (A := A) (m0 := m0) (M := M) 20 (by decide) g
  rw [Nat.add_assoc] at this
  exact this
theorem hm_184 (h : mO A m0) : gf (hM A m0 M) m0 184 = some (.int (mF M 184)) := hm_f h 184
theorem hs_184 {x : Int32} : setf (hM A m0 M) m0 184 (.int x) = hM A m0 (uF M 184 x) := hm_sf 184 x rfl
theorem hm_185 (h : mO A m0) : gf (hM A m0 M) m0 185 = some (.int (mF M 185)) := hm_f h 185
theorem hs_185 {x : Int32} : setf (hM A m0 M) m0 185 (.int x) = hM A m0 (uF M 185 x) := hm_sf 185 x rfl
theorem hm_186 (h : mO A m0) : gf (hM A m0 M) m0 186 = some (.int (mF M 186)) := hm_f h 186
theorem hs_186 {x : Int32} : setf (hM A m0 M) m0 186 (.int x) = hM A m0 (uF M 186 x) := hm_sf 186 x rfl
end
