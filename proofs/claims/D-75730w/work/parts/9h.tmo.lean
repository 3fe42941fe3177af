/-! the component's trips: a vehicle's reads in the order of their times -/
/-- labels that nothing has -/
theorem fresh (w : Lb) (M : Nat) : ∀ n : Nat, ∃ L, M < L ∧ ∀ q, q < n → w q < L
  | 0 => ⟨M + 1, Nat.lt_succ_self _, fun q hq => absurd hq (Nat.not_lt_zero _)⟩
  | n + 1 => by
    obtain ⟨L, h1, h2⟩ := fresh w M n
    refine ⟨L + w n + 1, by omega, fun q hq => ?_⟩
    by_cases z : q = n
    · rw [z]; omega
    · have := h2 q (by omega); omega
def kyN (S : Nat → Int32) (j : Nat) : Nat := 120 * (S (280 + 7 * j + 2)).toNatClampNeg + j
def TmO (A : Hp) (w : Lb) (m lb : Nat) (aO : Nat → Nat) (S : Nat → Int32) (l : List Nat) (vv : Value) : Prop := ∃ es ky kA vl, TMs A w m lb es ky kA vl es.length vv ∧ es.map (fun x => (vl x, ky x)) = l.map (fun j => (aO j, kyN S j))
section
variable {A A' B : Hp} {w w' : Lb} {X : Nat → Prop} {y l0 e ci b n c u d x k p q s g0 G D R rr m lb kO r i : Nat} {aO : Nat → Nat} {l : List Nat} {v : Int32} {t : Tp} {S f : Nat → Int32} {vv : Value}
theorem TmO.fr (h : TmO A w m lb aO S l vv) (k : Fr A w A' w' X c u) (hl : ¬ X lb) (h0 : ¬ X 0) : TmO A' w' m lb aO S l vv := by
  obtain ⟨es, ky, kA, vl, h1, h2⟩ := h
  exact ⟨es, ky, kA, vl, h1.fr k hl h0, h2⟩
theorem kyN_lt {T : Nat → Nat} (hT : ∀ j, j < R → T j ≤ 100000 ∧ S (280 + 7 * j + 2) = nI (T j)) (hR : R ≤ 120) (hx : x < R) : kyN S x = 120 * T x + x ∧ kyN S x < 20000000 := by
  obtain ⟨h1, h2⟩ := hT x hx
  unfold kyN
  rw [h2, n_cl (by omega)]
  exact ⟨rfl, by omega⟩
theorem TmO.put {T : Nat → Nat} (hT : ∀ j, j < R → T j ≤ 100000 ∧ S (280 + 7 * j + 2) = nI (T j)) (hR : R ≤ 120) (h : TmO A w m lb aO S l vv) (hl : ∀ x, x ∈ l → x < r) (hr : r < R) (hk : InS A kO (nI (kyN S r))) (wk : w kO = 0) (hv : Kd A (aO r) ci) (hln : l.length < 120) :
    ∃ A', evG TB (d + 8) 55 [.ref m, .ref kO, .ref (aO r)] A = some (.inl (some .null), A') ∧ TmO A' (upL w (nx A) lb) m lb aO S (insK S r l) vv ∧ Fr A w A' (upL w (nx A) lb) (fun x => x = lb) 1 6 := by
  obtain ⟨es, ky, kA, vl, h1, h2⟩ := h
  have kr := kyN_lt hT hR hr
  have hel : es.length = l.length := by
    have := congrArg List.length h2
    rw [List.length_map, List.length_map] at this
    exact this
  have kq : ∀ e, e ∈ es → ∃ x, x ∈ l ∧ vl e = aO x ∧ ky e = kyN S x := fun e he => by
    have : (vl e, ky e) ∈ l.map (fun j => (aO j, kyN S j)) := by rw [← h2]; exact List.mem_map.mpr ⟨e, he, rfl⟩
    obtain ⟨x, hx, e1⟩ := List.mem_map.mp this
    exact ⟨x, hx, (congrArg Prod.fst e1).symm, (congrArg Prod.snd e1).symm⟩
  have hkn : ∀ e, e ∈ es → ky e ≠ kyN S r := fun e he z => by
    obtain ⟨x, hx, _, e2⟩ := kq e he
    have hx2 := hl x hx
    have kx := kyN_lt hT hR (show x < R by omega)
    rw [e2, kx.1, kr.1] at z
    omega
  have put : ∃ A', evG TB (d + 8) 55 [.ref m, .ref kO, .ref (aO r)] A = some (.inl (some .null), A') ∧ PutOK A w m lb (kyN S r) kO (aO r) es ky kA vl es.length vv A' := by
    by_cases z : es = []
    · subst z
      exact m_55_0 h1 hk wk (by omega) hv (by decide)
    · exact m_55_1 h1 z hk wk (by omega) hkn hv (by omega) (by omega)
  obtain ⟨A', e1, a, b, p1, p2, p3, p4, p5⟩ := put
  have hnew : ∀ e, e ∈ es → e ≠ nx A := fun e he => Nat.ne_of_lt (gc_lt (h1.nd e he).2.1)
  refine ⟨A', e1, ⟨a ++ nx A :: b, updN ky (nx A) (kyN S r), updN kA (nx A) kO, updN vl (nx A) (aO r), ?_, ?_⟩, p5⟩
  · have : (a ++ nx A :: b).length = es.length + 1 := by rw [p1]; simp; omega
    rw [this]
    exact p4
  · rw [p1, List.map_append] at h2
    obtain ⟨l1, l2, q1, q2, q3⟩ := List.map_eq_append_iff.mp h2.symm
    have ma : ∀ x, x ∈ l1 → ∃ e, e ∈ a ∧ ky e = kyN S x := fun x hx => by
      have : (aO x, kyN S x) ∈ a.map (fun x => (vl x, ky x)) := by rw [← q2]; exact List.mem_map.mpr ⟨x, hx, rfl⟩
      obtain ⟨e, he, e1⟩ := List.mem_map.mp this
      exact ⟨e, he, congrArg Prod.snd e1⟩
    have mb : ∀ x, x ∈ l2 → ∃ e, e ∈ b ∧ ky e = kyN S x := fun x hx => by
      have : (aO x, kyN S x) ∈ b.map (fun x => (vl x, ky x)) := by rw [← q3]; exact List.mem_map.mpr ⟨x, hx, rfl⟩
      obtain ⟨e, he, e1⟩ := List.mem_map.mp this
      exact ⟨e, he, congrArg Prod.snd e1⟩
    have hins : insK S r l = l1 ++ r :: l2 := by
      rw [q1]
      refine insK_split (fun x hx => ?_) (fun x hx => ?_)
      · obtain ⟨e, he, e2⟩ := ma x hx
        have h3 := p2 e he
        have hx2 := hl x (by rw [q1]; exact List.mem_append_left _ hx)
        have kx := kyN_lt hT hR (show x < R by omega)
        rw [e2, kx.1, kr.1] at h3
        rw [(hT r hr).2, (hT x (by omega)).2]
        have l1 := (hT r hr).1
        have l2 := (hT x (by omega)).1
        intro z
        have := (nI_ltI (by omega) (by omega)).mp z
        omega
      · obtain ⟨e, he, e2⟩ := mb x hx
        have h3 := p3 e he
        have hx2 := hl x (by rw [q1]; exact List.mem_append_right _ hx)
        have kx := kyN_lt hT hR (show x < R by omega)
        rw [e2, kx.1, kr.1] at h3
        rw [(hT r hr).2, (hT x (by omega)).2]
        have l1 := (hT r hr).1
        have l2 := (hT x (by omega)).1
        exact (nI_ltI (by omega) (by omega)).mpr (by omega)
    rw [hins, List.map_append, List.map_cons, List.map_append, List.map_cons, updN_is rfl, updN_is rfl]
    have ea : a.map (fun x => (updN vl (nx A) (aO r) x, updN ky (nx A) (kyN S r) x)) = a.map (fun x => (vl x, ky x)) := List.map_congr_left (fun e he => by
      have := hnew e (by rw [p1]; exact List.mem_append_left _ he)
      rw [updN_ne this, updN_ne this])
    have eb : b.map (fun x => (updN vl (nx A) (aO r) x, updN ky (nx A) (kyN S r) x)) = b.map (fun x => (vl x, ky x)) := List.map_congr_left (fun e he => by
      have := hnew e (by rw [p1]; exact List.mem_append_right _ he)
      rw [updN_ne this, updN_ne this])
    rw [ea, eb, q2, q3]
end
/-- how many reads are in the trips -/
theorem lay_snoc {S : Nat → Int32} {G D x : Nat} {l : List Nat} : lay S G D (l ++ [x]) = lyS S G D (lay S G D l) x := by
  unfold lay
  rw [List.foldl_append]
  rfl
theorem tpK_rs {S : Nat → Int32} {G D x : Nat} {t t' : Tp} (h : tpK S G D t x = some t') : t'.rs = t.rs ++ [x] := by
  unfold tpK at h
  split at h
  · split at h
    · cases h; rfl
    · cases h
  · split at h
    · cases h
    · split at h
      · cases h
      · cases h; rfl
theorem lay_rS {S : Nat → Int32} {G D : Nat} : ∀ (n : Nat) (l : List Nat), l.length = n → rS (lay S G D l).2 (lay S G D l).1 = n
  | 0, l, h => by
    rw [List.length_eq_zero_iff.mp h]
    rfl
  | n + 1, l, h => by
    obtain ⟨l', x, rfl⟩ : ∃ l' x, l = l' ++ [x] := by
      have hne : l ≠ [] := fun z => by rw [z] at h; cases h
      exact ⟨l.dropLast, l.getLast hne, (List.dropLast_concat_getLast hne).symm⟩
    have hl : l'.length = n := by simp at h; exact h
    have ih := lay_rS (S := S) (G := G) (D := D) n l' hl
    rw [lay_snoc]
    unfold lyS
    by_cases z : (lay S G D l').1 = 0
    · rw [if_pos z]
      rw [z] at ih
      have ih : 0 = n := ih
      show rS (upT (lay S G D l').2 0 (tpN S x)) 0 + (upT (lay S G D l').2 0 (tpN S x) 0).rs.length = n + 1
      rw [upT_is rfl, ← ih]
      rfl
    · rw [if_neg z]
      have em : ∃ m, (lay S G D l').1 = m + 1 := ⟨(lay S G D l').1 - 1, by omega⟩
      obtain ⟨m, em⟩ := em
      rw [em] at ih ⊢
      have e1 : m + 1 - 1 = m := rfl
      rw [e1]
      cases hk : tpK S G D ((lay S G D l').2 m) x with
      | none =>
        show rS (upT _ (m + 1) (tpN S x)) (m + 1) + (upT _ (m + 1) (tpN S x) (m + 1)).rs.length = n + 1
        rw [upT_is rfl, rS_congr (T' := (lay S G D l').2) (m + 1) (fun k hk => upT_ne (by omega)), ih]
        rfl
      | some t' =>
        show rS (upT _ m t') m + (upT _ m t' m).rs.length = n + 1
        rw [upT_is rfl, rS_congr (T' := (lay S G D l').2) m (fun k hk => upT_ne (by omega)), tpK_rs hk, List.length_append]
        have : rS (lay S G D l').2 m + ((lay S G D l').2 m).rs.length = n := ih
        simp
        omega
