/-! what holds of every trip that is laid -/
/-- places behind one of gantry g, of the reads that come then: those between are missing -/
def Mk (S : Nat → Int32) : Nat → List Nat → List (Nat × Bool) → Prop
  | _, [], ps => ps = []
  | g, r :: rs, ps => (gN S r = g ∧ Mk S g rs ps) ∨ (gN S r ≠ g ∧ ∃ pre rest, ps = pre ++ (gN S r, false) :: rest ∧ (∀ x, x ∈ pre → x.2 = true ∧ x.1 ≠ gN S r) ∧ Mk S (gN S r) rs rest)
/-- the gantry of the latest read -/
def fnG (S : Nat → Int32) (g : Nat) (rs : List Nat) : Nat := match rs.getLast? with
  | none => g
  | some r => gN S r
theorem fnG_cons {S : Nat → Int32} {g r : Nat} {rs : List Nat} : fnG S g (r :: rs) = fnG S (gN S r) rs := by
  unfold fnG
  cases rs with
  | nil => rfl
  | cons x t => rfl
theorem Mk_same {S : Nat → Int32} {r : Nat} : ∀ {rs : List Nat} {g : Nat} {ps : List (Nat × Bool)}, Mk S g rs ps → gN S r = fnG S g rs → Mk S g (rs ++ [r]) ps
  | [], g, ps, h, e => Or.inl ⟨e, h⟩
  | x :: rs, g, ps, h, e => by
    rw [fnG_cons] at e
    rcases h with ⟨h1, h2⟩ | ⟨h1, pre, rest, h2, h3, h4⟩
    · rw [h1] at e
      exact Or.inl ⟨h1, Mk_same h2 e⟩
    · exact Or.inr ⟨h1, pre, rest, h2, h3, Mk_same h4 e⟩
theorem Mk_more {S : Nat → Int32} {r : Nat} {pre : List (Nat × Bool)} (hp : ∀ x, x ∈ pre → x.2 = true ∧ x.1 ≠ gN S r) : ∀ {rs : List Nat} {g : Nat} {ps : List (Nat × Bool)}, Mk S g rs ps → gN S r ≠ fnG S g rs → Mk S g (rs ++ [r]) (ps ++ (pre ++ [(gN S r, false)]))
  | [], g, ps, h, e => by
    have h : ps = [] := h
    subst h
    exact Or.inr ⟨e, pre, [], rfl, hp, rfl⟩
  | x :: rs, g, ps, h, e => by
    rw [fnG_cons] at e
    rcases h with ⟨h1, h2⟩ | ⟨h1, pre', rest, h2, h3, h4⟩
    · rw [h1] at e
      exact Or.inl ⟨h1, Mk_more hp h2 e⟩
    · refine Or.inr ⟨h1, pre', rest ++ (pre ++ [(gN S r, false)]), ?_, h3, Mk_more hp h4 e⟩
      rw [h2, List.append_assoc]
      rfl
abbrev TpI (S : Nat → Int32) (G : Nat) (l : List Nat) (t : Tp) : Prop := (∀ r, r ∈ t.rs → r ∈ l) ∧ (t.la ∈ t.rs) ∧ (gN S t.la = fnG S 0 t.rs) ∧ (∀ x, x ∈ t.ps → x.1 < G) ∧ (∃ c, t.to = nI c ∧ c ≤ 5994 * t.rs.length) ∧ (∃ c, t.co = nI c ∧ c ≤ 1000000 * t.rs.length) ∧ (1 ≤ t.ps.length ∧ t.ps.length + 5 ≤ 6 * t.rs.length) ∧ (∃ r rs ps, t.rs = r :: rs ∧ t.ps = (gN S r, false) :: ps ∧ Mk S (gN S r) rs ps) ∧ (nI (misN t.ps) = nI (misN t.ps))
theorem TpI.mem {S : Nat → Int32} {G : Nat} {l : List Nat} {t : Tp} (h : TpI S G l t) : ∀ r, r ∈ t.rs → r ∈ l := h.1
theorem TpI.la {S : Nat → Int32} {G : Nat} {l : List Nat} {t : Tp} (h : TpI S G l t) : t.la ∈ t.rs := h.2.1
theorem TpI.gl {S : Nat → Int32} {G : Nat} {l : List Nat} {t : Tp} (h : TpI S G l t) : gN S t.la = fnG S 0 t.rs := h.2.2.1
theorem TpI.ps {S : Nat → Int32} {G : Nat} {l : List Nat} {t : Tp} (h : TpI S G l t) : ∀ x, x ∈ t.ps → x.1 < G := h.2.2.2.1
theorem TpI.to {S : Nat → Int32} {G : Nat} {l : List Nat} {t : Tp} (h : TpI S G l t) : ∃ c, t.to = nI c ∧ c ≤ 5994 * t.rs.length := h.2.2.2.2.1
theorem TpI.co {S : Nat → Int32} {G : Nat} {l : List Nat} {t : Tp} (h : TpI S G l t) : ∃ c, t.co = nI c ∧ c ≤ 1000000 * t.rs.length := h.2.2.2.2.2.1
theorem TpI.len {S : Nat → Int32} {G : Nat} {l : List Nat} {t : Tp} (h : TpI S G l t) : 1 ≤ t.ps.length ∧ t.ps.length + 5 ≤ 6 * t.rs.length := h.2.2.2.2.2.2.1
theorem TpI.mk {S : Nat → Int32} {G : Nat} {l : List Nat} {t : Tp} (h : TpI S G l t) : ∃ r rs ps, t.rs = r :: rs ∧ t.ps = (gN S r, false) :: ps ∧ Mk S (gN S r) rs ps := h.2.2.2.2.2.2.2.1
theorem TpI.mis {S : Nat → Int32} {G : Nat} {l : List Nat} {t : Tp} (h : TpI S G l t) : nI (misN t.ps) = nI (misN t.ps) := h.2.2.2.2.2.2.2.2
theorem fnG_snoc {S : Nat → Int32} {g r : Nat} {rs : List Nat} : fnG S g (rs ++ [r]) = gN S r := by
  unfold fnG
  rw [List.getLast?_concat]
theorem fnG_any {S : Nat → Int32} {g g' : Nat} {r : Nat} {rs : List Nat} : fnG S g (r :: rs) = fnG S g' (r :: rs) := by rw [fnG_cons, fnG_cons]
theorem TpI.new {S : Nat → Int32} {G : Nat} {l : List Nat} {r : Nat} (hr : r ∈ l) (hg : gN S r < G) : TpI S G l (tpN S r) :=
  ⟨fun x hx => by have : x = r := by simpa [tpN, Tp.rs] using hx
                  rw [this]; exact hr, List.mem_singleton.mpr rfl, rfl, fun x hx => by
    have : x = (gN S r, false) := by simpa [tpN, Tp.ps] using hx
    rw [this]; exact hg, ⟨0, rfl, Nat.zero_le _⟩, ⟨0, rfl, Nat.zero_le _⟩, ⟨Nat.le_refl 1, Nat.le_refl 6⟩, ⟨r, [], [], rfl, rfl, rfl⟩, rfl⟩
theorem wyP_split {w : Nat → Int32} {r g : Nat} (h1 : 1 ≤ r) (hr : w r = nI g) (hg : g < 2147483648) : wyP w r = ((List.range (r - 1)).map fun j => ((w (j + 1)).toNatClampNeg, true)) ++ [(g, false)] := by
  obtain ⟨k, rfl⟩ : ∃ k, r = k + 1 := ⟨r - 1, by omega⟩
  unfold wyP
  rw [List.range_succ, List.map_append, Nat.add_sub_cancel]
  congr 1
  · refine List.map_congr_left (fun j hj => ?_)
    have := List.mem_range.mp hj
    rw [decide_eq_true (by omega)]
  · simp only [List.map_cons, List.map_nil, hr, n_cl hg]
    rw [decide_eq_false (by omega)]
theorem TpI.more {S : Nat → Int32} {G D R : Nat} {l : List Nat} (ok : LyOK S G D R) (hl : ∀ x, x ∈ l → x < R) {t t' : Tp} {r : Nat} (h : TpI S G l t) (hr : r ∈ l) (hk : tpK S G D t r = some t') (hle : ¬ S (280 + 7 * r + 2) < S (280 + 7 * t.la + 2)) : TpI S G l t' := by
  have G12 := ok.net.G12
  have hrR := hl r hr
  have haR := hl _ (h.mem _ h.la)
  obtain ⟨ga, a1, a2⟩ := ok.g _ haR
  obtain ⟨gr, r1, r2⟩ := ok.g _ hrR
  have ea : gN S t.la = ga := by unfold gN; rw [a2, n_cl (by omega)]
  have er : gN S r = gr := by unfold gN; rw [r2, n_cl (by omega)]
  obtain ⟨e, ee, e100⟩ := elp_n ok haR hrR hle
  obtain ⟨gp, gp1, gp2⟩ := ok.gap
  obtain ⟨sl, sl1, sl2⟩ := ok.sl
  obtain ⟨c, c1, c2⟩ := h.to
  obtain ⟨c', c1', c2'⟩ := h.co
  obtain ⟨l1, l2⟩ := h.len
  obtain ⟨x, rs, ps, m1, m2, m3⟩ := h.mk
  have hgl : gN S t.la = fnG S (gN S x) rs := by rw [h.gl, m1, fnG_cons]
  have hmem : ∀ y, y ∈ t.rs ++ [r] → y ∈ l := fun y hy => by
    rcases List.mem_append.mp hy with q | q
    · exact h.mem y q
    · rw [List.mem_singleton.mp q]; exact hr
  unfold tpK at hk
  by_cases q1 : S (280 + 7 * t.la + 1) = S (280 + 7 * r + 1)
  · rw [if_pos q1] at hk
    have hgg : gN S r = gN S t.la := by unfold gN; rw [q1]
    by_cases q2 : elp S t.la r ≤ S 1
    · rw [if_pos q2] at hk
      cases hk
      refine ⟨hmem, List.mem_append_left _ h.la, ?_, h.ps, ⟨c, c1, ?_⟩, ⟨c', c1', ?_⟩, ?_, ⟨x, rs ++ [r], ps, ?_, m2, Mk_same m3 (by rw [hgg]; exact hgl)⟩, rfl⟩
      · show gN S t.la = fnG S 0 (t.rs ++ [r])
        rw [fnG_snoc, hgg]
      · show c ≤ 5994 * (t.rs ++ [r]).length
        rw [List.length_append, List.length_singleton]; omega
      · show c' ≤ 1000000 * (t.rs ++ [r]).length
        rw [List.length_append, List.length_singleton]; omega
      · show 1 ≤ t.ps.length ∧ t.ps.length + 5 ≤ 6 * (t.rs ++ [r]).length
        rw [List.length_append, List.length_singleton]; omega
      · show t.rs ++ [r] = _
        rw [m1]; rfl
    · rw [if_neg q2] at hk; cases hk
  · rw [if_neg q1] at hk
    by_cases q2 : S 0 < elp S t.la r
    · rw [if_pos q2] at hk; cases hk
    · rw [if_neg q2] at hk
      by_cases q3 : (tpB S G D t.la r).1 = far
      · rw [if_pos q3] at hk; cases hk
      · rw [if_neg q3] at hk
        have e600 : e ≤ 600 := by
          have := Int32.not_lt.mp q2
          rw [ee, gp1] at this
          have := (nI_leI (by omega) (by omega)).mp this
          omega
        have bo := best_ok (to := gN S r) (fr := S (280 + 7 * t.la + 1)) (e := e) ok.net e600 sl1 sl2 ac0
        rw [← ee] at bo
        have hb : ¬ (best S G D (S (280 + 7 * t.la + 1)) (gN S r) (elp S t.la r) ac0).1 = far := q3
        obtain ⟨-, -, -, -, w, fd, -⟩ := bo.found hb
        have fd : FdOK G (gN S r) (S (280 + 7 * t.la + 1)) (tpB S G D t.la r) w := fd
        have w6 := fd.r6
        have w1 := fd.r1
        have hrd : (tpB S G D t.la r).2.1.toNatClampNeg = w := by rw [fd.rd, n_cl (by omega)]
        rw [hrd] at hk
        cases hk
        have hsp := wyP_split (w := (tpB S G D t.la r).2.2.2.2.2) w1 fd.e (by omega)
        have hlen : (wyP (tpB S G D t.la r).2.2.2.2.2 w).length = w := by unfold wyP; rw [List.length_map, List.length_range]
        have hne : gN S r ≠ gN S t.la := fun q => q1 (by rw [a2, r2, ← ea, ← er, q])
        have hpre : ∀ y, y ∈ ((List.range (w - 1)).map fun j => (((tpB S G D t.la r).2.2.2.2.2 (j + 1)).toNatClampNeg, true)) → y.2 = true ∧ y.1 ≠ gN S r ∧ y.1 < G := fun y hy => by
          obtain ⟨j, hj, rfl⟩ := List.mem_map.mp hy
          have := List.mem_range.mp hj
          obtain ⟨g, g1, g2, g3⟩ := fd.g (j + 1) (by omega) (by omega)
          rw [g3, n_cl (by omega)]
          exact ⟨rfl, g2, g1⟩
        obtain ⟨k1, k2, k3⟩ := fd.tl
        obtain ⟨k4, k5, k6⟩ := fd.co
        refine ⟨hmem, List.mem_append_right _ (List.mem_singleton.mpr rfl), ?_, fun y hy => ?_, ⟨c + k1, by show t.to + _ = _; rw [c1, k2, nI_add], ?_⟩, ⟨c' + k4, by show t.co + _ = _; rw [c1', k5, nI_add], ?_⟩, ?_, ⟨x, rs ++ [r], ps ++ wyP (tpB S G D t.la r).2.2.2.2.2 w, ?_, ?_, ?_⟩, rfl⟩
        · show gN S r = fnG S 0 (t.rs ++ [r])
          rw [fnG_snoc]
        · rcases List.mem_append.mp (show y ∈ t.ps ++ wyP (tpB S G D t.la r).2.2.2.2.2 w from hy) with q | q
          · exact h.ps y q
          · rw [hsp] at q
            rcases List.mem_append.mp q with q | q
            · exact (hpre y q).2.2
            · rw [List.mem_singleton.mp q, er]; exact r1
        · show c + k1 ≤ 5994 * (t.rs ++ [r]).length
          rw [List.length_append, List.length_singleton]; omega
        · show c' + k4 ≤ 1000000 * (t.rs ++ [r]).length
          rw [List.length_append, List.length_singleton]; omega
        · show 1 ≤ (t.ps ++ wyP (tpB S G D t.la r).2.2.2.2.2 w).length ∧ (t.ps ++ wyP (tpB S G D t.la r).2.2.2.2.2 w).length + 5 ≤ 6 * (t.rs ++ [r]).length
          rw [List.length_append, List.length_append, hlen, List.length_singleton]; omega
        · show t.rs ++ [r] = _
          rw [m1]; rfl
        · show t.ps ++ _ = _
          rw [m2]; rfl
        · rw [hsp]
          exact Mk_more (fun y hy => ⟨(hpre y hy).1, (hpre y hy).2.1⟩) m3 (by rw [← hgl]; exact hne)
theorem lay_ok {S : Nat → Int32} {G D R : Nat} {l : List Nat} (ok : LyOK S G D R) (hl : ∀ x, x ∈ l → x < R) (hs : SrtT S l) : ∀ n, n < (lay S G D l).1 → TpI S G l ((lay S G D l).2 n) := by
  have G12 := ok.net.G12
  have hg : ∀ r, r ∈ l → gN S r < G := fun r hr => by
    obtain ⟨g, g1, g2⟩ := ok.g r (hl r hr)
    unfold gN
    rw [g2, n_cl (by omega)]
    exact g1
  have key : ∀ (l2 l1 : List Nat) (a : Nat × (Nat → Tp)), l = l1 ++ l2 → (∀ n, n < a.1 → TpI S G l (a.2 n)) → (0 < a.1 → (a.2 (a.1 - 1)).la ∈ l1) → ∀ n, n < (l2.foldl (lyS S G D) a).1 → TpI S G l ((l2.foldl (lyS S G D) a).2 n) := by
    intro l2
    induction l2 with
    | nil => intro l1 a _ h1 _; exact h1
    | cons r l2 ih =>
      intro l1 a e h1 h2
      have hr : r ∈ l := by rw [e]; exact List.mem_append_right _ List.mem_cons_self
      refine ih (l1 ++ [r]) (lyS S G D a r) (by rw [e, List.append_assoc]; rfl) ?_ ?_
      · unfold lyS
        by_cases q : a.1 = 0
        · rw [if_pos q]
          intro n hn
          have : n = 0 := by have : n < 1 := hn; omega
          rw [this]
          show TpI S G l (upT a.2 0 (tpN S r) 0)
          rw [upT_is rfl]
          exact TpI.new hr (hg r hr)
        · rw [if_neg q]
          cases hk : tpK S G D (a.2 (a.1 - 1)) r with
          | none =>
            intro n hn
            dsimp only at hn ⊢
            by_cases q2 : n = a.1
            · rw [upT_is q2]; exact TpI.new hr (hg r hr)
            · rw [upT_ne q2]; exact h1 n (by have : n < a.1 + 1 := hn; omega)
          | some t =>
            intro n hn
            dsimp only at hn ⊢
            by_cases q2 : n = a.1 - 1
            · rw [upT_is q2]
              refine TpI.more ok hl (h1 (a.1 - 1) (by omega)) hr hk ?_
              have hm := h2 (by omega)
              rw [e] at hs
              exact (List.pairwise_append.mp hs).2.2 _ hm r List.mem_cons_self
            · rw [upT_ne q2]; exact h1 n hn
      · intro _
        unfold lyS
        by_cases q : a.1 = 0
        · rw [if_pos q]
          show (upT a.2 0 (tpN S r) (1 - 1)).la ∈ l1 ++ [r]
          rw [upT_is rfl]
          exact List.mem_append_right _ (List.mem_singleton.mpr rfl)
        · rw [if_neg q]
          cases hk : tpK S G D (a.2 (a.1 - 1)) r with
          | none =>
            show (upT a.2 a.1 (tpN S r) (a.1 + 1 - 1)).la ∈ l1 ++ [r]
            rw [upT_is (by omega)]
            exact List.mem_append_right _ (List.mem_singleton.mpr rfl)
          | some t =>
            show (upT a.2 (a.1 - 1) t (a.1 - 1)).la ∈ l1 ++ [r]
            rw [upT_is rfl]
            unfold tpK at hk
            by_cases c1 : S (280 + 7 * (a.2 (a.1 - 1)).la + 1) = S (280 + 7 * r + 1)
            · rw [if_pos c1] at hk
              by_cases c2 : elp S (a.2 (a.1 - 1)).la r ≤ S 1
              · rw [if_pos c2] at hk
                cases hk
                exact List.mem_append_left _ (h2 (by omega))
              · rw [if_neg c2] at hk; cases hk
            · rw [if_neg c1] at hk
              by_cases c2 : S 0 < elp S (a.2 (a.1 - 1)).la r
              · rw [if_pos c2] at hk; cases hk
              · rw [if_neg c2] at hk
                by_cases c3 : (tpB S G D (a.2 (a.1 - 1)).la r).1 = far
                · rw [if_pos c3] at hk; cases hk
                · rw [if_neg c3] at hk
                  cases hk
                  exact List.mem_append_right _ (List.mem_singleton.mpr rfl)
  exact key l [] (0, fun _ => tp0) rfl (fun n hn => absurd hn (Nat.not_lt_zero _)) (fun h => absurd h (Nat.lt_irrefl _))
