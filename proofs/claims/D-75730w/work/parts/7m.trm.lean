/-! the model's rows hold the trips: what a read more does to them -/
abbrev TrM (M : Ms) (l : List Nat) (i N : Nat) (T : Nat → Tp) : Prop := (mF M 185 = nI N) ∧ (mF M 186 = nI (pS T N)) ∧ (rS T N = i) ∧ (∀ n, n < N → mA M 16 n = nI (pS T n) ∧ mA M 17 n = (T n).co ∧ mA M 18 n = (T n).to) ∧ (∀ n k x, n < N → (T n).ps[k]? = some x → mA M 19 (pS T n + k) = nI x.1 ∧ mA M 20 (pS T n + k) = bI x.2) ∧ (∀ n k, n < N → k < (T n).rs.length → mA M 15 (rS T n + k) = nI n) ∧ (∀ n k x, n < N → (T n).rs[k]? = some x → l[rS T n + k]? = some x) ∧ (∀ n, n < N → 1 ≤ (T n).rs.length ∧ 1 ≤ (T n).ps.length ∧ (T n).ps.length + 5 ≤ 6 * (T n).rs.length) ∧ (0 < N → ∃ j, j < i ∧ l[j]? = some (T (N - 1)).la)
theorem TrM.n {M : Ms} {l : List Nat} {i N : Nat} {T : Nat → Tp} (h : TrM M l i N T) : mF M 185 = nI N := h.1
theorem TrM.p {M : Ms} {l : List Nat} {i N : Nat} {T : Nat → Tp} (h : TrM M l i N T) : mF M 186 = nI (pS T N) := h.2.1
theorem TrM.i {M : Ms} {l : List Nat} {i N : Nat} {T : Nat → Tp} (h : TrM M l i N T) : rS T N = i := h.2.2.1
theorem TrM.tr {M : Ms} {l : List Nat} {i N : Nat} {T : Nat → Tp} (h : TrM M l i N T) : ∀ n, n < N → mA M 16 n = nI (pS T n) ∧ mA M 17 n = (T n).co ∧ mA M 18 n = (T n).to := h.2.2.2.1
theorem TrM.pl {M : Ms} {l : List Nat} {i N : Nat} {T : Nat → Tp} (h : TrM M l i N T) : ∀ n k x, n < N → (T n).ps[k]? = some x → mA M 19 (pS T n + k) = nI x.1 ∧ mA M 20 (pS T n + k) = bI x.2 := h.2.2.2.2.1
theorem TrM.of {M : Ms} {l : List Nat} {i N : Nat} {T : Nat → Tp} (h : TrM M l i N T) : ∀ n k, n < N → k < (T n).rs.length → mA M 15 (rS T n + k) = nI n := h.2.2.2.2.2.1
theorem TrM.or {M : Ms} {l : List Nat} {i N : Nat} {T : Nat → Tp} (h : TrM M l i N T) : ∀ n k x, n < N → (T n).rs[k]? = some x → l[rS T n + k]? = some x := h.2.2.2.2.2.2.1
theorem TrM.w {M : Ms} {l : List Nat} {i N : Nat} {T : Nat → Tp} (h : TrM M l i N T) : ∀ n, n < N → 1 ≤ (T n).rs.length ∧ 1 ≤ (T n).ps.length ∧ (T n).ps.length + 5 ≤ 6 * (T n).rs.length := h.2.2.2.2.2.2.2.1
theorem TrM.la {M : Ms} {l : List Nat} {i N : Nat} {T : Nat → Tp} (h : TrM M l i N T) : 0 < N → ∃ j, j < i ∧ l[j]? = some (T (N - 1)).la := h.2.2.2.2.2.2.2.2
theorem TrM.le {M : Ms} {l : List Nat} {i N : Nat} {T : Nat → Tp} (h : TrM M l i N T) : N ≤ i ∧ pS T N ≤ 6 * i := by
  have key : ∀ n, n ≤ N → n ≤ rS T n ∧ pS T n ≤ 6 * rS T n := by
    intro n
    induction n with
    | zero => intro _; exact ⟨Nat.le_refl _, Nat.le_refl _⟩
    | succ n ih =>
      intro hn
      obtain ⟨a, b⟩ := ih (by omega)
      obtain ⟨c, d, e⟩ := h.w n (by omega)
      show n + 1 ≤ rS T n + (T n).rs.length ∧ pS T n + (T n).ps.length ≤ 6 * (rS T n + (T n).rs.length)
      omega
  have := key N (Nat.le_refl _)
  rw [h.i] at this
  exact this
theorem TrM.congr {M M' : Ms} {l : List Nat} {i N : Nat} {T : Nat → Tp} (h : TrM M l i N T) (h1 : ∀ k, 14 ≤ k → mA M' k = mA M k) (h2 : ∀ f, 184 ≤ f → mF M' f = mF M f) : TrM M' l i N T := by
  refine ⟨by rw [h2 185 (by omega)]; exact h.n, by rw [h2 186 (by omega)]; exact h.p, h.i, ?_, ?_, ?_, h.or, h.w, h.la⟩
  · rw [h1 16 (by omega), h1 17 (by omega), h1 18 (by omega)]; exact h.tr
  · rw [h1 19 (by omega), h1 20 (by omega)]; exact h.pl
  · rw [h1 15 (by omega)]; exact h.of
theorem lt_of_get {α : Type} {l : List α} {k : Nat} {x : α} (h : l[k]? = some x) : k < l.length := by
  rcases Nat.lt_or_ge k l.length with q | q
  · exact q
  · rw [List.getElem?_eq_none q] at h; cases h
/-- the rows of a trip more -/
def begM (M : Ms) (N P : Nat) (g : Int32) : Ms := uF (uF (uA (uA (uA (uA (uA M 16 (upd (mA M 16) N (nI P))) 17 (upd (mA M 17) N (nI 0))) 18 (upd (mA M 18) N (nI 0))) 19 (upd (mA M 19) P g)) 20 (upd (mA M 20) P (nI 0))) 185 (nI (N + 1))) 186 (nI (P + 1))
theorem TrM.begin {M : Ms} {l : List Nat} {i N : Nat} {T : Nat → Tp} {S : Nat → Int32} {r g : Nat} (h : TrM M l i N T) (hr : l[i]? = some r) (hg : S (280 + 7 * r + 1) = nI g) (hg2 : g < 12) :
    TrM (uA (begM M N (pS T N) (nI g)) 15 (upd (mA M 15) i (nI N))) l (i + 1) (N + 1) (upT T N (tpN S r)) := by
  have cp : ∀ n, n ≤ N → pS (upT T N (tpN S r)) n = pS T n := fun n hn => pS_congr n (fun k hk => upT_ne (by omega))
  have cr : ∀ n, n ≤ N → rS (upT T N (tpN S r)) n = rS T n := fun n hn => rS_congr n (fun k hk => upT_ne (by omega))
  have hN : upT T N (tpN S r) N = tpN S r := upT_is rfl
  have gk : gN S r = g := by unfold gN; rw [hg, n_cl (by omega)]
  refine ⟨?_, ?_, ?_, fun n hn => ?_, fun n k x hn hx => ?_, fun n k hn hk => ?_, fun n k x hn hx => ?_, fun n hn => ?_, fun _ => ⟨i, by omega, ?_⟩⟩
  · unfold begM; simp only [mF_uA, mF_uF, Nat.reduceEqDiff, if_true, if_false]
  · unfold begM
    simp only [mF_uA, mF_uF, if_true]
    show nI (pS T N + 1) = nI (pS (upT T N (tpN S r)) N + (upT T N (tpN S r) N).ps.length)
    rw [cp N (Nat.le_refl _), hN]
    rfl
  · show rS (upT T N (tpN S r)) N + (upT T N (tpN S r) N).rs.length = i + 1
    rw [cr N (Nat.le_refl _), hN, h.i]
    rfl
  · unfold begM
    simp only [mA_uA, mA_uF, Nat.reduceEqDiff, if_true, if_false]
    by_cases q : n = N
    · subst q
      rw [cp n (Nat.le_refl _), hN, upd_is rfl, upd_is rfl, upd_is rfl]
      exact ⟨rfl, rfl, rfl⟩
    · rw [cp n (by omega), upT_ne q, upd_ne q, upd_ne q, upd_ne q]
      exact h.tr n (by omega)
  · unfold begM
    simp only [mA_uA, mA_uF, Nat.reduceEqDiff, if_true, if_false]
    by_cases q : n = N
    · subst q
      rw [hN] at hx
      have hk : k = 0 := by have := lt_of_get hx; simpa [tpN, Tp.rs, Tp.ps] using this
      subst hk
      have : x = (g, false) := by have := hx; simp only [tpN, gk, Tp.ps] at this; simpa using this.symm
      subst this
      rw [cp n (Nat.le_refl _), Nat.add_zero, upd_is rfl, upd_is rfl]
      exact ⟨rfl, bI_f.symm⟩
    · rw [upT_ne q] at hx
      have l1 := lt_of_get hx
      have l2 := pS_lt (T := T) (n := N) (k := n) (by omega)
      rw [cp n (by omega), upd_ne (by omega), upd_ne (by omega)]
      exact h.pl n k x (by omega) hx
  · rw [mA_uA, if_pos rfl]
    by_cases q : n = N
    · subst q
      rw [hN] at hk
      have hk : k = 0 := by simpa [tpN, Tp.rs, Tp.ps] using hk
      subst hk
      rw [cr n (Nat.le_refl _), h.i, Nat.add_zero, upd_is rfl]
    · rw [upT_ne q] at hk
      have l2 := rS_lt (T := T) (n := N) (k := n) (by omega)
      rw [h.i] at l2
      rw [cr n (by omega), upd_ne (by omega)]
      exact h.of n k (by omega) hk
  · by_cases q : n = N
    · subst q
      rw [hN] at hx
      have hk : k = 0 := by have := lt_of_get hx; simpa [tpN, Tp.rs, Tp.ps] using this
      subst hk
      have : x = r := by simpa [tpN, Tp.rs, Tp.ps] using hx.symm
      rw [cr n (Nat.le_refl _), h.i, Nat.add_zero, this]
      exact hr
    · rw [upT_ne q] at hx
      rw [cr n (by omega)]
      exact h.or n k x (by omega) hx
  · by_cases q : n = N
    · subst q
      rw [hN]
      exact ⟨Nat.le_refl 1, Nat.le_refl 1, Nat.le_refl 6⟩
    · rw [upT_ne q]
      exact h.w n (by omega)
  · rw [Nat.add_sub_cancel, hN]
    exact hr
theorem TrM.more {M M' : Ms} {l : List Nat} {i N : Nat} {T : Nat → Tp} {r : Nat} {t' : Tp} {wl : List (Nat × Bool)} (h : TrM M l i (N + 1) T) (hr : l[i]? = some r) (hrs : t'.rs = (T N).rs ++ [r]) (hps : t'.ps = (T N).ps ++ wl) (hw : wl.length ≤ 6)
    (e185 : mF M' 185 = mF M 185) (e186 : mF M' 186 = nI (pS T (N + 1) + wl.length)) (e16 : mA M' 16 = mA M 16)
    (e17 : ∀ n, n < N → mA M' 17 n = mA M 17 n) (e17' : mA M' 17 N = t'.co) (e18 : ∀ n, n < N → mA M' 18 n = mA M 18 n) (e18' : mA M' 18 N = t'.to)
    (e19 : ∀ q, q < pS T (N + 1) → mA M' 19 q = mA M 19 q ∧ mA M' 20 q = mA M 20 q) (e19' : ∀ k x, wl[k]? = some x → mA M' 19 (pS T (N + 1) + k) = nI x.1 ∧ mA M' 20 (pS T (N + 1) + k) = bI x.2)
    (e15 : mA M' 15 = upd (mA M 15) i (nI N)) (hla : t'.la = (T N).la ∨ t'.la = r) :
    TrM M' l (i + 1) (N + 1) (upT T N t') := by
  have cp : ∀ n, n ≤ N → pS (upT T N t') n = pS T n := fun n hn => pS_congr n (fun k hk => upT_ne (by omega))
  have cr : ∀ n, n ≤ N → rS (upT T N t') n = rS T n := fun n hn => rS_congr n (fun k hk => upT_ne (by omega))
  have hN : upT T N t' N = t' := upT_is rfl
  have hi : rS T N + (T N).rs.length = i := h.i
  refine ⟨e185.trans h.n, ?_, ?_, fun n hn => ?_, fun n k x hn hx => ?_, fun n k hn hk => ?_, fun n k x hn hx => ?_, fun n hn => ?_, fun _ => ?_⟩
  · rw [e186]
    show nI (pS T N + (T N).ps.length + wl.length) = nI (pS (upT T N t') N + (upT T N t' N).ps.length)
    rw [cp N (Nat.le_refl _), hN, hps, List.length_append, Nat.add_assoc]
  · show rS (upT T N t') N + (upT T N t' N).rs.length = i + 1
    rw [cr N (Nat.le_refl _), hN, hrs, List.length_append, ← hi, Nat.add_assoc]
    rfl
  · by_cases q : n = N
    · subst q
      rw [cp n (Nat.le_refl _), hN, e16]
      exact ⟨(h.tr n (by omega)).1, e17', e18'⟩
    · rw [cp n (by omega), upT_ne q, e16, e17 n (by omega), e18 n (by omega)]
      exact h.tr n (by omega)
  · by_cases q : n = N
    · subst q
      rw [hN, hps] at hx
      rw [cp n (Nat.le_refl _)]
      rcases Nat.lt_or_ge k (T n).ps.length with hk | hk
      · rw [List.getElem?_append_left hk] at hx
        have := pS_lt (T := T) (n := n + 1) (k := n) (by omega)
        obtain ⟨a, b⟩ := e19 (pS T n + k) (by omega)
        rw [a, b]
        exact h.pl n k x (by omega) hx
      · rw [List.getElem?_append_right hk] at hx
        have := e19' _ x hx
        have e : pS T (n + 1) + (k - (T n).ps.length) = pS T n + k := by
          show pS T n + (T n).ps.length + (k - (T n).ps.length) = _
          omega
        rw [e] at this
        exact this
    · rw [upT_ne q] at hx
      have l1 := lt_of_get hx
      have l2 := pS_lt (T := T) (n := N + 1) (k := n) (by omega)
      rw [cp n (by omega)]
      obtain ⟨a, b⟩ := e19 (pS T n + k) (by omega)
      rw [a, b]
      exact h.pl n k x (by omega) hx
  · rw [e15]
    by_cases q : n = N
    · subst q
      rw [hN, hrs, List.length_append] at hk
      rw [cr n (Nat.le_refl _)]
      by_cases q2 : rS T n + k = i
      · rw [upd_is q2]
      · rw [upd_ne q2]
        refine h.of n k (by omega) ?_
        have hk : k < (T n).rs.length + 1 := hk
        omega
    · rw [upT_ne q] at hk
      have l2 := rS_lt (T := T) (n := N + 1) (k := n) (by omega)
      rw [h.i] at l2
      rw [cr n (by omega), upd_ne (by omega)]
      exact h.of n k (by omega) hk
  · by_cases q : n = N
    · subst q
      rw [hN, hrs] at hx
      rw [cr n (Nat.le_refl _)]
      rcases Nat.lt_or_ge k (T n).rs.length with hk | hk
      · rw [List.getElem?_append_left hk] at hx
        exact h.or n k x (by omega) hx
      · rw [List.getElem?_append_right hk] at hx
        have hk0 : k - (T n).rs.length = 0 := by have := lt_of_get hx; simp only [List.length_cons, List.length_nil] at this; omega
        rw [hk0] at hx
        have : x = r := by simpa using hx.symm
        rw [this, show rS T n + k = i by omega]
        exact hr
    · rw [upT_ne q] at hx
      rw [cr n (by omega)]
      exact h.or n k x (by omega) hx
  · by_cases q : n = N
    · subst q
      obtain ⟨a, b, c⟩ := h.w n (by omega)
      rw [hN, hrs, hps, List.length_append, List.length_append]
      show 1 ≤ (T n).rs.length + 1 ∧ 1 ≤ (T n).ps.length + wl.length ∧ (T n).ps.length + wl.length + 5 ≤ 6 * ((T n).rs.length + 1)
      omega
    · rw [upT_ne q]
      exact h.w n (by omega)
  · rw [Nat.add_sub_cancel, hN]
    obtain ⟨j, hj, e⟩ := h.la (by omega)
    rw [Nat.add_sub_cancel] at e
    rcases hla with q | q
    · exact ⟨j, by omega, by rw [q]; exact e⟩
    · exact ⟨i, by omega, by rw [q]; exact hr⟩
theorem TrM.zero {M : Ms} {l : List Nat} (h1 : mF M 185 = nI 0) (h2 : mF M 186 = nI 0) : TrM M l 0 0 (fun _ => tp0) := ⟨h1, h2, rfl, fun n hn => absurd hn (Nat.not_lt_zero _), fun n k x hn => absurd hn (Nat.not_lt_zero _), fun n k hn => absurd hn (Nat.not_lt_zero _), fun n k x hn => absurd hn (Nat.not_lt_zero _), fun n hn => absurd hn (Nat.not_lt_zero _), fun hn => absurd hn (Nat.lt_irrefl _)⟩
