/-! the component's World.trips: the second loop -/
theorem lk25a : lkn [(7, 51), (24, 89), (25, 95)] 25 = some 95 := rfl
theorem lk25b : lkn [(7, 50), (24, 86), (25, 92)] 25 = some 92 := rfl
def trV (N : Nat) (tO : Nat → Nat) : Value := if N = 0 then .null else .ref (tO (N - 1))
theorem tq1 {L N z : Nat} (h : z = L ∨ z = 0 ∨ z = L + 2) (h0 : 0 < L) : ¬ (z = L + 1 ∨ z = L + 3 + 3 * N ∨ z = L + 3 + 3 * N + 1 ∨ z = L + 3 + 3 * N + 2) := by omega
theorem tq2 {L N n k : Nat} (h : n ≠ N) (hk : k < 3) : ¬ (L + 3 + 3 * n + k = L + 1 ∨ L + 3 + 3 * n + k = L + 3 + 3 * N ∨ L + 3 + 3 * n + k = L + 3 + 3 * N + 1 ∨ L + 3 + 3 * n + k = L + 3 + 3 * N + 2) := by omega
theorem tq3 {L N z : Nat} (h : z = L ∨ z = 0 ∨ z = L + 2 ∨ z = L + 1) (h0 : 7 < L) : ¬ (z = 7 ∨ z = L + 3 + 3 * N ∨ z = L + 3 + 3 * N + 1 ∨ z = L + 3 + 3 * N + 2) := by omega
theorem tq4 {L N n k : Nat} (h : n ≠ N) (hk : k < 3) (h0 : 7 < L) : ¬ (L + 3 + 3 * n + k = 7 ∨ L + 3 + 3 * n + k = L + 3 + 3 * N ∨ L + 3 + 3 * n + k = L + 3 + 3 * N + 1 ∨ L + 3 + 3 * n + k = L + 3 + 3 * N + 2) := by omega
theorem tq5 {L n k : Nat} : ¬ L + 3 + 3 * n + k = L + 2 := by omega
theorem tq6 {L N z : Nat} (h : z = L + 1 ∨ z = L + 3 + 3 * N ∨ z = L + 3 + 3 * N + 1 ∨ z = L + 3 + 3 * N + 2) : L ≤ z := by omega
theorem tq7 {L N z : Nat} (h : z = 7 ∨ z = L + 3 + 3 * N ∨ z = L + 3 + 3 * N + 1 ∨ z = L + 3 + 3 * N + 2) : z = 7 ∨ L ≤ z := by omega
theorem tq8 {c c2 u u2 n m Z K N R : Nat} (h1 : c2 ≤ c + 16) (h2 : u2 ≤ u + (130 + 74 * R)) (hN : N ≤ R) (hK : K = Z + (155 + 76 * R)) : c2 + 9 + 25 * n ≤ c + 25 * (n + 1) ∧ u2 + (25 + 2 * N) + Z ≤ u + K := by omega
theorem tq9 {c u n m Z K R : Nat} (hK : K = Z + (155 + 76 * R)) : c + 0 + 16 + 25 * n ≤ c + 25 * (n + 1) ∧ u + 0 + (130 + 74 * R) + Z ≤ u + K := by omega
section
variable {A A' B : Hp} {w w' : Lb} {X : Nat → Prop} {y e ci b n d x k p q s a v bl mk g0 G D R rr m r i L it V tp : Nat} {aO rO vO : Nat → Nat} {l es ord : List Nat} {t : Tp} {S f : Nat → Int32} {vv nv : Value} {w0 : Int32} {ky kA vl : Nat → Nat} {mc : Nat}
theorem TpO.fr3 {c u : Nat} {y : Nat} {l : Nat} {sz : Int32} (h : TpO A w y l 1 aO sz t) (k : Fr A w A' w' X c u) (hl : ∀ k, k < 3 → ¬ X (l + k)) (h0 : ¬ X 0) : TpO A' w' y l 1 aO sz t := h.fr k (hl 0 (by decide)) (hl 1 (by decide)) (hl 2 (by decide)) h0
/-- what the second loop does with the reads to come -/
def TrG (A : Hp) (w : Lb) (S : Nat → Int32) (G D R L p i m tp it d mc : Nat) (rO ky kA vl : Nat → Nat) (es ord : List Nat) (vv : Value) (re : List Nat) : Prop :=
    ∀ (oa ea eb : List Nat) (B : Hp) (wB : Lb) (tO : Nat → Nat) (j6 : Option Value) (c u : Nat), ord = oa ++ re → es = ea ++ eb → eb.map vl = re.map rO → Fr A w B wB (fun z => z = 7 ∨ L ≤ z) c u → TMs B wB m L es ky kA vl mc vv → TIt B it m mc (hdV eb) → wB it = L + 2 → WL B wB tp (L + 1) (lay S G D oa).1 tO → (∀ n, n < (lay S G D oa).1 → TpO B wB (tO n) (L + 3 + 3 * n) 1 rO (S (235 + 3 * i)) ((lay S G D oa).2 n)) →
    ∃ B' wB' tO', exG TB (d + 14) 264 104 [some (.ref p), some (.int (nI i)), some (.ref m), some (.ref tp), some (trV (lay S G D oa).1 tO), some (.ref it), j6] [] B = some (.inl (some (.ref tp)), B') ∧ Fr A w B' wB' (fun z => z = 7 ∨ L ≤ z) (c + 25 * re.length) (u + re.length * (155 + 76 * R)) ∧ WL B' wB' tp (L + 1) (lay S G D ord).1 tO' ∧ (∀ n, n < (lay S G D ord).1 → TpO B' wB' (tO' n) (L + 3 + 3 * n) 1 rO (S (235 + 3 * i)) ((lay S G D ord).2 n))
theorem m_264c (hb : 0 < b) (ok : LyOK S G D R) (o : WO A w b p q s a v r bl mk w0) (nt : WNt A w b q S) (ws : WSt A w b s S) (hr : WRd A w b r R rO S) (hv : WVh A w b v V vO S) (st : St A w g0) (hL : 1000 * b + 1000 < L) (hi : i < V) (ho : ∀ x, x ∈ ord → x < R) (hs : SrtT S ord) (hord : ord.length ≤ R) {re oa ea eb' : List Nat} {x y : Nat} (ih : TrG A w S G D R L p i m tp it d mc rO ky kA vl es ord vv re) (hx : x < R) (hlN : (lay S G D oa).1 ≤ R) (h1' : ord = (oa ++ [x]) ++ re) (h2' : es = (ea ++ [y]) ++ eb') (h3' : eb'.map vl = re.map rO)
    {B2 : Hp} {w2 : Lb} {tO : Nat → Nat} {j4 : Option Value} {c c2 u u2 : Nat} (fr2 : Fr A w B2 w2 (fun z => z = 7 ∨ L ≤ z) c2 u2) (hc2 : c2 ≤ c + 16) (hu2 : u2 ≤ u + (130 + 74 * R)) (tm2 : TMs B2 w2 m L es ky kA vl mc vv) (ti2 : TIt B2 it m mc (hdV eb')) (wi2 : w2 it = L + 2) (wl2 : WL B2 w2 tp (L + 1) (lay S G D oa).1 tO) (tt2 : ∀ n, n < (lay S G D oa).1 → TpO B2 w2 (tO n) (L + 3 + 3 * n) 1 rO (S (235 + 3 * i)) ((lay S G D oa).2 n)) (hl : lay S G D (oa ++ [x]) = ((lay S G D oa).1 + 1, upT (lay S G D oa).2 (lay S G D oa).1 (tpN S x))) :
    ∃ B' wB' tO', exG TB (d + 14) 264 149 [some (.ref p), some (.int (nI i)), some (.ref m), some (.ref tp), j4, some (.ref it), some (.ref (rO x))] [] B2 = some (.inl (some (.ref tp)), B') ∧ Fr A w B' wB' (fun z => z = 7 ∨ L ≤ z) (c + 25 * (re.length + 1)) (u + (re.length + 1) * (155 + 76 * R)) ∧ WL B' wB' tp (L + 1) (lay S G D ord).1 tO' ∧ (∀ n, n < (lay S G D ord).1 → TpO B' wB' (tO' n) (L + 3 + 3 * n) 1 rO (S (235 + 3 * i)) ((lay S G D ord).2 n)) := by
  have R120 := ok.R120
  have L7 : 7 < L := by omega
  have hlN2 : (lay S G D oa).1 < 1000 := Nat.lt_of_le_of_lt hlN (Nat.lt_of_le_of_lt R120 (by decide))
  obtain ⟨B3, w3, e3, f3, wl3, t3⟩ := m_264n (d := d) (j3 := some (.ref m)) (j4 := j4) (j5 := some (.ref it)) hb ok o hr hv st hL hi hx fr2 wl2 hlN2
  have wi2' : ¬ (w2 it = L + 1 ∨ w2 it = L + 3 + 3 * (lay S G D oa).1 ∨ w2 it = L + 3 + 3 * (lay S G D oa).1 + 1 ∨ w2 it = L + 3 + 3 * (lay S G D oa).1 + 2) := by rw [wi2]; exact tq1 (Or.inr (Or.inr rfl)) (Nat.lt_trans (by decide) L7)
  have fr3 := fr2.trans (f3.mono (Y := fun z => z = 7 ∨ L ≤ z) (fun z h => Or.inr (tq6 h)) (Nat.le_refl _) (Nat.le_refl _))
  have lw : (lay S G D (oa ++ [x])).1 = (lay S G D oa).1 + 1 := congrArg Prod.fst hl
  have lw2 : (lay S G D (oa ++ [x])).2 = upT (lay S G D oa).2 (lay S G D oa).1 (tpN S x) := congrArg Prod.snd hl
  have L0 : 0 < L := Nat.lt_trans (by decide) L7
  obtain ⟨B', wB', tO', g1, g2, g3, g4⟩ := ih (oa ++ [x]) (ea ++ [y]) eb' B3 w3 (updN tO (lay S G D oa).1 (nx B2)) (some (.ref (rO x))) _ _ h1' h2' h3' fr3 (tm2.fr f3 (tq1 (Or.inl rfl) L0) (tq1 (Or.inr (Or.inl rfl)) L0)) (ti2.fr f3 wi2') (by rw [f3.lb wi2' (gc_lt ti2.c)]; exact wi2) (by rw [lw]; exact wl3) (fun n hn => by
    rw [lw] at hn
    rw [lw2]
    by_cases z : n = (lay S G D oa).1
    · rw [upT_is z, updN_is z, z]
      exact t3
    · rw [upT_ne z, updN_ne z]
      exact (tt2 n (Nat.lt_of_le_of_ne (Nat.le_of_lt_succ hn) z)).fr3 f3 (fun k hk => tq2 z hk) (tq1 (Or.inr (Or.inl rfl)) L0))
  have hb8 := tq8 (c := c) (c2 := c2) (u := u) (u2 := u2) (n := re.length) (m := 0) (Z := re.length * (155 + 76 * R)) (K := (re.length + 1) * (155 + 76 * R)) hc2 hu2 hlN (Nat.succ_mul _ _)
  refine ⟨B', wB', tO', ?_, g2.mono (fun _ h => h) hb8.1 hb8.2, g3, g4⟩
  rw [e3]
  rw [lw] at g1
  have ev : trV ((lay S G D oa).1 + 1) (updN tO (lay S G D oa).1 (nx B2)) = .ref (nx B2) := by
    unfold trV
    rw [if_neg (Nat.succ_ne_zero _), show (lay S G D oa).1 + 1 - 1 = (lay S G D oa).1 from rfl, updN_is rfl]
  rw [ev] at g1
  exact g1
theorem m_264b (hb : 0 < b) (ok : LyOK S G D R) (o : WO A w b p q s a v r bl mk w0) (nt : WNt A w b q S) (ws : WSt A w b s S) (hr : WRd A w b r R rO S) (hv : WVh A w b v V vO S) (st : St A w g0) (hL : 1000 * b + 1000 < L) (hi : i < V) (ho : ∀ x, x ∈ ord → x < R) (hs : SrtT S ord) (hord : ord.length ≤ R) : ∀ re, TrG A w S G D R L p i m tp it d mc rO ky kA vl es ord vv re
  | [] => fun oa ea eb B wB tO j6 c u h1 h2 h3 fr tm ti wi wl tt => by
    have e1 : eb = [] := by
      cases eb with
      | nil => rfl
      | cons a b => cases h3
    subst e1
    have e2 : ord = oa := by rw [h1, List.append_nil]
    have h92 := m_92 (d := d + 13) ti
    rw [decide_eq_false (fun z => z rfl), bI_f] at h92
    have c25 := ti.c
    rw [e2]
    refine ⟨B, wB, tO, ?_, fr.mono (fun _ h => h) (by omega) (by omega), wl, tt⟩
    have hc : rg (trV (lay S G D oa).1 tO) = rg (trV (lay S G D oa).1 tO) := rfl
    refine x_264_104.trans ?_
    simp (disch := first | omega | (simp (disch := omega) only [nx_setf, nx_seta, nx_newo, nx_newa]; omega)) only [x_264_106, x_264_111, x_264_114, x_264_116, x_264_121n, x_264_121r, x_264_124, x_264_126, x_264_128n, x_264_128r, x_264_131, x_264_133, x_264_135, x_264_136, x_264_139, x_264_140, x_264_143, x_264_146, x_264_149, x_264_152, x_264_153, x_264_155, x_264_156, x_264_159, x_264_160, x_264_163n, x_264_163r, x_264_166, x_264_169, x_264_172, x_264_174, x_264_175, x_264_177, x_264_180, x_264_181, x_264_184, x_264_185, kv_s, ki_s, kj_s, kd_s, kq_s, kq_n, kq_o, ka_s, kc_r, kc_t, kc0_r, kc0_t, kch_r, kc0h_r, kw_s, kw0_s, kwh_s, kw0h_s, rg_ref, rg_null, rg_rf, ck_t, sel_some, lkn_hd, Option.isSome_some, Bool.true_and, Bool.and_true, okv_i, okv_l, okv_r, okv_n, okv_rf, okv_b, okv_0, okv_1, okv_f, okv_d, c1_i, c1_r, c1_n, c1_rf, c1_f, nI_add, n_mul, n_sub, n_pred, n_eq, n_le, n_lt, n_neN, n_Nne, N_lt, N_le, n_ltN, n_leN, rdI_n, rdJ_n, rdD_n, wrI_n, wrI_z0, wrI_z1, wrI_zb, wrJ_n, wrD_n, aln_s, okn_n, upd_is, upd_ne, Nat.add_zero, Nat.add_sub_cancel, decide_true, decide_false, cond_true, cond_false, if_true, if_false, ite_not, not_true_eq_false, not_false_eq_true, Nat.reduceEqDiff, Nat.reduceAdd, Nat.reduceMul, Nat.reduceSub, Nat.reduceLeDiff, c25, lk25b, h92]
  | x :: re => fun oa ea eb B wB tO j6 c u h1 h2 h3 fr tm ti wi wl tt => by
    have R120 := ok.R120
    obtain ⟨y, eb', rfl, hy, h3'⟩ : ∃ y eb', eb = y :: eb' ∧ vl y = rO x ∧ eb'.map vl = re.map rO := by
      cases eb with
      | nil => cases h3
      | cons y eb' =>
        rw [List.map_cons, List.map_cons] at h3
        injection h3 with z1 z2
        exact ⟨y, eb', rfl, z1, z2⟩
    have hx : x < R := ho x (by rw [h1]; simp)
    have hoa : ∀ z, z ∈ oa → z < R := fun z hz => ho z (by rw [h1]; exact List.mem_append_left _ hz)
    have hs' : (oa ++ x :: re).Pairwise (fun x y => ¬ S (280 + 7 * y + 2) < S (280 + 7 * x + 2)) := by rw [← h1]; exact hs
    have hsa : SrtT S oa := (List.pairwise_append.mp hs').1
    have hle : ∀ z, z ∈ oa → ¬ S (280 + 7 * x + 2) < S (280 + 7 * z + 2) := fun z hz => (List.pairwise_append.mp hs').2.2 z hz x List.mem_cons_self
    have hlen : oa.length + (re.length + 1) ≤ R := by
      have := hord
      rw [h1, List.length_append, List.length_cons] at this
      omega
    obtain ⟨lN, lt⟩ := lay_b ok hoa hsa
    have h92 := m_92 (d := d + 13) ti
    rw [decide_eq_true (show y :: eb' ≠ [] from fun z => by cases z), bI_t] at h92
    have wi7 : ¬ wB it = L := by rw [wi]; omega
    obtain ⟨h95, ti1⟩ := m_95 (d := d + 10) tm h2 ti wi7
    rw [hy] at h95
    have c25 := ti.c
    have f1 : Fr B wB (setf (setf B it 122 (hdV eb')) it 123 (.ref y)) wB (fun z => z = L + 2) 0 0 := (Fr.stf (X := fun z => z = L + 2) wi).trans (Fr.stf (X := fun z => z = L + 2) wi)
    generalize setf (setf B it 122 (hdV eb')) it 123 (.ref y) = B1 at h95 ti1 f1
    have fr1 := fr.trans (f1.mono (Y := fun z => z = 7 ∨ L ≤ z) (fun z h => Or.inr (by omega)) (Nat.le_refl _) (Nat.le_refl _))
    have tm1 := tm.fr f1 (by omega) (by omega)
    have wl1 := wl.fr f1 (by omega)
    have tt1 : ∀ n, n < (lay S G D oa).1 → TpO B1 wB (tO n) (L + 3 + 3 * n) 1 rO (S (235 + 3 * i)) ((lay S G D oa).2 n) := fun n hn => (tt n hn).fr3 f1 (fun k hk => tq5) (by omega)
    have hr1 := hr.fr fr1 (by omega) (by omega) (fun j hj => by omega)
    have c17 : cin (gcs B1 (rO x)) [17] = true := by rw [gcs_d (hr1.o x hx).c]; rfl
    have lay1 : lay S G D (oa ++ [x]) = lyS S G D (lay S G D oa) x := lay_snoc
    have h1' : ord = (oa ++ [x]) ++ re := by rw [h1]; simp
    have h2' : es = (ea ++ [y]) ++ eb' := by rw [h2]; simp
    have hmul : (re.length + 1) * (155 + 76 * R) = re.length * (155 + 76 * R) + (155 + 76 * R) := Nat.succ_mul _ _
    have ih : TrG A w S G D R L p i m tp it d mc rO ky kA vl es ord vv re := m_264b hb ok o nt ws hr hv st hL hi ho hs hord re
    have L7 : 7 < L := Nat.lt_of_le_of_lt (Nat.le_trans (by decide) (Nat.le_add_left 1000 (1000 * b))) hL
    have lNR : (lay S G D oa).1 ≤ R := Nat.le_trans lN (Nat.le_trans (Nat.le_add_right _ _) hlen)
    have hcons : (x :: re).length = re.length + 1 := rfl
    rw [hcons]
    by_cases hN : (lay S G D oa).1 = 0
    · have hl : lay S G D (oa ++ [x]) = ((lay S G D oa).1 + 1, upT (lay S G D oa).2 (lay S G D oa).1 (tpN S x)) := by
        rw [lay1]
        unfold lyS
        rw [if_pos hN, hN]
      obtain ⟨B', wB', tO', g1, g2⟩ := m_264c (j4 := some .null) hb ok o nt ws hr hv st hL hi ho hs hord ih hx lNR h1' h2' h3' (c := c) (u := u) fr1 (Nat.le_add_right _ _) (Nat.le_add_right _ _) tm1 ti1 wi wl1 tt1 hl
      refine ⟨B', wB', tO', Eq.trans ?_ g1, g2⟩
      have ev : trV (lay S G D oa).1 tO = .null := by unfold trV; rw [if_pos hN]
      rw [ev]
      refine x_264_104.trans ?_
      simp (disch := first | omega | (simp (disch := omega) only [nx_setf, nx_seta, nx_newo, nx_newa]; omega)) only [x_264_106, x_264_111, x_264_114, x_264_116, x_264_121n, x_264_121r, x_264_124, x_264_126, x_264_128n, x_264_128r, x_264_131, x_264_133, x_264_135, x_264_136, x_264_139, x_264_140, x_264_143, x_264_146, kv_s, ki_s, kj_s, kd_s, kq_s, kq_n, kq_o, ka_s, kc_r, kc_t, kc0_r, kc0_t, kch_r, kc0h_r, kw_s, kw0_s, kwh_s, kw0h_s, rg_ref, rg_null, rg_rf, ck_t, sel_some, lkn_hd, Option.isSome_some, Bool.true_and, Bool.and_true, okv_i, okv_l, okv_r, okv_n, okv_rf, okv_b, okv_0, okv_1, okv_f, okv_d, c1_i, c1_r, c1_n, c1_rf, c1_f, nI_add, n_mul, n_sub, n_pred, n_eq, n_le, n_lt, n_neN, n_Nne, N_lt, N_le, n_ltN, n_leN, rdI_n, rdJ_n, rdD_n, wrI_n, wrI_z0, wrI_z1, wrI_zb, wrJ_n, wrD_n, aln_s, okn_n, upd_is, upd_ne, Nat.add_zero, Nat.add_sub_cancel, decide_true, decide_false, cond_true, cond_false, if_true, if_false, ite_not, not_true_eq_false, not_false_eq_true, Nat.reduceEqDiff, Nat.reduceAdd, Nat.reduceMul, Nat.reduceSub, Nat.reduceLeDiff, c25, lk25a, lk25b, h92, h95, c17, ckT]
    · have ev : trV (lay S G D oa).1 tO = .ref (tO ((lay S G D oa).1 - 1)) := by unfold trV; rw [if_neg hN]
      have hN1 : (lay S G D oa).1 - 1 < (lay S G D oa).1 := by omega
      obtain ⟨tI, tl⟩ := lt _ hN1
      have tp1 := tt1 _ hN1
      have nt1 := nt.fr fr1 (by omega) (by omega) (by omega) (by omega)
      have ws1 := ws.fr fr1 (by omega)
      have st1 := st.fr fr1 (by omega)
      have o1 := o.fr fr1 (by omega)
      have tla := tI.mem _ tI.la
      have tps := tI.len
      have hrs1 : ((lay S G D oa).2 ((lay S G D oa).1 - 1)).rs.length ≤ R := Nat.le_trans tl (Nat.le_trans (Nat.le_add_right _ _) hlen)
      have hcost : 130 + 12 * ((lay S G D oa).2 ((lay S G D oa).1 - 1)).ps.length + 2 * ((lay S G D oa).2 ((lay S G D oa).1 - 1)).rs.length ≤ 130 + 74 * R := by
        clear tt1 wl1 tm1 fr1 hr1 nt1 ws1 st1 o1 tp1 ih tt wl tm fr nt ws hr hv st o lt ok f1 ti1 ti
        omega
      have hl1 : 1000 * b + 1000 < L + 3 + 3 * ((lay S G D oa).1 - 1) := Nat.lt_of_lt_of_le hL (by rw [Nat.add_assoc]; exact Nat.le_add_right _ _)
      have hr1000 : ((lay S G D oa).2 ((lay S G D oa).1 - 1)).rs.length < 1000 := Nat.lt_of_le_of_lt hrs1 (Nat.lt_of_le_of_lt R120 (by decide))
      have hp1000 : ((lay S G D oa).2 ((lay S G D oa).1 - 1)).ps.length < 1000 := by
        clear tt1 wl1 tm1 fr1 hr1 nt1 ws1 st1 o1 tp1 ih tt wl tm fr nt ws hr hv st o lt ok f1 ti1 ti
        omega
      obtain ⟨B2, w2, e2, t2, f2⟩ := m_242 (d := d) hb ok st1 nt1 ws1 tp1 (fun j hj => hr1.o j hj) hl1 (hoa _ tla) hx (hle _ tla) hr1000 hp1000
      have f2' : Fr B1 wB B2 w2 (fun z => z = 7 ∨ L ≤ z) 16 (130 + 74 * R) := f2.mono (fun z h => tq7 h) (Nat.le_refl _) hcost
      have fr2 := fr1.trans f2'
      have tm2 := tm1.fr f2 (tq3 (Or.inl rfl) L7) (tq3 (Or.inr (Or.inl rfl)) L7)
      have wl2 := wl1.fr f2 (tq3 (Or.inr (Or.inr (Or.inr rfl))) L7)
      have f6 := o1.f6
      have f7 := o1.f7
      have c26 := tp1.c
      have wi2n : ¬ (wB it = 7 ∨ wB it = L + 3 + 3 * ((lay S G D oa).1 - 1) ∨ wB it = L + 3 + 3 * ((lay S G D oa).1 - 1) + 1 ∨ wB it = L + 3 + 3 * ((lay S G D oa).1 - 1) + 2) := by rw [wi]; exact tq3 (Or.inr (Or.inr (Or.inl rfl))) L7
      have ti2 := ti1.fr f2 wi2n
      have wi2 : w2 it = L + 2 := by rw [f2.lb wi2n (gc_lt ti1.c)]; exact wi
      have oth : ∀ n, n < (lay S G D oa).1 → n ≠ (lay S G D oa).1 - 1 → TpO B2 w2 (tO n) (L + 3 + 3 * n) 1 rO (S (235 + 3 * i)) ((lay S G D oa).2 n) := fun n hn hne => (tt1 n hn).fr3 f2 (fun k hk => tq4 hne hk L7) (tq3 (Or.inr (Or.inl rfl)) L7)
      cases hk : tpK S G D ((lay S G D oa).2 ((lay S G D oa).1 - 1)) x with
      | some t' =>
        rw [hk] at e2 t2
        rw [Option.isSome_some, bI_t] at e2
        have t2 : TpO B2 w2 (tO ((lay S G D oa).1 - 1)) (L + 3 + 3 * ((lay S G D oa).1 - 1)) 1 rO (S (235 + 3 * i)) t' := t2
        have hl : lay S G D (oa ++ [x]) = ((lay S G D oa).1, upT (lay S G D oa).2 ((lay S G D oa).1 - 1) t') := by
          rw [lay1]
          unfold lyS
          rw [if_neg hN, hk]
        have lw : (lay S G D (oa ++ [x])).1 = (lay S G D oa).1 := by rw [hl]
        have lw2 : (lay S G D (oa ++ [x])).2 = upT (lay S G D oa).2 ((lay S G D oa).1 - 1) t' := by rw [hl]
        obtain ⟨B', wB', tO', g1, g2, g3, g4⟩ := ih (oa ++ [x]) (ea ++ [y]) eb' B2 w2 tO (some (.ref (rO x))) _ _ h1' h2' h3' fr2 tm2 ti2 wi2 (by rw [lw]; exact wl2) (fun n hn => by
          rw [lw] at hn
          rw [lw2]
          by_cases z : n = (lay S G D oa).1 - 1
          · rw [upT_is z, z]
            exact t2
          · rw [upT_ne z]
            exact oth n hn z)
        have hb9 := tq9 (c := c) (u := u) (n := re.length) (m := 0) (Z := re.length * (155 + 76 * R)) (K := (re.length + 1) * (155 + 76 * R)) (R := R) hmul
        refine ⟨B', wB', tO', Eq.trans ?_ g1, g2.mono (fun _ h => h) hb9.1 hb9.2, g3, g4⟩
        rw [lw, ev]
        refine x_264_104.trans ?_
        simp (disch := first | omega | (simp (disch := omega) only [nx_setf, nx_seta, nx_newo, nx_newa]; omega)) only [x_264_106, x_264_111, x_264_114, x_264_116, x_264_121n, x_264_121r, x_264_124, x_264_126, x_264_128n, x_264_128r, x_264_131, x_264_133, x_264_135, x_264_136, x_264_139, x_264_140, x_264_143, x_264_146, x_264_149, x_264_152, x_264_153, x_264_155, x_264_156, x_264_159, x_264_160, x_264_163n, x_264_163r, x_264_166, x_264_169, x_264_172, x_264_174, x_264_175, x_264_177, x_264_180, x_264_181, kv_s, ki_s, kj_s, kd_s, kq_s, kq_n, kq_o, ka_s, kc_r, kc_t, kc0_r, kc0_t, kch_r, kc0h_r, kw_s, kw0_s, kwh_s, kw0h_s, rg_ref, rg_null, rg_rf, ck_t, sel_some, lkn_hd, Option.isSome_some, Bool.true_and, Bool.and_true, okv_i, okv_l, okv_r, okv_n, okv_rf, okv_b, okv_0, okv_1, okv_f, okv_d, c1_i, c1_r, c1_n, c1_rf, c1_f, nI_add, n_mul, n_sub, n_pred, n_eq, n_le, n_lt, n_neN, n_Nne, N_lt, N_le, n_ltN, n_leN, rdI_n, rdJ_n, rdD_n, wrI_n, wrI_z0, wrI_z1, wrI_zb, wrJ_n, wrD_n, aln_s, okn_n, upd_is, upd_ne, Nat.add_zero, Nat.add_sub_cancel, decide_true, decide_false, cond_true, cond_false, if_true, if_false, ite_not, not_true_eq_false, not_false_eq_true, Nat.reduceEqDiff, Nat.reduceAdd, Nat.reduceMul, Nat.reduceSub, Nat.reduceLeDiff, c25, lk25a, lk25b, h92, h95, c17, ckT, f6, f7, c26, e2]
      | none =>
        rw [hk] at e2 t2
        rw [Option.isSome_none, bI_f] at e2
        have t2 : TpO B2 w2 (tO ((lay S G D oa).1 - 1)) (L + 3 + 3 * ((lay S G D oa).1 - 1)) 1 rO (S (235 + 3 * i)) ((lay S G D oa).2 ((lay S G D oa).1 - 1)) := t2
        have hl : lay S G D (oa ++ [x]) = ((lay S G D oa).1 + 1, upT (lay S G D oa).2 (lay S G D oa).1 (tpN S x)) := by
          rw [lay1]
          unfold lyS
          rw [if_neg hN, hk]
        obtain ⟨B', wB', tO', g1, g2⟩ := m_264c (j4 := some (.ref (tO ((lay S G D oa).1 - 1)))) hb ok o nt ws hr hv st hL hi ho hs hord ih hx lNR h1' h2' h3' (c := c) (u := u) fr2 (Nat.le_refl _) (Nat.le_refl _) tm2 ti2 wi2 wl2 (fun n hn => by
          by_cases z : n = (lay S G D oa).1 - 1
          · rw [z]; exact t2
          · exact oth n hn z) hl
        refine ⟨B', wB', tO', Eq.trans ?_ g1, g2⟩
        rw [ev]
        refine x_264_104.trans ?_
        simp (disch := first | omega | (simp (disch := omega) only [nx_setf, nx_seta, nx_newo, nx_newa]; omega)) only [x_264_106, x_264_111, x_264_114, x_264_116, x_264_121n, x_264_121r, x_264_124, x_264_126, x_264_128n, x_264_128r, x_264_131, x_264_133, x_264_135, x_264_136, x_264_139, x_264_140, x_264_143, x_264_146, kv_s, ki_s, kj_s, kd_s, kq_s, kq_n, kq_o, ka_s, kc_r, kc_t, kc0_r, kc0_t, kch_r, kc0h_r, kw_s, kw0_s, kwh_s, kw0h_s, rg_ref, rg_null, rg_rf, ck_t, sel_some, lkn_hd, Option.isSome_some, Bool.true_and, Bool.and_true, okv_i, okv_l, okv_r, okv_n, okv_rf, okv_b, okv_0, okv_1, okv_f, okv_d, c1_i, c1_r, c1_n, c1_rf, c1_f, nI_add, n_mul, n_sub, n_pred, n_eq, n_le, n_lt, n_neN, n_Nne, N_lt, N_le, n_ltN, n_leN, rdI_n, rdJ_n, rdD_n, wrI_n, wrI_z0, wrI_z1, wrI_zb, wrJ_n, wrD_n, aln_s, okn_n, upd_is, upd_ne, Nat.add_zero, Nat.add_sub_cancel, decide_true, decide_false, cond_true, cond_false, if_true, if_false, ite_not, not_true_eq_false, not_false_eq_true, Nat.reduceEqDiff, Nat.reduceAdd, Nat.reduceMul, Nat.reduceSub, Nat.reduceLeDiff, c25, lk25a, lk25b, h92, h95, c17, ckT, f6, f7, c26, e2]
end
