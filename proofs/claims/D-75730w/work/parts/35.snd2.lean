/-! soundness: reading and writing fields, making objects -/
theorem setf_nx (A : Hp) (p f : Nat) (v : Value) : nx (setf A p f v) = nx A := rfl
theorem seta_nx (A : Hp) (p : Nat) (c : ArC) : nx (seta A p c) = nx A := rfl
theorem gf_spec {A : Hp} {p f : Nat} {v : Value} (h : gf A p f = some v) : p < nx A ∧ A.1 f p = some v := by
  unfold gf at h
  split at h
  · next q => exact ⟨q, h⟩
  · cases h
theorem gc_spec {A : Hp} {p ci : Nat} (h : gc A p = some ci) : p < nx A ∧ A.2.1 p = some ci := by
  unfold gc at h
  split at h
  · next q => exact ⟨q, h⟩
  · cases h
theorem ga_spec {A : Hp} {p : Nat} {c : ArC} (h : ga A p = some c) : p < nx A ∧ A.2.2.1 p = some c := by
  unfold ga at h
  split at h
  · next q => exact ⟨q, h⟩
  · cases h
/-- all that is behind a field's value -/
theorem rep_fd {G : Ge} {A : Hp} {H : Heap} {s : State} {args : Array Value} {p f : Nat} {v : Value} (hR : RepH G A H) (hG : GS G s) (hts : ∀ w ∈ lw_all, w.before args s = true) (hv : gf A p f = some v) :
    ∃ (ci : Nat) (r : vw_C) (k : Nat) (cell : Cell) (cf : ClassId) (kf : Class) (fi : Nat) (fd : Field) (kC : Class), A.2.1 p = some ci ∧ CL[ci]? = some r ∧ k < r.2.2 ∧ f = fidG ci k ∧ H[p]? = some cell ∧ cell.cls = (geD G).1 ci ∧ cell.vm = .none ∧
      (∀ j, j < r.2.2 → cell.slots[(geD G).2 ci j]? = some ((A.1 (fidG ci j) p).getD .null)) ∧ s.fieldFound? (fdn f).1 (fdn f).2.1 (fdn f).2.2.1 = some (cf, kf, fi, fd) ∧ fd.slot = (geD G).2 ci k ∧ fd.isStatic = false ∧ cell.slots[fd.slot]? = some v ∧
      geB G ≤ p ∧ p < nx A ∧ A.1 f p = some v ∧ A.2.2.1 p = none ∧ s.vm.findClass r.1 = some ((geD G).1 ci) ∧ s.vm.classes[(geD G).1 ci]? = some kC ∧ kC.kind = .ordinary ∧ u_lay r.1 r.2.1 k ∈ lw_all ∧ r.2.1 k = fdn f := by
  obtain ⟨hp, hf⟩ := gf_spec hv
  obtain ⟨-, -, -, -, hO, hF, -⟩ := hR
  obtain ⟨ci, r, k, h1, h2, h3, h4⟩ := hF p f v hp hf
  obtain ⟨g1, g2, r', g3, cell, g4, g5, g6, g7⟩ := hO p ci hp h1
  have e : r' = r := Option.some.inj (g3.symm.trans h2)
  subst e
  obtain ⟨hS, hfc, kC, hkC, hkind⟩ := hG.1.1 ci _ h2
  obtain ⟨hin, -, -, hfd⟩ := cl_ok ci _ h2
  obtain ⟨cf, kf, fi, fd, hi, hsl⟩ := hS k h3
  have hst := (u_facts hfc hkC (u_lays hts hin h3) hi).1
  have e2 : r'.2.1 k = fdn f := by rw [h4]; exact hfd k h3
  rw [e2] at hi
  refine ⟨ci, r', k, cell, cf, kf, fi, fd, kC, h1, h2, h3, h4, g4, g5, g6, g7, hi, hsl, hst, ?_, g1, hp, hf, g2, hfc, hkC, hkind, hin _ (u_in_lay h3), e2⟩
  rw [hsl, g7 k h3]
  show some ((A.1 (fidG ci k) p).getD .null) = some v
  rw [← h4, hf]
  rfl
/-- a link to a field, by its number -/
def Flk (mi : Mi) (index f : Nat) : Prop := ∃ ref : String, Cond.fieldLink mi.1 index ref (fdn f).2.1 (fdn f).2.2.1 ∈ lw_all ∧ (ref = (fdn f).1 ∨ Cond.sameField ref (fdn f).1 (fdn f).2.1 (fdn f).2.2.1 ∈ lw_all)
def FlkN (mi : Mi) (index f : Nat) : Prop := ∃ ref host : String, Cond.fieldLinkNest mi.1 index ref (fdn f).2.1 (fdn f).2.2.1 host ∈ lw_tbl ∧ (ref = (fdn f).1 ∨ Cond.sameField ref (fdn f).1 (fdn f).2.1 (fdn f).2.2.1 ∈ lw_all)
theorem same_of {s : State} {args : Array Value} {f : Nat} {ref : String} (hts : ∀ w ∈ lw_all, w.before args s = true) (h : ref = (fdn f).1 ∨ Cond.sameField ref (fdn f).1 (fdn f).2.1 (fdn f).2.2.1 ∈ lw_all) {x : ClassId × Class × Nat × Field} (hi : s.fieldFound? (fdn f).1 (fdn f).2.1 (fdn f).2.2.1 = some x) : s.fieldFound? ref (fdn f).2.1 (fdn f).2.2.1 = some x := by
  rcases h with rfl | h
  · exact hi
  · exact u_same (hts _ h) x hi
theorem none_ne {cell : Cell} (h : cell.vm = .none) : cell.vm ≠ .unknown := by rw [h]; exact fun q => by cases q
theorem ok_get {N : Nt} {mi : Mi} {pc index f : Nat} (lk : Flk mi index f) (d : decode mi.2.1 pc = .ok (.getfield index, 3)) : OpOK N mi pc (o_get f) := by
  intro G p l e R s m args below meth c b0 c0 d0 Q hC L st A r hr hP
  obtain ⟨hx, hb, hml, hown, htab, hret, hini, hts, hlk, htr, hd1, hd2, hG, hC⟩ := hC
  unfold o_get at hr
  split at hr
  · next q rest =>
    obtain ⟨v, hv, hr⟩ := Option.bind_eq_some_iff.mp hr
    cases hr
    intro H locs ls cells slots hR hS hl h1 h2
    obtain ⟨ci, r9, k, cell, cf, kf, fi, fd, kC, a1, a2, a3, a4, a5, a6, a7, a8, a9, a10, a11, a12, -⟩ := rep_fd hR hG hts hv
    obtain ⟨ref, hlink, hsame⟩ := lk
    exact W.getf hx hb hown (hts _ hlink) (same_of hts hsame a9) a11 a5 (none_ne a7) a12 rfl rfl d (hP.2 H locs ls cells slots hR hS hl h1 h2)
  · cases hr
theorem ok_getN {N : Nt} {mi : Mi} {pc index f : Nat} (lk : FlkN mi index f) (d : decode mi.2.1 pc = .ok (.getfield index, 3)) : OpOK N mi pc (o_get f) := by
  intro G p l e R s m args below meth c b0 c0 d0 Q hC L st A r hr hP
  obtain ⟨hx, hb, hml, hown, htab, hret, hini, hts, hlk, htr, hd1, hd2, hG, hC⟩ := hC
  unfold o_get at hr
  split at hr
  · next q rest =>
    obtain ⟨v, hv, hr⟩ := Option.bind_eq_some_iff.mp hr
    cases hr
    intro H locs ls cells slots hR hS hl h1 h2
    obtain ⟨ci, r9, k, cell, cf, kf, fi, fd, kC, a1, a2, a3, a4, a5, a6, a7, a8, a9, a10, a11, a12, -⟩ := rep_fd hR hG hts hv
    obtain ⟨ref, host, hlink, hsame⟩ := lk
    exact va_Wgetf hx hb hown (va_Nw.use rfl (hG.2.1 _ _ _ _ _ _ hlink)) (same_of hts hsame a9) a11 a5 (none_ne a7) a12 rfl rfl d (hP.2 H locs ls cells slots hR hS hl h1 h2)
  · cases hr
/-- the kinds of values and the types -/
def kty (k : Nat) (ty : FieldType) : Bool := match k, ty with
  | 0, .object _ => true
  | 0, .array _ => true
  | 1, .int => true
  | 2, .long => true
  | 3, .float => true
  | 4, .double => true
  | 5, .boolean => true
  | 6, .byte => true
  | 7, .char => true
  | _, _ => false
theorem fit_byte (x : Int32) : fits .byte (.int x.toInt8.toInt32) = true := pk_fb x
theorem okv_spec {k : Nat} {ty : FieldType} {v : Value} (h : kty k ty = true) (hv : okv k v = true) : narrow ty v = v ∧ fits ty v = true := by
  unfold kty at h
  split at h
  · rcases isR_cases (show isR v = true from hv) with rfl | ⟨p, rfl⟩ <;> exact ⟨rfl, rfl⟩
  · rcases isR_cases (show isR v = true from hv) with rfl | ⟨p, rfl⟩ <;> exact ⟨rfl, rfl⟩
  · cases v <;> first | exact ⟨rfl, rfl⟩ | cases hv
  · cases v <;> first | exact ⟨rfl, rfl⟩ | cases hv
  · cases v <;> first | exact ⟨rfl, rfl⟩ | cases hv
  · cases v <;> first | exact ⟨rfl, rfl⟩ | cases hv
  · cases v with
    | int x =>
      rcases Bool.or_eq_true_iff.mp (show (x == 0 || x == 1) = true from hv) with h | h
      · rw [eq_of_beq h]; exact ⟨rfl, rfl⟩
      · rw [eq_of_beq h]; exact ⟨rfl, rfl⟩
    | _ => cases hv
  · cases v with
    | int x =>
      have e := eq_of_beq (show (x.toInt8.toInt32 == x) = true from hv)
      refine ⟨?_, ?_⟩
      · show Value.int x.toInt8.toInt32 = .int x
        rw [e]
      · rw [← e]; exact fit_byte x
    | _ => cases hv
  · cases v with
    | int x =>
      have e := eq_of_beq (show ((x.toUInt32 % 65536).toInt32 == x) = true from hv)
      rw [← e]
      exact ⟨pk_nc x, pk_fc x⟩
    | _ => cases hv
  · cases h
theorem fid_inj {ci : Nat} {r : vw_C} (h : CL[ci]? = some r) {a b : Nat} (ha : a < r.2.2) (hb : b < r.2.2) (he : fidG ci a = fidG ci b) : a = b := by
  obtain ⟨-, -, hn, hf⟩ := cl_ok ci r h
  by_cases hab : a = b
  · exact hab
  · exact absurd (by rw [hf a ha, hf b hb, he]) (hn a ha b hb hab)
theorem rep_apart {G : Ge} {s : State} {args : Array Value} (hG : GS G s) (hts : ∀ w ∈ lw_all, w.before args s = true) {m : MethodId} {own : String} {ci : Nat} {r : vw_C} (h : CL[ci]? = some r) : ∀ x y, x < r.2.2 → y < r.2.2 → x ≠ y → (geD G).2 ci x ≠ (geD G).2 ci y := by
  obtain ⟨hin, ⟨ty, hty⟩, hn, hf⟩ := cl_ok ci r h
  exact va_apart (args := args) (own := own) hts hin ty hty hn hG.1 h
/-- a field is written -/
theorem rep_setf {G : Ge} {A : Hp} {H H' : Heap} {q ci k : Nat} {r : vw_C} {cell : Cell} {v w : Value} (hR : RepH G A H) (h1 : A.2.1 q = some ci) (h2 : CL[ci]? = some r) (h3 : k < r.2.2) (hcell : H[q]? = some cell) (hc : cell.cls = (geD G).1 ci) (hv : cell.vm = .none)
    (hs : ∀ j, j < r.2.2 → cell.slots[(geD G).2 ci j]? = some ((A.1 (fidG ci j) q).getD .null)) (hap : ∀ x y, x < r.2.2 → y < r.2.2 → x ≠ y → (geD G).2 ci x ≠ (geD G).2 ci y) (hq : q < nx A) (hB : geB G ≤ q) (hna : A.2.2.1 q = none) (hw : A.1 (fidG ci k) q = some w)
    (e1 : H'[q]? = some (cell.setSlot ((geD G).2 ci k) v)) (e2 : H'.size = H.size) (e3 : ∀ x : Nat, x ≠ q → H'[x]? = H[x]?) : RepH G (setf A q (fidG ci k) v) H' := by
  obtain ⟨r1, r2, r3, r4, hO, hF, hA⟩ := hR
  refine ⟨r1, e2.trans r2, r3, fun x hx => (e3 x (by omega)).trans (r4 x hx), ?_, ?_, ?_⟩
  · intro p9 ci9 hp hc9
    have hc9' : A.2.1 p9 = some ci9 := hc9
    obtain ⟨a1, a2, r', a3, a4⟩ := hO p9 ci9 hp hc9'
    refine ⟨a1, a2, r', a3, ?_⟩
    by_cases hpq : p9 = q
    · subst hpq
      have e : ci9 = ci := Option.some.inj (hc9'.symm.trans h1)
      subst e
      have e : r' = r := Option.some.inj (a3.symm.trans h2)
      subst e
      refine t_OB.to (V := updV (fun j => (A.1 (fidG ci9 j) p9).getD .null) k v) ⟨_, e1, hc, hv, t_set hs hap h3 v⟩ (fun j hj => ?_)
      show (if j = k then v else (A.1 (fidG ci9 j) p9).getD .null) = (if p9 = p9 ∧ fidG ci9 j = fidG ci9 k then some v else A.1 (fidG ci9 j) p9).getD .null
      by_cases hjk : j = k
      · rw [if_pos hjk, if_pos ⟨rfl, by rw [hjk]⟩]; rfl
      · rw [if_neg hjk, if_neg (fun q => hjk (fid_inj h2 hj h3 q.2))]
    · refine t_OB.to (V := fun j => (A.1 (fidG ci9 j) p9).getD .null) (a4.kept (e3 p9 hpq)) (fun j hj => ?_)
      show _ = (if p9 = q ∧ fidG ci9 j = fidG ci k then some v else A.1 (fidG ci9 j) p9).getD .null
      rw [if_neg (fun z => hpq z.1)]
  · intro p9 f9 v9 hp hv9
    have hv9' : (if p9 = q ∧ f9 = fidG ci k then some v else A.1 f9 p9) = some v9 := hv9
    by_cases hz : p9 = q ∧ f9 = fidG ci k
    · exact ⟨ci, r, k, by rw [hz.1]; exact h1, h2, h3, hz.2⟩
    · rw [if_neg hz] at hv9'
      exact hF p9 f9 v9 hp hv9'
  · intro p9 c9 hp hc9
    have hc9' : A.2.2.1 p9 = some c9 := hc9
    obtain ⟨a1, a2, a3, a4⟩ := hA p9 c9 hp hc9'
    have hpq : p9 ≠ q := fun z => by rw [z, hna] at hc9'; cases hc9'
    exact ⟨a1, a2, (e3 p9 hpq).trans a3, a4⟩
theorem va_S_put {G : Ge} {H0 H H1 : Heap} {locs : List Loc} {a k : Nat} (h : va_S (geA G) H0 H locs) (z : H1.size = H.size) (oq : ∀ q : Nat, q ≠ a → H1[q]? = H[q]?) (ha : geB G ≤ a) : va_S (geA G) H0 H1 (locs ++ [⟨a, k⟩]) := va_S.put h z oq ha
theorem ok_put {N : Nt} {mi : Mi} {pc index f k0 : Nat} {ty : FieldType} (lk : Flk mi index f) (hfin : (fdn f).2.2.2 = false) (hd : parseFieldDescriptor (fdn f).2.2.1 = some ty) (hk : kty k0 ty = true) (d : decode mi.2.1 pc = .ok (.putfield index, 3)) : OpOK N mi pc (o_put f k0) := by
  intro G p l e R s m args below meth c b0 c0 d0 Q hC L st A r hr hP
  obtain ⟨hx, hb, hml, hown, htab, hret, hini, hts, hlk, htr, hd1, hd2, hG, hC⟩ := hC
  unfold o_put at hr
  split at hr
  · next v q rest =>
    obtain ⟨hg, hr⟩ := gd_some hr
    cases hr
    obtain ⟨hg1, hg2⟩ := Bool.and_eq_true_iff.mp hg
    obtain ⟨w, hw⟩ := Option.isSome_iff_exists.mp hg1
    intro H locs ls cells slots hR hS hl h1 h2
    obtain ⟨ci, r9, k, cell, cf, kf, fi, fd, kC, a1, a2, a3, a4, a5, a6, a7, a8, a9, a10, a11, a12, a13, a14, a15, a16, a17, a18, a19, a20, a21⟩ := rep_fd hR hG hts hw
    obtain ⟨ref, hlink, hsame⟩ := lk
    obtain ⟨hn, hfit⟩ := okv_spec hk hg2
    have hlay := hts _ a20
    unfold u_lay at hlay
    rw [a21, if_neg (by rw [hfin]; decide)] at hlay
    have h6 := u_store a17 a18 a19 hlay a9 hd hn hfit
    refine W.putK hx hb (f := fd) ⟨hown, hts _ hlink, ⟨_, _, _, same_of hts hsame a9⟩, a11⟩ (by rw [a6]; exact h6) a5 a7 (k2_hasslot a12) rfl rfl d fun H' e1 e2 e3 => ?_
    rw [a10] at e1
    have hR' := rep_setf (v := v) hR a1 a2 a3 a5 a6 a7 a8 (rep_apart (m := m) (own := mi.1) hG hts a2) a14 a13 a16 (by rw [← a4]; exact a15) e1 e2 e3
    rw [← a4] at hR'
    exact hP.2 H' _ ls cells slots hR' (va_S_put hS e2 e3 a13) hl h1 h2
  · cases hr
theorem ok_putN {N : Nt} {mi : Mi} {pc index f k0 : Nat} {ty : FieldType} (lk : FlkN mi index f) (hfin : (fdn f).2.2.2 = false) (hd : parseFieldDescriptor (fdn f).2.2.1 = some ty) (hk : kty k0 ty = true) (d : decode mi.2.1 pc = .ok (.putfield index, 3)) : OpOK N mi pc (o_put f k0) := by
  intro G p l e R s m args below meth c b0 c0 d0 Q hC L st A r hr hP
  obtain ⟨hx, hb, hml, hown, htab, hret, hini, hts, hlk, htr, hd1, hd2, hG, hC⟩ := hC
  unfold o_put at hr
  split at hr
  · next v q rest =>
    obtain ⟨hg, hr⟩ := gd_some hr
    cases hr
    obtain ⟨hg1, hg2⟩ := Bool.and_eq_true_iff.mp hg
    obtain ⟨w, hw⟩ := Option.isSome_iff_exists.mp hg1
    intro H locs ls cells slots hR hS hl h1 h2
    obtain ⟨ci, r9, k, cell, cf, kf, fi, fd, kC, a1, a2, a3, a4, a5, a6, a7, a8, a9, a10, a11, a12, a13, a14, a15, a16, a17, a18, a19, a20, a21⟩ := rep_fd hR hG hts hw
    obtain ⟨ref, host, hlink, hsame⟩ := lk
    obtain ⟨hn, hfit⟩ := okv_spec hk hg2
    have hlay := hts _ a20
    unfold u_lay at hlay
    rw [a21, if_neg (by rw [hfin]; decide)] at hlay
    have h6 := u_store a17 a18 a19 hlay a9 hd hn hfit
    refine va_WputK hx hb (f := fd) hown (va_Nw.use rfl (hG.2.1 _ _ _ _ _ _ hlink)) (same_of hts hsame a9) a11 (by rw [a6]; exact h6) a5 a7 (k2_hasslot a12) rfl rfl d fun H' e1 e2 e3 => ?_
    rw [a10] at e1
    have hR' := rep_setf (v := v) hR a1 a2 a3 a5 a6 a7 a8 (rep_apart (m := m) (own := mi.1) hG hts a2) a14 a13 a16 (by rw [← a4]; exact a15) e1 e2 e3
    rw [← a4] at hR'
    exact hP.2 H' _ ls cells slots hR' (va_S_put hS e2 e3 a13) hl h1 h2
  · cases hr
/-- a final field, in the constructor of its class -/
theorem ok_putF {N : Nt} {mi : Mi} {pc index f k0 : Nat} {ty : FieldType} (hl0 : Cond.fieldLink mi.1 index (fdn f).1 (fdn f).2.1 (fdn f).2.2.1 ∈ lw_all) (hfin : (fdn f).2.2.2 = true) (hdecl : (fdn f).1 = mi.1) (hini0 : mi.2.2.2.2.2 = true) (hd : parseFieldDescriptor (fdn f).2.2.1 = some ty) (hk : kty k0 ty = true) (d : decode mi.2.1 pc = .ok (.putfield index, 3)) : OpOK N mi pc (o_put f k0) := by
  intro G p l e R s m args below meth c b0 c0 d0 Q hC L st A r hr hP
  obtain ⟨hx, hb, hml, hown, htab, hret, hini, hts, hlk, htr, hd1, hd2, hG, hC⟩ := hC
  unfold o_put at hr
  split at hr
  · next v q rest =>
    obtain ⟨hg, hr⟩ := gd_some hr
    cases hr
    obtain ⟨hg1, hg2⟩ := Bool.and_eq_true_iff.mp hg
    obtain ⟨w, hw⟩ := Option.isSome_iff_exists.mp hg1
    intro H locs ls cells slots hR hS hl h1 h2
    obtain ⟨ci, r9, k, cell, cf, kf, fi, fd, kC, a1, a2, a3, a4, a5, a6, a7, a8, a9, a10, a11, a12, a13, a14, a15, a16, a17, a18, a19, a20, a21⟩ := rep_fd hR hG hts hw
    obtain ⟨hn, hfit⟩ := okv_spec hk hg2
    have hlay := hts _ a20
    unfold u_lay at hlay
    rw [a21, if_pos hfin] at hlay
    have hcf : m.cls = cf := by
      obtain ⟨_, _, c', _, _, _, -, -, hf', -, -, -, hown2, -⟩ := Cond.laysFinal_spec hlay
      have e1 : c' = cf := by have := a9.symm.trans hf'; simp at this; exact this.1.symm
      rw [hdecl] at hown2
      rw [← e1]; exact Option.some.inj (hown.symm.trans hown2)
    have h6 := u_fits a17 a18 a19 (Or.inr hlay) a9 hd hn hfit
    refine W.putFinK hx hb hown (hts _ hl0) a9 a11 hcf (hini hini0) (by rw [a6]; exact h6) a5 a7 (k2_hasslot a12) rfl rfl d fun H' e1 e2 e3 => ?_
    rw [a10] at e1
    have hR' := rep_setf (v := v) hR a1 a2 a3 a5 a6 a7 a8 (rep_apart (m := m) (own := mi.1) hG hts a2) a14 a13 a16 (by rw [← a4]; exact a15) e1 e2 e3
    rw [← a4] at hR'
    exact hP.2 H' _ ls cells slots hR' (va_S_put hS e2 e3 a13) hl h1 h2
  · cases hr
/-- first values of a class's fields -/
def DvOK (ci : Nat) (r : vw_C) (dv : Nat → Option Value) : Prop := (∃ ty : Nat → FieldType, (∀ k, k < r.2.2 → parseFieldDescriptor (r.2.1 k).2.2.1 = some (ty k)) ∧ ∀ k, k < r.2.2 → dv (fidG ci k) = some (defaultValue (ty k))) ∧ ∀ f v, dv f = some v → ∃ k, k < r.2.2 ∧ f = fidG ci k
/-- an object is made -/
theorem rep_newo {G : Ge} {A : Hp} {H H' : Heap} {ci n : Nat} {r : vw_C} {dv : Nat → Option Value} (hR : RepH G A H) (h2 : CL[ci]? = some r) (hdv : ∀ f v, dv f = some v → ∃ k, k < r.2.2 ∧ f = fidG ci k) (hob : t_OB H.size ((geD G).1 ci) r.2.2 ((geD G).2 ci) H' (fun k => (dv (fidG ci k)).getD .null))
    (z : H'.size = H.size + 1) (o : ∀ q : Nat, q < H.size → H'[q]? = H[q]?) : RepH G (newo A ci n dv) H' := by
  obtain ⟨r1, r2, r3, r4, hO, hF, hA⟩ := hR
  have hnx : nx (newo A ci n dv) = nx A + 1 := rfl
  refine ⟨r1, by rw [z, r2]; rfl, by rw [hnx]; omega, fun x hx => (o x (by omega)).trans (r4 x hx), ?_, ?_, ?_⟩
  · intro p9 ci9 hp hc9
    have hc9' : (if p9 = nx A then some ci else A.2.1 p9) = some ci9 := hc9
    by_cases hz : p9 = nx A
    · rw [if_pos hz] at hc9'
      cases hc9'
      refine ⟨by omega, ?_, r, h2, ?_⟩
      · show (if p9 = nx A then none else A.2.2.1 p9) = none
        rw [if_pos hz]
      · rw [hz, ← r2]
        refine hob.to (fun j hj => ?_)
        show _ = (if H.size = nx A then dv (fidG ci j) else A.1 (fidG ci j) H.size).getD .null
        rw [if_pos r2]
    · rw [if_neg hz] at hc9'
      have hp' : p9 < nx A := by rw [hnx] at hp; omega
      obtain ⟨a1, a2, r', a3, a4⟩ := hO p9 ci9 hp' hc9'
      refine ⟨a1, ?_, r', a3, ?_⟩
      · show (if p9 = nx A then none else A.2.2.1 p9) = none
        rw [if_neg hz]; exact a2
      · refine (a4.kept (o p9 (by omega))).to (fun j hj => ?_)
        show _ = (if p9 = nx A then dv (fidG ci9 j) else A.1 (fidG ci9 j) p9).getD .null
        rw [if_neg hz]
  · intro p9 f9 v9 hp hv9
    have hv9' : (if p9 = nx A then dv f9 else A.1 f9 p9) = some v9 := hv9
    by_cases hz : p9 = nx A
    · rw [if_pos hz] at hv9'
      obtain ⟨k, hk, hf⟩ := hdv _ _ hv9'
      refine ⟨ci, r, k, ?_, h2, hk, hf⟩
      show (if p9 = nx A then some ci else A.2.1 p9) = some ci
      rw [if_pos hz]
    · rw [if_neg hz] at hv9'
      have hp' : p9 < nx A := by rw [hnx] at hp; omega
      obtain ⟨ci9, r9, k9, b1, b2⟩ := hF p9 f9 v9 hp' hv9'
      refine ⟨ci9, r9, k9, ?_, b2⟩
      show (if p9 = nx A then some ci else A.2.1 p9) = some ci9
      rw [if_neg hz]; exact b1
  · intro p9 c9 hp hc9
    have hc9' : (if p9 = nx A then none else A.2.2.1 p9) = some c9 := hc9
    by_cases hz : p9 = nx A
    · rw [if_pos hz] at hc9'; cases hc9'
    · rw [if_neg hz] at hc9'
      have hp' : p9 < nx A := by rw [hnx] at hp; omega
      obtain ⟨a1, a2, a3, a4⟩ := hA p9 c9 hp' hc9'
      exact ⟨a1, a2, (o p9 (by omega)).trans a3, a4⟩
theorem va_S_new {G : Ge} {H0 H H1 : Heap} {locs : List Loc} (h : va_S (geA G) H0 H locs) (z : H1.size = H.size + 1) (o : ∀ q : Nat, q < H.size → H1[q]? = H[q]?) : va_S (geA G) H0 H1 locs :=
  ⟨by have := h.1; omega, fun q h1 h2 => (o q (Nat.lt_of_lt_of_le h1 h.1)).trans (h.2.1 q h1 h2), h.2.2⟩
theorem ok_new {N : Nt} {mi : Mi} {pc index ci : Nat} {r : vw_C} {dv : Nat → Option Value} (h2 : CL[ci]? = some r) (hdv : DvOK ci r dv) (w1 : Cond.classLink mi.1 index r.1 ∈ lw_all) (w2 : Cond.instantiable r.1 r.2.2 ∈ lw_all) (w3 : Cond.initialized r.1 ∈ lw_all) (d : decode mi.2.1 pc = .ok (.new index, 3)) : OpOK N mi pc (o_new ci r.2.2 dv) := by
  intro G p l e R s m args below meth c b0 c0 d0 Q hC L st A r9 hr hP
  obtain ⟨hx, hb, hml, hown, htab, hret, hini, hts, hlk, htr, hd1, hd2, hG, hC⟩ := hC
  cases hr
  intro H locs ls cells slots hR hS hl h3 h4
  have hKn := hG.1.1 ci _ h2
  obtain ⟨hin, -, -, hfd⟩ := cl_ok ci _ h2
  obtain ⟨⟨ty, hty, hdt⟩, hdv2⟩ := hdv
  have hrm := hP.1
  have hr1 : nx A + 1 ≤ R.cells + b0 := hrm.1
  have hr2 : su A + r.2.2 ≤ R.slots + c0 := hrm.2
  have h3 : cells + b0 = nx A := h3
  have h4 : slots + c0 = su A := h4
  have hsz : H.size = nx A := hR.2.1
  refine W.newcK hx hb hown (hts _ w1) (hts _ w2) (hts _ w3) rfl d (by omega) (by omega) hKn.2.1 hsz fun H1 kC hkC e1 z1 o1 => ?_
  rw [← hsz] at e1 z1 o1
  have hob := (u_born ty hts hin hKn hkC e1 hty).to (V' := fun k => (dv (fidG ci k)).getD .null) (fun j hj => by rw [hdt j hj]; rfl)
  have hR' := rep_newo (n := r.2.2) hR h2 hdv2 hob z1 o1
  exact hP.2 H1 locs ls (cells + 1) (slots + r.2.2) hR' (va_S_new hS z1 o1) hl (by show cells + 1 + b0 = nx A + 1; omega) (by show slots + r.2.2 + c0 = su A + r.2.2; omega)
