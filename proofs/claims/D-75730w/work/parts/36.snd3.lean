/-! soundness: what stands still, arrays, casts -/
theorem kept0 {G : Ge} {s : State} (h : ∀ q : Nat, q < geB G → s.heap[q]? = (geH G)[q]?) : ∀ a : Nat, a < (geH G).size → ¬ geA G a → s.heap[a]? = (geH G)[a]? := fun a _ h2 => h a (Nat.not_le.mp h2)
theorem g_nc {G : Ge} {s : State} (h : GS G s) : ∀ q ∈ NCL, va_Nc q.1 q.2 s := h.2.2.2.2.2.2.2.1
theorem g_mi {G : Ge} {s : State} (h : GS G s) : va_Mi "[Ljava/lang/Object;" (sAd (geS G) 0) s := h.2.2.2.2.2.2.2.2.1
theorem g_str {G : Ge} {s : State} (h : GS G s) : ∀ q ∈ STR, vk_R q.1 q.2.1 q.2.2.1 (sAd (geS G) q.2.2.2) s := h.2.2.2.2.2.2.2.2.2.1
theorem g_zi {G : Ge} {s : State} (h : GS G s) : ∀ q ∈ ZI, va_Z q.1 q.2.1 q.2.2.1 (.int q.2.2.2) (geA G) s (geH G) := h.2.2.2.2.2.2.2.2.2.2.1
theorem g_zr {G : Ge} {s : State} (h : GS G s) : ∀ q ∈ ZR, va_Z q.1 q.2.1 q.2.2.1 (.ref (sAd (geS G) q.2.2.2)) (geA G) s (geH G) := h.2.2.2.2.2.2.2.2.2.2.2.1
theorem g_zu {G : Ge} {s : State} (h : GS G s) : ∀ q ∈ ZU, va_Z q.1 q.2.1 q.2.2.1 (va_rf (sRf (geS G) q.2.2.2)) (geA G) s (geH G) := h.2.2.2.2.2.2.2.2.2.2.2.2.1
theorem g_ex {G : Ge} {s : State} (h : GS G s) : vx_Zq Bundle.tN "UNASSIGNED_STACK" Bundle.steD (geA G) s (geH G) ∧ vx_Zq Bundle.tN "SUPPRESSED_SENTINEL" Bundle.listD (geA G) s (geH G) := h.2.2.2.2.2.2.2.2.2.2.2.2.2.1
theorem g_sf {G : Ge} {s : State} (h : GS G s) : ∀ p f v, sF (geS G) p f = some v → p < geB G ∧ va_OF (fdn f).1 (fdn f).2.1 (fdn f).2.2.1 v p (geA G) s (geH G) := h.2.2.2.2.2.2.2.2.2.2.2.2.2.2.1
theorem g_sc {G : Ge} {s : State} (h : GS G s) : ∀ p ci, sC (geS G) p = some ci → p < geB G ∧ ∃ r : vw_C, CL[ci]? = some r ∧ va_O r.1 p (geA G) s (geH G) := h.2.2.2.2.2.2.2.2.2.2.2.2.2.2.2.1
theorem g_sa {G : Ge} {s : State} (h : GS G s) : ∀ p c, sA (geS G) p = some c → p < geB G ∧ c.1 < 11 ∧ va_T (aty c.1) p c.2.1 (valC c.2) (geA G) s (geH G) := h.2.2.2.2.2.2.2.2.2.2.2.2.2.2.2.2.1
theorem g_lid {G : Ge} {s : State} (h : GS G s) : ∀ q ∈ DFL, (Cond.landsInDefault q.1 q.2 q.2).before #[] s = true := h.2.2.2.2.2.2.2.2.2.2.2.2.2.2.2.2.2.1
theorem g_prv {G : Ge} {s : State} (h : GS G s) : ∀ y, Cond.privateMethod y ∈ lw_tbl → va_Nw (.privateMethod y) s := h.2.2.2.2.2.2.2.2.2.2.2.2.2.2.2.2.2.2
theorem or_cases {α : Type} {a b : Option α} {x : α} (h : a.or b = some x) : a = some x ∨ (a = none ∧ b = some x) := by
  cases a with
  | none => exact Or.inr ⟨rfl, h⟩
  | some y => exact Or.inl h
theorem ok_gsi {N : Nt} {mi : Mi} {pc index : Nat} {q : String × String × String × Int32} (hq : q ∈ ZI) (w : Cond.fieldLink mi.1 index q.1 q.2.1 q.2.2.1 ∈ lw_all) (d : decode mi.2.1 pc = .ok (.getstatic index, 3)) : OpOK N mi pc (o_push 3 (.int q.2.2.2)) := by
  intro G p l e R s m args below meth c b0 c0 d0 Q hC L st A r hr hP
  obtain ⟨hx, hb, hml, hown, htab, hret, hini, hts, hlk, htr, hd1, hd2, hG, hBs, hag⟩ := hC
  cases hr
  intro H locs ls cells slots hR hS hl h1 h2
  have k := hP.2 H locs ls cells slots hR hS hl h1 h2
  exact va_gets hx hb ((g_zi hG q hq).kept (kept0 hag)) hS hown (hts _ w) (fun _ h => h) d k
theorem ok_gsr {N : Nt} {mi : Mi} {pc index : Nat} {q : String × String × String × Nat} (hq : q ∈ ZR) (w : Cond.fieldLink mi.1 index q.1 q.2.1 q.2.2.1 ∈ lw_all) (d : decode mi.2.1 pc = .ok (.getstatic index, 3)) : OpOK N mi pc (o_pushA 3 q.2.2.2) := by
  intro G p l e R s m args below meth c b0 c0 d0 Q hC L st A r hr hP
  obtain ⟨hx, hb, hml, hown, htab, hret, hini, hts, hlk, htr, hd1, hd2, hG, hBs, hag⟩ := hC
  cases hr
  intro H locs ls cells slots hR hS hl h1 h2
  have k := hP.2 H locs ls cells slots hR hS hl h1 h2
  have e : sg A = geS G := hR.1
  simp only [e] at k
  exact va_gets hx hb ((g_zr hG q hq).kept (kept0 hag)) hS hown (hts _ w) (fun _ h => h) d k
theorem ok_gsu {N : Nt} {mi : Mi} {pc index : Nat} {q : String × String × String × Nat} (hq : q ∈ ZU) (w : Cond.fieldLink mi.1 index q.1 q.2.1 q.2.2.1 ∈ lw_all) (d : decode mi.2.1 pc = .ok (.getstatic index, 3)) : OpOK N mi pc (o_pushR 3 q.2.2.2) := by
  intro G p l e R s m args below meth c b0 c0 d0 Q hC L st A r hr hP
  obtain ⟨hx, hb, hml, hown, htab, hret, hini, hts, hlk, htr, hd1, hd2, hG, hBs, hag⟩ := hC
  cases hr
  intro H locs ls cells slots hR hS hl h1 h2
  have k := hP.2 H locs ls cells slots hR hS hl h1 h2
  have e : sg A = geS G := hR.1
  simp only [e] at k
  exact va_gets hx hb ((g_zu hG q hq).kept (kept0 hag)) hS hown (hts _ w) (fun _ h => h) d k
theorem ok_ldcS {N : Nt} {mi : Mi} {pc index k0 : Nat} {tx : String} (hq : (mi.1, index, tx, k0) ∈ STR) (d : decode mi.2.1 pc = .ok (.ldc index, 2)) : OpOK N mi pc (o_pushA 2 k0) := by
  intro G p l e R s m args below meth c b0 c0 d0 Q hC L st A r hr hP
  obtain ⟨hx, hb, hml, hown, htab, hret, hini, hts, hlk, htr, hd1, hd2, hG, hBs, hag⟩ := hC
  cases hr
  intro H locs ls cells slots hR hS hl h1 h2
  have k := hP.2 H locs ls cells slots hR hS hl h1 h2
  have e : sg A = geS G := hR.1
  simp only [e] at k
  exact va_ldcS hx hb hown (g_str hG _ hq) d k
theorem ok_ldcSW {N : Nt} {mi : Mi} {pc index k0 : Nat} {tx : String} (hq : (mi.1, index, tx, k0) ∈ STR) (d : decode mi.2.1 pc = .ok (.ldc_w index, 3)) : OpOK N mi pc (o_pushA 3 k0) := by
  intro G p l e R s m args below meth c b0 c0 d0 Q hC L st A r hr hP
  obtain ⟨hx, hb, hml, hown, htab, hret, hini, hts, hlk, htr, hd1, hd2, hG, hBs, hag⟩ := hC
  cases hr
  intro H locs ls cells slots hR hS hl h1 h2
  have k := hP.2 H locs ls cells slots hR hS hl h1 h2
  have e : sg A = geS G := hR.1
  simp only [e] at k
  have hZ := g_str hG _ hq
  intro T hT X
  obtain ⟨t, a1, b1⟩ := k T hT X
  exact ⟨t, X.ldcStringW hx hown (text := tx) hZ.1 hZ.2 (g := F0 m pc ls st) rfl (by rw [hb]; exact d) t a1, b1⟩
theorem ok_ldcw {mi : Mi} {pc index : Nat} {v : Int32} (w : Cond.constant mi.1 index v ∈ lw_all) (d : decode mi.2.1 pc = .ok (.ldc_w index, 3)) : PuOK mi pc (o_push 3 (.int v)) := pu_push (fun _ _ _ _ _ _ _ _ _ _ _ _ _ _ _ _ _ hx hb hown hts k => lv_ldcw hx hb hown (hts _ w) d k)
theorem ok_ldcfw {N : Nt} {mi : Mi} {pc index : Nat} {v : UInt32} (w : Cond.constantFloat mi.1 index v ∈ lw_all) (d : decode mi.2.1 pc = .ok (.ldc_w index, 3)) : OpOK N mi pc (o_push 3 (.float v)) := by
  intro G p l e R s m args below meth c b0 c0 d0 Q hC L st A r hr hP
  obtain ⟨hx, hb, hml, hown, htab, hret, hini, hts, hlk, htr, hd1, hd2, hG, hBs, hag⟩ := hC
  cases hr
  intro H locs ls cells slots hR hS hl h1 h2
  have k := hP.2 H locs ls cells slots hR hS hl h1 h2
  intro T hT X
  obtain ⟨t, a1, b1⟩ := k T hT X
  refine ⟨t, ?_, b1⟩
  obtain ⟨k8, cf, hk, hcf, hcp⟩ := Cond.constantFloat_spec hown (hts _ w)
  obtain ⟨k', hk', he⟩ := X.warmed.alike.2.2 _ _ hk
  have d' : decode c.code (F0 m pc ls st).pc = .ok (.ldc_w index, 3) := by rw [hb]; exact d
  have htop := X.here.top
  jvm_step X.here [hx, d', ldc_w.wp_float (s := T) (f := F0 m pc ls st) X.here.top hk' (by rw [he]; exact hcf) hcp]
  exact a1
theorem ok_ldcM {N : Nt} {mi : Mi} {pc index : Nat} (w : Cond.classLink mi.1 index "[Ljava/lang/Object;" ∈ lw_all) (d : decode mi.2.1 pc = .ok (.ldc index, 2)) : OpOK N mi pc (o_pushA 2 0) := by
  intro G p l e R s m args below meth c b0 c0 d0 Q hC L st A r hr hP
  obtain ⟨hx, hb, hml, hown, htab, hret, hini, hts, hlk, htr, hd1, hd2, hG, hBs, hag⟩ := hC
  cases hr
  intro H locs ls cells slots hR hS hl h1 h2
  have k := hP.2 H locs ls cells slots hR hS hl h1 h2
  have e : sg A = geS G := hR.1
  simp only [e] at k
  exact va_ldcM hx hb hown (hts _ w) (g_mi hG) d k
theorem ok_gets {N : Nt} {mi : Mi} {pc index f : Nat} (lk : Flk mi index f) (d : decode mi.2.1 pc = .ok (.getfield index, 3)) : OpOK N mi pc (o_gets f) := by
  intro G p l e R s m args below meth c b0 c0 d0 Q hC L st A r hr hP
  obtain ⟨hx, hb, hml, hown, htab, hret, hini, hts, hlk, htr, hd1, hd2, hG, hBs, hag⟩ := hC
  unfold o_gets at hr
  split at hr
  · next q rest =>
    obtain ⟨v, hv, hr⟩ := Option.bind_eq_some_iff.mp hr
    cases hr
    intro H locs ls cells slots hR hS hl h1 h2
    have k := hP.2 H locs ls cells slots hR hS hl h1 h2
    obtain ⟨ref, hlink, hsame⟩ := lk
    rcases or_cases hv with hv | ⟨-, hv⟩
    · obtain ⟨ci, r9, k9, cell, cf, kf, fi, fd, kC, a1, a2, a3, a4, a5, a6, a7, a8, a9, a10, a11, a12, -⟩ := rep_fd hR hG hts hv
      exact W.getf hx hb hown (hts _ hlink) (same_of hts hsame a9) a11 a5 (none_ne a7) a12 rfl rfl d k
    · rw [hR.1] at hv
      exact vk_getf hx hb ((g_sf hG _ _ _ hv).2.kept (kept0 hag)) hS hown (hts _ hlink) (fun _ h => same_of hts hsame h) d k
  · cases hr
theorem inb_spec {i : Int32} {n : Nat} (h : inb i n = true) : ¬ (i < 0 ∨ n ≤ i.toNatClampNeg) ∧ i.toNatClampNeg < n := by
  obtain ⟨a, b⟩ := Bool.and_eq_true_iff.mp h
  have a := of_decide_eq_true a
  have b := of_decide_eq_true b
  exact ⟨fun q => q.elim (fun q => absurd q (Int32.not_lt.mpr a)) (fun q => absurd b (Nat.not_lt.mpr q)), b⟩
theorem tys_at (G : Ge) {t : Nat} (h : t < 10) : (tysG G)[t]? = some (geT G t, aty t) := by
  unfold tysG
  rw [List.getElem?_map, List.getElem?_range h]
  rfl
/-- all that is behind an array -/
theorem rep_arr {G : Ge} {A : Hp} {H : Heap} {s : State} {p : Nat} {c : ArC} (hR : RepH G A H) (hG : GS G s) (h : ga A p = some c) :
    geB G ≤ p ∧ p < nx A ∧ A.2.2.1 p = some c ∧ c.1 < 10 ∧ H[p]? = some (vp_cell (geT G c.1) c.2) ∧ fitC c ∧ (∀ (n : Nat) (z : Nat → Value), s.isArrayOf (arrV (geT G c.1) n z) (aty c.1)) ∧ va_RA s (geT G c.1) (aty c.1) := by
  obtain ⟨h1, h2⟩ := ga_spec h
  obtain ⟨-, -, -, -, -, -, hA⟩ := hR
  obtain ⟨a1, a2, a3, a4⟩ := hA p c h1 h2
  have q := hG.1.2 c.1 _ (tys_at G a2)
  exact ⟨a1, h1, h2, a2, a3, a4, q.1, q.2⟩
theorem rep_seta {G : Ge} {A : Hp} {H H' : Heap} {q : Nat} {c c' : ArC} (hR : RepH G A H) (hq : q < nx A) (hc : A.2.2.1 q = some c) (h1 : c'.1 = c.1) (hf : fitC c') (e1 : H'[q]? = some (vp_cell (geT G c'.1) c'.2)) (e2 : H'.size = H.size) (e3 : ∀ x : Nat, x ≠ q → H'[x]? = H[x]?) : RepH G (seta A q c') H' := by
  obtain ⟨r1, r2, r3, r4, hO, hF, hA⟩ := hR
  obtain ⟨b1, b2, b3, b4⟩ := hA q c hq hc
  refine ⟨r1, e2.trans r2, r3, fun x hx => (e3 x (by omega)).trans (r4 x hx), ?_, hF, ?_⟩
  · intro p9 ci9 hp hc9
    have hc9' : A.2.1 p9 = some ci9 := hc9
    obtain ⟨a1, a2, r', a3, a4⟩ := hO p9 ci9 hp hc9'
    have hpq : p9 ≠ q := fun z => by rw [z, hc] at a2; cases a2
    refine ⟨a1, ?_, r', a3, a4.kept (e3 p9 hpq)⟩
    show (if p9 = q then some c' else A.2.2.1 p9) = none
    rw [if_neg hpq]; exact a2
  · intro p9 c9 hp hc9
    have hc9' : (if p9 = q then some c' else A.2.2.1 p9) = some c9 := hc9
    by_cases hz : p9 = q
    · rw [if_pos hz] at hc9'
      cases hc9'
      subst hz
      exact ⟨b1, by rw [h1]; exact b2, e1, hf⟩
    · rw [if_neg hz] at hc9'
      obtain ⟨a1, a2, a3, a4⟩ := hA p9 c9 hp hc9'
      exact ⟨a1, a2, (e3 p9 hz).trans a3, a4⟩
theorem rep_newa {G : Ge} {A : Hp} {H H' : Heap} {c : ArC} (hR : RepH G A H) (hc : c.1 < 10) (hf : fitC c) (e1 : H'[H.size]? = some (vp_cell (geT G c.1) c.2)) (z : H'.size = H.size + 1) (o : ∀ q : Nat, q < H.size → H'[q]? = H[q]?) : RepH G (newa A c) H' := by
  obtain ⟨r1, r2, r3, r4, hO, hF, hA⟩ := hR
  have hnx : nx (newa A c) = nx A + 1 := rfl
  refine ⟨r1, by rw [z, r2]; rfl, by rw [hnx]; omega, fun x hx => (o x (by omega)).trans (r4 x hx), ?_, ?_, ?_⟩
  · intro p9 ci9 hp hc9
    have hc9' : (if p9 = nx A then none else A.2.1 p9) = some ci9 := hc9
    by_cases hz : p9 = nx A
    · rw [if_pos hz] at hc9'; cases hc9'
    · rw [if_neg hz] at hc9'
      have hp' : p9 < nx A := by rw [hnx] at hp; omega
      obtain ⟨a1, a2, r', a3, a4⟩ := hO p9 ci9 hp' hc9'
      refine ⟨a1, ?_, r', a3, ?_⟩
      · show (if p9 = nx A then some c else A.2.2.1 p9) = none
        rw [if_neg hz]; exact a2
      · refine (a4.kept (o p9 (by omega))).to (fun j hj => ?_)
        show _ = (if p9 = nx A then none else A.1 (fidG ci9 j) p9).getD .null
        rw [if_neg hz]
  · intro p9 f9 v9 hp hv9
    have hv9' : (if p9 = nx A then none else A.1 f9 p9) = some v9 := hv9
    by_cases hz : p9 = nx A
    · rw [if_pos hz] at hv9'; cases hv9'
    · rw [if_neg hz] at hv9'
      have hp' : p9 < nx A := by rw [hnx] at hp; omega
      obtain ⟨ci9, r9, k9, b1, b2⟩ := hF p9 f9 v9 hp' hv9'
      refine ⟨ci9, r9, k9, ?_, b2⟩
      show (if p9 = nx A then none else A.2.1 p9) = some ci9
      rw [if_neg hz]; exact b1
  · intro p9 c9 hp hc9
    have hc9' : (if p9 = nx A then some c else A.2.2.1 p9) = some c9 := hc9
    by_cases hz : p9 = nx A
    · rw [if_pos hz] at hc9'
      cases hc9'
      exact ⟨by omega, hc, by rw [hz, ← r2]; exact e1, hf⟩
    · rw [if_neg hz] at hc9'
      have hp' : p9 < nx A := by rw [hnx] at hp; omega
      obtain ⟨a1, a2, a3, a4⟩ := hA p9 c9 hp' hc9'
      exact ⟨a1, a2, (o p9 (by omega)).trans a3, a4⟩
theorem arr_in {i : Int32} {n : Nat} (cA : ClassId) (z : Nat → Value) (h : ¬ (i < 0 ∨ n ≤ i.toNatClampNeg)) : ¬ (i < 0 ∨ (arrV cA n z).slots.size ≤ i.toNatClampNeg) := by rw [arrV_size]; exact h
theorem rdI_spec {t : Nat} {c : Option ArC} {i v : Int32} (h : rdI t c i = some v) : ∃ (n : Nat) (f : Nat → Int32), c = some (t, (n, .inl f)) ∧ inb i n = true ∧ v = f i.toNatClampNeg := by
  unfold rdI at h
  split at h
  · next t' n f =>
    cases hb : (Nat.beq t' t && inb i n) with
    | true =>
      rw [hb] at h
      obtain ⟨a, b⟩ := Bool.and_eq_true_iff.mp hb
      exact ⟨n, f, by rw [Nat.eq_of_beq_eq_true a], b, (Option.some.inj h).symm⟩
    | false => rw [hb] at h; cases h
  · cases h
theorem wrI_spec {t : Nat} {c : Option ArC} {i x : Int32} {c' : ArC} (h : wrI t c i x = some c') : ∃ (n : Nat) (f : Nat → Int32), c = some (t, (n, .inl f)) ∧ inb i n = true ∧ c' = (t, (n, .inl (upd f i.toNatClampNeg (narT t x)))) := by
  unfold wrI at h
  split at h
  · next t' n f =>
    cases hb : (Nat.beq t' t && inb i n) with
    | true =>
      rw [hb] at h
      obtain ⟨a, b⟩ := Bool.and_eq_true_iff.mp hb
      have e := Nat.eq_of_beq_eq_true a
      subst e
      exact ⟨n, f, rfl, b, (Option.some.inj h).symm⟩
    | false => rw [hb] at h; cases h
  · cases h
theorem rdQ_spec {c : Option ArC} {i : Int32} {v : Option Nat} (h : rdQ c i = some v) : ∃ (t n : Nat) (f : Nat → Option Nat), c = some (t, (n, .inr (.inr (.inr (.inr f))))) ∧ 5 ≤ t ∧ inb i n = true ∧ v = f i.toNatClampNeg := by
  unfold rdQ at h
  split at h
  · next t' n f =>
    cases hb : (Nat.ble 5 t' && inb i n) with
    | true =>
      rw [hb] at h
      obtain ⟨a, b⟩ := Bool.and_eq_true_iff.mp hb
      exact ⟨t', n, f, rfl, Nat.le_of_ble_eq_true a, b, (Option.some.inj h).symm⟩
    | false => rw [hb] at h; cases h
  · cases h
theorem wrQ_spec {c : Option ArC} {i : Int32} {v : Option Nat} {c' : ArC} (h : wrQ c i v = some c') : ∃ (t n : Nat) (f : Nat → Option Nat), c = some (t, (n, .inr (.inr (.inr (.inr f))))) ∧ 5 ≤ t ∧ inb i n = true ∧ c' = (t, (n, .inr (.inr (.inr (.inr (va_up f i.toNatClampNeg v)))))) := by
  unfold wrQ at h
  split at h
  · next t' n f =>
    cases hb : (Nat.ble 5 t' && inb i n) with
    | true =>
      rw [hb] at h
      obtain ⟨a, b⟩ := Bool.and_eq_true_iff.mp hb
      exact ⟨t', n, f, rfl, Nat.le_of_ble_eq_true a, b, (Option.some.inj h).symm⟩
    | false => rw [hb] at h; cases h
  · cases h
theorem aty_ref : ∀ t, 5 ≤ t → t < 11 → ∃ C, aty t = .object C := by
  intro t h1 h2
  have h : t = 5 ∨ t = 6 ∨ t = 7 ∨ t = 8 ∨ t = 9 ∨ t = 10 := by omega
  rcases h with rfl | rfl | rfl | rfl | rfl | rfl <;> exact ⟨_, rfl⟩
theorem ok_iald {N : Nt} {mi : Mi} {pc : Nat} (d : decode mi.2.1 pc = .ok (.iaload, 1)) : OpOK N mi pc (o_rdI 0) := by
  intro G p l e R s m args below meth c b0 c0 d0 Q hC L st A r hr hP
  obtain ⟨hx, hb, hml, hown, htab, hret, hini, hts, hlk, htr, hd1, hd2, hG, hBs, hag⟩ := hC
  unfold o_rdI at hr
  split at hr
  · next i q rest =>
    obtain ⟨v, hv, hr⟩ := Option.bind_eq_some_iff.mp hr
    cases hr
    intro H locs ls cells slots hR hS hl h1 h2
    have k := hP.2 H locs ls cells slots hR hS hl h1 h2
    obtain ⟨n, f, hc, hin, rfl⟩ := rdI_spec hv
    obtain ⟨a1, a2, a3, a4, a5, a6, a7, a8⟩ := rep_arr hR hG hc
    obtain ⟨g1, g2⟩ := inb_spec hin
    exact W.iald (v := .int (f i.toNatClampNeg)) hx hb a5 (a7 n (fun j => .int (f j))) (fun q => by cases q) (arr_in _ _ g1) (by show (arrV _ _ _).slots[_]? = _; rw [arrV_read _ _ g2]) rfl rfl d k
  · cases hr
theorem ok_bald {N : Nt} {mi : Mi} {pc : Nat} (d : decode mi.2.1 pc = .ok (.baload, 1)) : OpOK N mi pc (o_rdI 1) := by
  intro G p l e R s m args below meth c b0 c0 d0 Q hC L st A r hr hP
  obtain ⟨hx, hb, hml, hown, htab, hret, hini, hts, hlk, htr, hd1, hd2, hG, hBs, hag⟩ := hC
  unfold o_rdI at hr
  split at hr
  · next i q rest =>
    obtain ⟨v, hv, hr⟩ := Option.bind_eq_some_iff.mp hr
    cases hr
    intro H locs ls cells slots hR hS hl h1 h2
    have k := hP.2 H locs ls cells slots hR hS hl h1 h2
    obtain ⟨n, f, hc, hin, rfl⟩ := rdI_spec hv
    obtain ⟨a1, a2, a3, a4, a5, a6, a7, a8⟩ := rep_arr hR hG hc
    obtain ⟨g1, g2⟩ := inb_spec hin
    exact W.bald (v := .int (f i.toNatClampNeg)) hx hb a5 (a7 n (fun j => .int (f j))) (fun q => by cases q) (arr_in _ _ g1) (by show (arrV _ _ _).slots[_]? = _; rw [arrV_read _ _ g2]) rfl rfl d k
  · cases hr
theorem ok_zald {N : Nt} {mi : Mi} {pc : Nat} (d : decode mi.2.1 pc = .ok (.baload, 1)) : OpOK N mi pc (o_rdI 2) := by
  intro G p l e R s m args below meth c b0 c0 d0 Q hC L st A r hr hP
  obtain ⟨hx, hb, hml, hown, htab, hret, hini, hts, hlk, htr, hd1, hd2, hG, hBs, hag⟩ := hC
  unfold o_rdI at hr
  split at hr
  · next i q rest =>
    obtain ⟨v, hv, hr⟩ := Option.bind_eq_some_iff.mp hr
    cases hr
    intro H locs ls cells slots hR hS hl h1 h2
    have k := hP.2 H locs ls cells slots hR hS hl h1 h2
    obtain ⟨n, f, hc, hin, rfl⟩ := rdI_spec hv
    obtain ⟨a1, a2, a3, a4, a5, a6, a7, a8⟩ := rep_arr hR hG hc
    obtain ⟨g1, g2⟩ := inb_spec hin
    exact W.zald (v := .int (f i.toNatClampNeg)) hx hb a5 (a7 n (fun j => .int (f j))) (fun q => by cases q) (arr_in _ _ g1) (by show (arrV _ _ _).slots[_]? = _; rw [arrV_read _ _ g2]) rfl rfl d k
  · cases hr
theorem ok_lald {N : Nt} {mi : Mi} {pc : Nat} (d : decode mi.2.1 pc = .ok (.laload, 1)) : OpOK N mi pc o_rdJ := by
  intro G p l e R s m args below meth c b0 c0 d0 Q hC L st A r hr hP
  obtain ⟨hx, hb, hml, hown, htab, hret, hini, hts, hlk, htr, hd1, hd2, hG, hBs, hag⟩ := hC
  unfold o_rdJ at hr
  split at hr
  · next i q rest =>
    obtain ⟨v, hv, hr⟩ := Option.bind_eq_some_iff.mp hr
    cases hr
    intro H locs ls cells slots hR hS hl h1 h2
    have k := hP.2 H locs ls cells slots hR hS hl h1 h2
    unfold rdJ at hv
    split at hv
    · next n f hc =>
      cases hin : inb i n with
      | false => rw [hin] at hv; cases hv
      | true =>
        rw [hin] at hv
        cases hv
        obtain ⟨a1, a2, a3, a4, a5, a6, a7, a8⟩ := rep_arr hR hG hc
        obtain ⟨g1, g2⟩ := inb_spec hin
        exact W.lald (v := .long (f i.toNatClampNeg)) hx hb a5 (a7 n (fun j => .long (f j))) (fun q => by cases q) (arr_in _ _ g1) (by show (arrV _ _ _).slots[_]? = _; rw [arrV_read _ _ g2]) rfl rfl d k
    · cases hv
  · cases hr
theorem ok_dald {N : Nt} {mi : Mi} {pc : Nat} (d : decode mi.2.1 pc = .ok (.daload, 1)) : OpOK N mi pc o_rdD := by
  intro G p l e R s m args below meth c b0 c0 d0 Q hC L st A r hr hP
  obtain ⟨hx, hb, hml, hown, htab, hret, hini, hts, hlk, htr, hd1, hd2, hG, hBs, hag⟩ := hC
  unfold o_rdD at hr
  split at hr
  · next i q rest =>
    obtain ⟨v, hv, hr⟩ := Option.bind_eq_some_iff.mp hr
    cases hr
    intro H locs ls cells slots hR hS hl h1 h2
    have k := hP.2 H locs ls cells slots hR hS hl h1 h2
    unfold rdD at hv
    split at hv
    · next n f hc =>
      cases hin : inb i n with
      | false => rw [hin] at hv; cases hv
      | true =>
        rw [hin] at hv
        cases hv
        obtain ⟨a1, a2, a3, a4, a5, a6, a7, a8⟩ := rep_arr hR hG hc
        obtain ⟨g1, g2⟩ := inb_spec hin
        exact W.dald (v := .double (f i.toNatClampNeg)) hx hb a5 (a7 n (fun j => .double (f j))) (fun q => by cases q) (arr_in _ _ g1) (by show (arrV _ _ _).slots[_]? = _; rw [arrV_read _ _ g2]) rfl rfl d k
    · cases hv
  · cases hr
theorem ok_aald {N : Nt} {mi : Mi} {pc : Nat} (d : decode mi.2.1 pc = .ok (.aaload, 1)) : OpOK N mi pc o_rdQ := by
  intro G p l e R s m args below meth c b0 c0 d0 Q hC L st A r hr hP
  obtain ⟨hx, hb, hml, hown, htab, hret, hini, hts, hlk, htr, hd1, hd2, hG, hBs, hag⟩ := hC
  unfold o_rdQ at hr
  split at hr
  · next i q rest =>
    obtain ⟨v, hv, hr⟩ := Option.bind_eq_some_iff.mp hr
    cases hr
    intro H locs ls cells slots hR hS hl h1 h2
    have k := hP.2 H locs ls cells slots hR hS hl h1 h2
    obtain ⟨t, n, f, hc, ht, hin, rfl⟩ := rdQ_spec hv
    obtain ⟨a1, a2, a3, a4, a5, a6, a7, a8⟩ := rep_arr hR hG hc
    obtain ⟨g1, g2⟩ := inb_spec hin
    obtain ⟨C, hC⟩ := aty_ref t ht (Nat.lt_succ_of_lt a4)
    have a7' := a7 n (fun j => va_rf (f j))
    rw [hC] at a7'
    exact W.aald (v := va_rf (f i.toNatClampNeg)) (ty := .object C) hx hb a5 a7' rfl (fun q => by cases q) (arr_in _ _ g1) (by show (arrV _ _ _).slots[_]? = _; rw [arrV_read _ _ g2]) rfl rfl d k
  · cases hr
theorem ok_aalds {N : Nt} {mi : Mi} {pc : Nat} (d : decode mi.2.1 pc = .ok (.aaload, 1)) : OpOK N mi pc o_rdQs := by
  intro G p l e R s m args below meth c b0 c0 d0 Q hC L st A r hr hP
  obtain ⟨hx, hb, hml, hown, htab, hret, hini, hts, hlk, htr, hd1, hd2, hG, hBs, hag⟩ := hC
  unfold o_rdQs at hr
  split at hr
  · next i q rest =>
    obtain ⟨v, hv, hr⟩ := Option.bind_eq_some_iff.mp hr
    cases hr
    intro H locs ls cells slots hR hS hl h1 h2
    have k := hP.2 H locs ls cells slots hR hS hl h1 h2
    obtain ⟨t, n, f, hc, ht, hin, rfl⟩ := rdQ_spec hv
    obtain ⟨g1, g2⟩ := inb_spec hin
    rcases or_cases hc with hc | ⟨-, hc⟩
    · obtain ⟨a1, a2, a3, a4, a5, a6, a7, a8⟩ := rep_arr hR hG hc
      obtain ⟨C, hC⟩ := aty_ref t ht (Nat.lt_succ_of_lt a4)
      have a7' := a7 n (fun j => va_rf (f j))
      rw [hC] at a7'
      exact W.aald (v := va_rf (f i.toNatClampNeg)) (ty := .object C) hx hb a5 a7' rfl (fun q => by cases q) (arr_in _ _ g1) (by show (arrV _ _ _).slots[_]? = _; rw [arrV_read _ _ g2]) rfl rfl d k
    · rw [hR.1] at hc
      obtain ⟨z1, z0, z2⟩ := g_sa hG _ _ hc
      obtain ⟨cell, e1, e2, e3, e4, e5, e6, e7⟩ := z2.kept (kept0 hag)
      obtain ⟨C, hC⟩ := aty_ref t ht z0
      have e2' : s.isArrayOf cell (aty t) := e2
      rw [hC] at e2'
      exact W.aald (v := va_rf (f i.toNatClampNeg)) (ty := .object C) hx hb (by rw [hS.2.1 q (Array.getElem?_eq_some_iff.mp e1).1 e7]; exact e1) e2' rfl e3 (fun z => g1 (z.imp id (fun z => Nat.le_trans e4 z))) (e6 _ g2) rfl rfl d k
  · cases hr
theorem ok_ialds {N : Nt} {mi : Mi} {pc : Nat} (d : decode mi.2.1 pc = .ok (.iaload, 1)) : OpOK N mi pc (o_rdIs 0) := by
  intro G p l e R s m args below meth c b0 c0 d0 Q hC L st A r hr hP
  obtain ⟨hx, hb, hml, hown, htab, hret, hini, hts, hlk, htr, hd1, hd2, hG, hBs, hag⟩ := hC
  unfold o_rdIs at hr
  split at hr
  · next i q rest =>
    obtain ⟨v, hv, hr⟩ := Option.bind_eq_some_iff.mp hr
    cases hr
    intro H locs ls cells slots hR hS hl h1 h2
    have k := hP.2 H locs ls cells slots hR hS hl h1 h2
    obtain ⟨n, f, hc, hin, rfl⟩ := rdI_spec hv
    obtain ⟨g1, g2⟩ := inb_spec hin
    rcases or_cases hc with hc | ⟨-, hc⟩
    · obtain ⟨a1, a2, a3, a4, a5, a6, a7, a8⟩ := rep_arr hR hG hc
      exact W.iald (v := .int (f i.toNatClampNeg)) hx hb a5 (a7 n (fun j => .int (f j))) (fun q => by cases q) (arr_in _ _ g1) (by show (arrV _ _ _).slots[_]? = _; rw [arrV_read _ _ g2]) rfl rfl d k
    · rw [hR.1] at hc
      obtain ⟨z1, z0, z2⟩ := g_sa hG _ _ hc
      exact va_ti hx hb (z2.kept (kept0 hag)) hS g1 rfl d k
  · cases hr
theorem ok_balds {N : Nt} {mi : Mi} {pc : Nat} (d : decode mi.2.1 pc = .ok (.baload, 1)) : OpOK N mi pc (o_rdIs 1) := by
  intro G p l e R s m args below meth c b0 c0 d0 Q hC L st A r hr hP
  obtain ⟨hx, hb, hml, hown, htab, hret, hini, hts, hlk, htr, hd1, hd2, hG, hBs, hag⟩ := hC
  unfold o_rdIs at hr
  split at hr
  · next i q rest =>
    obtain ⟨v, hv, hr⟩ := Option.bind_eq_some_iff.mp hr
    cases hr
    intro H locs ls cells slots hR hS hl h1 h2
    have k := hP.2 H locs ls cells slots hR hS hl h1 h2
    obtain ⟨n, f, hc, hin, rfl⟩ := rdI_spec hv
    obtain ⟨g1, g2⟩ := inb_spec hin
    rcases or_cases hc with hc | ⟨-, hc⟩
    · obtain ⟨a1, a2, a3, a4, a5, a6, a7, a8⟩ := rep_arr hR hG hc
      exact W.bald (v := .int (f i.toNatClampNeg)) hx hb a5 (a7 n (fun j => .int (f j))) (fun q => by cases q) (arr_in _ _ g1) (by show (arrV _ _ _).slots[_]? = _; rw [arrV_read _ _ g2]) rfl rfl d k
    · rw [hR.1] at hc
      obtain ⟨z1, z0, z2⟩ := g_sa hG _ _ hc
      exact va_tb hx hb (z2.kept (kept0 hag)) hS g1 rfl d k
  · cases hr
theorem aln_spec {c : Option ArC} {n : Int32} (h : aln c = some n) : ∃ c9, c = some c9 ∧ n = nI c9.2.1 := by
  cases c with
  | none => cases h
  | some c => exact ⟨c, rfl, (Option.some.inj h).symm⟩
theorem vp_size (cA : ClassId) (x : vp_A) : (vp_cell cA x).slots.size = x.1 := by
  obtain ⟨n, f | f | f | f | f⟩ := x <;> exact arrV_size _ _ _
theorem vp_none (cA : ClassId) (x : vp_A) : (vp_cell cA x).vm = .none := by
  obtain ⟨n, f | f | f | f | f⟩ := x <;> rfl
theorem vp_cls (cA : ClassId) (x : vp_A) : (vp_cell cA x).cls = cA := by
  obtain ⟨n, f | f | f | f | f⟩ := x <;> rfl
theorem vp_arr (cA : ClassId) (x : vp_A) : vp_cell cA x = arrV cA x.1 (valC x) := by
  obtain ⟨n, f | f | f | f | f⟩ := x <;> rfl
theorem ok_alen {N : Nt} {mi : Mi} {pc : Nat} (d : decode mi.2.1 pc = .ok (.arraylength, 1)) : OpOK N mi pc o_alen := by
  intro G p l e R s m args below meth c b0 c0 d0 Q hC L st A r hr hP
  obtain ⟨hx, hb, hml, hown, htab, hret, hini, hts, hlk, htr, hd1, hd2, hG, hBs, hag⟩ := hC
  unfold o_alen at hr
  split at hr
  · next q rest =>
    obtain ⟨v, hv, hr⟩ := Option.bind_eq_some_iff.mp hr
    cases hr
    intro H locs ls cells slots hR hS hl h1 h2
    have k := hP.2 H locs ls cells slots hR hS hl h1 h2
    obtain ⟨c9, hc, rfl⟩ := aln_spec hv
    obtain ⟨a1, a2, a3, a4, a5, a6, a7, a8⟩ := rep_arr hR hG hc
    have a7' := a7 c9.2.1 (valC c9.2)
    rw [← vp_arr] at a7'
    exact W.alen hx hb a5 a7' (by rw [vp_size]; rfl) rfl rfl d k
  · cases hr
theorem ok_alens {N : Nt} {mi : Mi} {pc : Nat} (d : decode mi.2.1 pc = .ok (.arraylength, 1)) : OpOK N mi pc o_alens := by
  intro G p l e R s m args below meth c b0 c0 d0 Q hC L st A r hr hP
  obtain ⟨hx, hb, hml, hown, htab, hret, hini, hts, hlk, htr, hd1, hd2, hG, hBs, hag⟩ := hC
  unfold o_alens at hr
  split at hr
  · next q rest =>
    obtain ⟨v, hv, hr⟩ := Option.bind_eq_some_iff.mp hr
    cases hr
    intro H locs ls cells slots hR hS hl h1 h2
    have k := hP.2 H locs ls cells slots hR hS hl h1 h2
    obtain ⟨c9, hc, rfl⟩ := aln_spec hv
    rcases or_cases hc with hc | ⟨-, hc⟩
    · obtain ⟨a1, a2, a3, a4, a5, a6, a7, a8⟩ := rep_arr hR hG hc
      have a7' := a7 c9.2.1 (valC c9.2)
      rw [← vp_arr] at a7'
      exact W.alen hx hb a5 a7' (by rw [vp_size]; rfl) rfl rfl d k
    · rw [hR.1] at hc
      obtain ⟨z1, z0, z2⟩ := g_sa hG _ _ hc
      exact va_tlen hx hb (z2.kept (kept0 hag)) hS rfl d k
  · cases hr
theorem fit_upd {t n : Nat} {f : Nat → Int32} {k : Nat} {x : Int32} (h : fitC (t, (n, .inl f))) (hx : fits (aty t) (.int x) = true) : fitC (t, (n, .inl (upd f k x))) := fun j => by
  show fits (aty t) (.int (if j = k then x else f j)) = true
  by_cases hj : j = k
  · rw [if_pos hj]; exact hx
  · rw [if_neg hj]; exact h j
theorem fit_bool (x : Int32) : fits .boolean (narrow .boolean (.int x)) = true := by
  show fits .boolean (.int (x &&& 1)) = true
  have h : x &&& 1 = 0 ∨ x &&& 1 = 1 := by
    have e := pk_and x (m := 1) 1 (by decide)
    rcases Nat.mod_two_eq_zero_or_one x.toBitVec.toNat with q | q
    · exact Or.inl (by rw [e]; show nI (x.toBitVec.toNat % 2) = 0; rw [q]; rfl)
    · exact Or.inr (by rw [e]; show nI (x.toBitVec.toNat % 2) = 1; rw [q]; rfl)
  rcases h with h | h <;> rw [h] <;> rfl
theorem ok_iast {N : Nt} {mi : Mi} {pc : Nat} (d : decode mi.2.1 pc = .ok (.iastore, 1)) : OpOK N mi pc (o_wrI 0) := by
  intro G p l e R s m args below meth c b0 c0 d0 Q hC L st A r hr hP
  obtain ⟨hx, hb, hml, hown, htab, hret, hini, hts, hlk, htr, hd1, hd2, hG, hBs, hag⟩ := hC
  unfold o_wrI at hr
  split at hr
  · next x i q rest =>
    obtain ⟨c', hv, hr⟩ := Option.bind_eq_some_iff.mp hr
    cases hr
    intro H locs ls cells slots hR hS hl h1 h2
    obtain ⟨n, f, hc, hin, rfl⟩ := wrI_spec hv
    obtain ⟨a1, a2, a3, a4, a5, a6, a7, a8⟩ := rep_arr hR hG hc
    obtain ⟨g1, g2⟩ := inb_spec hin
    refine W.iast hx hb a5 (a7 n (fun j => .int (f j))) (fun q => by cases q) (arr_in _ _ g1) rfl rfl d fun H' e1 e2 e3 => ?_
    have hR' := rep_seta (c' := (0, (n, .inl (upd f i.toNatClampNeg (narT 0 x))))) hR a2 a3 rfl (fit_upd a6 (rfl)) (by
      rw [e1]
      dsimp only
      rw [vp_cell_i, vp_cell_i, arrV_store]
      congr 2
      funext z
      by_cases hz : z = i.toNatClampNeg
      · subst hz; simp [updV, upd, narT, vp_nar]; try rfl
      · simp [updV, upd, hz]) e2 e3
    exact hP.2 H' _ ls cells slots hR' (va_S_put hS e2 e3 a1) hl h1 h2
  · cases hr
theorem ok_bast {N : Nt} {mi : Mi} {pc : Nat} (d : decode mi.2.1 pc = .ok (.bastore, 1)) : OpOK N mi pc (o_wrI 1) := by
  intro G p l e R s m args below meth c b0 c0 d0 Q hC L st A r hr hP
  obtain ⟨hx, hb, hml, hown, htab, hret, hini, hts, hlk, htr, hd1, hd2, hG, hBs, hag⟩ := hC
  unfold o_wrI at hr
  split at hr
  · next x i q rest =>
    obtain ⟨c', hv, hr⟩ := Option.bind_eq_some_iff.mp hr
    cases hr
    intro H locs ls cells slots hR hS hl h1 h2
    obtain ⟨n, f, hc, hin, rfl⟩ := wrI_spec hv
    obtain ⟨a1, a2, a3, a4, a5, a6, a7, a8⟩ := rep_arr hR hG hc
    obtain ⟨g1, g2⟩ := inb_spec hin
    refine W.bast hx hb a5 (a7 n (fun j => .int (f j))) (fun q => by cases q) (arr_in _ _ g1) rfl rfl d fun H' e1 e2 e3 => ?_
    have hR' := rep_seta (c' := (1, (n, .inl (upd f i.toNatClampNeg (narT 1 x))))) hR a2 a3 rfl (fit_upd a6 (fit_byte x)) (by
      rw [e1]
      dsimp only
      rw [vp_cell_i, vp_cell_i, arrV_store]
      congr 2
      funext z
      by_cases hz : z = i.toNatClampNeg
      · subst hz; simp [updV, upd, narT, vp_nar]; try rfl
      · simp [updV, upd, hz]) e2 e3
    exact hP.2 H' _ ls cells slots hR' (va_S_put hS e2 e3 a1) hl h1 h2
  · cases hr
theorem ok_zast {N : Nt} {mi : Mi} {pc : Nat} (d : decode mi.2.1 pc = .ok (.bastore, 1)) : OpOK N mi pc (o_wrI 2) := by
  intro G p l e R s m args below meth c b0 c0 d0 Q hC L st A r hr hP
  obtain ⟨hx, hb, hml, hown, htab, hret, hini, hts, hlk, htr, hd1, hd2, hG, hBs, hag⟩ := hC
  unfold o_wrI at hr
  split at hr
  · next x i q rest =>
    obtain ⟨c', hv, hr⟩ := Option.bind_eq_some_iff.mp hr
    cases hr
    intro H locs ls cells slots hR hS hl h1 h2
    obtain ⟨n, f, hc, hin, rfl⟩ := wrI_spec hv
    obtain ⟨a1, a2, a3, a4, a5, a6, a7, a8⟩ := rep_arr hR hG hc
    obtain ⟨g1, g2⟩ := inb_spec hin
    refine W.zast hx hb a5 (a7 n (fun j => .int (f j))) (fun q => by cases q) (arr_in _ _ g1) rfl rfl d fun H' e1 e2 e3 => ?_
    have hR' := rep_seta (c' := (2, (n, .inl (upd f i.toNatClampNeg (narT 2 x))))) hR a2 a3 rfl (fit_upd a6 (fit_bool x)) (by
      rw [e1]
      dsimp only
      rw [vp_cell_i, vp_cell_i, arrV_store]
      congr 2
      funext z
      by_cases hz : z = i.toNatClampNeg
      · subst hz; simp [updV, upd, narT, vp_nar]; try rfl
      · simp [updV, upd, hz]) e2 e3
    exact hP.2 H' _ ls cells slots hR' (va_S_put hS e2 e3 a1) hl h1 h2
  · cases hr
theorem ok_last {N : Nt} {mi : Mi} {pc : Nat} (d : decode mi.2.1 pc = .ok (.lastore, 1)) : OpOK N mi pc o_wrJ := by
  intro G p l e R s m args below meth c b0 c0 d0 Q hC L st A r hr hP
  obtain ⟨hx, hb, hml, hown, htab, hret, hini, hts, hlk, htr, hd1, hd2, hG, hBs, hag⟩ := hC
  unfold o_wrJ at hr
  split at hr
  · next x i q rest =>
    obtain ⟨c', hv, hr⟩ := Option.bind_eq_some_iff.mp hr
    cases hr
    intro H locs ls cells slots hR hS hl h1 h2
    unfold wrJ at hv
    split at hv
    · next n f hc =>
      cases hin : inb i n with
      | false => rw [hin] at hv; cases hv
      | true =>
        rw [hin] at hv
        cases hv
        obtain ⟨a1, a2, a3, a4, a5, a6, a7, a8⟩ := rep_arr hR hG hc
        obtain ⟨g1, g2⟩ := inb_spec hin
        refine W.last hx hb a5 (a7 n (fun j => .long (f j))) (fun q => by cases q) (arr_in _ _ g1) rfl rfl d fun H' e1 e2 e3 => ?_
        have hR' := rep_seta (c' := (3, (n, .inr (.inl (vp_updL f i.toNatClampNeg x))))) hR a2 a3 rfl trivial (by
          rw [e1]
          dsimp only
          rw [vp_cell_l, vp_cell_l, arrV_store]
          congr 2
          funext z
          by_cases hz : z = i.toNatClampNeg
          · subst hz; simp [updV, vp_updL]
          · simp [updV, vp_updL, hz]) e2 e3
        exact hP.2 H' _ ls cells slots hR' (va_S_put hS e2 e3 a1) hl h1 h2
    · cases hv
  · cases hr
theorem ok_dast {N : Nt} {mi : Mi} {pc : Nat} (d : decode mi.2.1 pc = .ok (.dastore, 1)) : OpOK N mi pc o_wrD := by
  intro G p l e R s m args below meth c b0 c0 d0 Q hC L st A r hr hP
  obtain ⟨hx, hb, hml, hown, htab, hret, hini, hts, hlk, htr, hd1, hd2, hG, hBs, hag⟩ := hC
  unfold o_wrD at hr
  split at hr
  · next x i q rest =>
    obtain ⟨c', hv, hr⟩ := Option.bind_eq_some_iff.mp hr
    cases hr
    intro H locs ls cells slots hR hS hl h1 h2
    unfold wrD at hv
    split at hv
    · next n f hc =>
      cases hin : inb i n with
      | false => rw [hin] at hv; cases hv
      | true =>
        rw [hin] at hv
        cases hv
        obtain ⟨a1, a2, a3, a4, a5, a6, a7, a8⟩ := rep_arr hR hG hc
        obtain ⟨g1, g2⟩ := inb_spec hin
        refine W.dast hx hb a5 (a7 n (fun j => .double (f j))) (fun q => by cases q) (arr_in _ _ g1) rfl rfl d fun H' e1 e2 e3 => ?_
        have hR' := rep_seta (c' := (4, (n, .inr (.inr (.inr (.inl (vf_upd f i.toNatClampNeg x))))))) hR a2 a3 rfl trivial (by
          rw [e1]
          dsimp only
          rw [vp_cell_d, vp_cell_d, arrV_store]
          congr 2
          funext z
          by_cases hz : z = i.toNatClampNeg
          · subst hz; simp [updV, vf_upd]
          · simp [updV, vf_upd, hz]) e2 e3
        exact hP.2 H' _ ls cells slots hR' (va_S_put hS e2 e3 a1) hl h1 h2
    · cases hv
  · cases hr
/-- the class of the object at p -/
theorem rep_cl {G : Ge} {A : Hp} {H : Heap} {s : State} {p ci : Nat} {locs : List Loc} (hR : RepH G A H) (hG : GS G s) (hS : va_S (geA G) s.heap H locs) (hag : ∀ q : Nat, q < geB G → s.heap[q]? = (geH G)[q]?) (h : gcs A p = some ci) :
    ∃ (r : vw_C) (cell : Cell), CL[ci]? = some r ∧ H[p]? = some cell ∧ cell.vm.isStatics = false ∧ s.vm.findClass r.1 = some cell.cls ∧ ClassAt s r.1 cell.cls := by
  rcases or_cases h with h | ⟨-, h⟩
  · obtain ⟨h1, h2⟩ := gc_spec h
    obtain ⟨-, -, -, -, hO, -, -⟩ := hR
    obtain ⟨a1, a2, r, a3, cell, b1, b2, b3, -⟩ := hO p ci h1 h2
    have hk := (hG.1.1 ci r a3).2
    exact ⟨r, cell, a3, b1, by rw [b3]; rfl, by rw [b2]; exact hk.1, by rw [b2]; exact hk⟩
  · rw [hR.1] at h
    obtain ⟨z1, r, z2, z3⟩ := g_sc hG _ _ h
    obtain ⟨cell, e1, e2, e3, e4⟩ := z3.kept (kept0 hag)
    have hk := (hG.1.1 ci r z2).2
    refine ⟨r, cell, z2, by rw [hS.2.1 p (Array.getElem?_eq_some_iff.mp e1).1 e4]; exact e1, e2, e3, ?_⟩
    have : cell.cls = (geD G).1 ci := Option.some.inj (e3.symm.trans hk.1)
    rw [this]; exact hk
theorem cin_spec {c : Option Nat} {l : List Nat} (h : cin c l = true) : ∃ ci, c = some ci ∧ ci ∈ l := by
  cases c with
  | none => cases h
  | some ci =>
    obtain ⟨k, hk, e⟩ := List.any_eq_true.mp (show (l.any fun k => Nat.beq k ci) = true from h)
    have := Nat.eq_of_beq_eq_true e
    subst this
    exact ⟨k, rfl, hk⟩
/-- objects of the classes of the list are nm's -/
def CastL (l : List Nat) (nm : String) : Prop := ∀ ci ∈ l, ∃ r : vw_C, CL[ci]? = some r ∧ (Cond.castable r.1 nm ∈ lw_tbl ∨ r.1 = nm)
theorem ok_cast {N : Nt} {mi : Mi} {pc index : Nat} {l9 : List Nat} {nm : String} (w : Cond.classLink mi.1 index nm ∈ lw_all) (hl9 : CastL l9 nm) (d : decode mi.2.1 pc = .ok (.checkcast index, 3)) : OpOK N mi pc (o_cast l9) := by
  intro G p l e R s m args below meth c b0 c0 d0 Q hC L st A r hr hP
  obtain ⟨hx, hb, hml, hown, htab, hret, hini, hts, hlk, htr, hd1, hd2, hG, hBs, hag⟩ := hC
  unfold o_cast at hr
  split at hr
  · cases hr
    intro H locs ls cells slots hR hS hl h1 h2
    exact lv_castN hx hb d (hP.2 H locs ls cells slots hR hS hl h1 h2)
  · next q rest =>
    obtain ⟨hg, hr⟩ := gd_some hr
    cases hr
    intro H locs ls cells slots hR hS hl h1 h2
    have k := hP.2 H locs ls cells slots hR hS hl h1 h2
    obtain ⟨ci, hc, hm⟩ := cin_spec hg
    obtain ⟨r, cell, e0, e1, e2, e3, e4⟩ := rep_cl hR hG hS hag hc
    obtain ⟨r', e0', hw⟩ := hl9 ci hm
    have e : r' = r := Option.some.inj (e0'.symm.trans e0)
    subst e
    rcases hw with hw | hw
    · exact va_castY hx hb hown (hts _ w) (hG.2.2.2.1 _ _ hw) ⟨cell, e1, e2, e3⟩ d k
    · exact va_castE hx hb hown (hts _ w) ⟨cell, e1, e2, by rw [← hw]; exact e3⟩ d k
  · cases hr
def NotL (l : List Nat) (nm : String) : Prop := ∀ ci ∈ l, ∃ r : vw_C, CL[ci]? = some r ∧ (r.1, nm) ∈ NCL
theorem ok_inst {N : Nt} {mi : Mi} {pc index : Nat} {l9 l8 : List Nat} {nm : String} (w : Cond.classLink mi.1 index nm ∈ lw_all) (hl9 : CastL l9 nm) (hl8 : NotL l8 nm) (d : decode mi.2.1 pc = .ok (.instanceof index, 3)) : OpOK N mi pc (o_inst l9 l8) := by
  intro G p l e R s m args below meth c b0 c0 d0 Q hC L st A r hr hP
  obtain ⟨hx, hb, hml, hown, htab, hret, hini, hts, hlk, htr, hd1, hd2, hG, hBs, hag⟩ := hC
  unfold o_inst at hr
  split at hr
  · cases hr
    intro H locs ls cells slots hR hS hl h1 h2
    exact lv_instN hx hb d (hP.2 H locs ls cells slots hR hS hl h1 h2)
  · next q rest =>
    cases hg : cin (gcs A q) l9 with
    | true =>
      rw [hg] at hr
      cases hr
      intro H locs ls cells slots hR hS hl h1 h2
      have k := hP.2 H locs ls cells slots hR hS hl h1 h2
      obtain ⟨ci, hc, hm⟩ := cin_spec hg
      obtain ⟨r, cell, e0, e1, e2, e3, e4⟩ := rep_cl hR hG hS hag hc
      obtain ⟨r', e0', hw⟩ := hl9 ci hm
      have e : r' = r := Option.some.inj (e0'.symm.trans e0)
      subst e
      rcases hw with hw | hw
      · exact va_instY hx hb hown (hts _ w) (hG.2.2.2.1 _ _ hw) ⟨cell, e1, e2, e3⟩ d k
      · exact va_instE hx hb hown (hts _ w) ⟨cell, e1, e2, by rw [← hw]; exact e3⟩ d k
    | false =>
      rw [hg] at hr
      obtain ⟨hg, hr⟩ := gd_some (show gd (cin (gcs A q) l8) (nx1 (pc + 3) L (.int 0 :: rest) A) = some r from hr)
      cases hr
      intro H locs ls cells slots hR hS hl h1 h2
      have k := hP.2 H locs ls cells slots hR hS hl h1 h2
      obtain ⟨ci, hc, hm⟩ := cin_spec hg
      obtain ⟨r, cell, e0, e1, e2, e3, e4⟩ := rep_cl hR hG hS hag hc
      obtain ⟨r', e0', hw⟩ := hl8 ci hm
      have e : r' = r := Option.some.inj (e0'.symm.trans e0)
      subst e
      exact va_instNo hx hb hown (hts _ w) (g_nc hG _ hw) ⟨cell, e1, e2, e3⟩ d k
  · cases hr
theorem cast_asg {G : Ge} {s : State} {r : vw_C} {cell : Cell} {E : String} (hG : GS G s) (hcl : ClassAt s r.1 cell.cls) (h : Cond.castable r.1 E ∈ lw_tbl ∨ r.1 = E) {comp : ClassId} (hE : s.vm.findClass E = some comp) : s.vm.assignable cell.cls comp = true := by
  rcases h with h | h
  · obtain ⟨c0, t0, f1, f2, f3⟩ := Cond.castable_spec (va_Nw.use (A := #[]) rfl (hG.2.2.2.1 _ _ h))
    cases hcl.1.symm.trans f1
    cases hE.symm.trans f2
    exact f3
  · subst h
    cases hcl.1.symm.trans hE
    exact va_assign hcl
theorem atag_spec {c : Option ArC} {t : Nat} (h : atag c t = true) : ∃ x, c = some (t, x) := by
  cases c with
  | none => cases h
  | some c =>
    obtain ⟨t', x⟩ := c
    have := Nat.eq_of_beq_eq_true h
    subst this
    exact ⟨x, rfl⟩
theorem ok_aast {N : Nt} {mi : Mi} {pc t : Nat} {l9 : List Nat} {E : String} (hE : aty t = .object E) (hl9 : CastL l9 E) (d : decode mi.2.1 pc = .ok (.aastore, 1)) : OpOK N mi pc (o_wrQ t l9) := by
  intro G p l e R s m args below meth c b0 c0 d0 Q hC L st A r hr hP
  obtain ⟨hx, hb, hml, hown, htab, hret, hini, hts, hlk, htr, hd1, hd2, hG, hBs, hag⟩ := hC
  unfold o_wrQ at hr
  split at hr
  · next v i q rest =>
    obtain ⟨hg, hr⟩ := gd_some hr
    obtain ⟨hg1, hg2⟩ := Bool.and_eq_true_iff.mp hg
    obtain ⟨o, ho, hr⟩ := Option.bind_eq_some_iff.mp hr
    obtain ⟨c', hv, hr⟩ := Option.bind_eq_some_iff.mp hr
    cases hr
    intro H locs ls cells slots hR hS hl h1 h2
    obtain ⟨x, hx9⟩ := atag_spec hg1
    obtain ⟨t', n, f, hc, ht, hin, rfl⟩ := wrQ_spec hv
    rw [hx9] at hc
    cases hc
    obtain ⟨a1, a2, a3, a4, a5, a6, a7, a8⟩ := rep_arr hR hG hx9
    obtain ⟨g1, g2⟩ := inb_spec hin
    have a7' := a7 n (fun j => va_rf (f j))
    rw [hE] at a7'
    have key : ∀ (o9 : Option Nat) (H' : Heap), H'[q]? = some ((vp_cell (geT G t) (n, .inr (.inr (.inr (.inr f))))).setSlot i.toNatClampNeg (va_rf o9)) → H'.size = H.size → (∀ x : Nat, x ≠ q → H'[x]? = H[x]?) → RepH G (seta A q (t, (n, .inr (.inr (.inr (.inr (va_up f i.toNatClampNeg o9))))))) H' := fun o9 H' e1 e2 e3 => rep_seta (c' := (t, (n, .inr (.inr (.inr (.inr (va_up f i.toNatClampNeg o9))))))) hR a2 a3 rfl trivial (by
          rw [e1]
          dsimp only
          rw [vp_cell_q, vp_cell_q, arrV_store]
          congr 2
          funext z
          by_cases hz : z = i.toNatClampNeg
          · subst hz; simp [updV, va_up]
          · simp [updV, va_up, hz]) e2 e3
    cases v with
    | null =>
      cases ho
      exact va_WaastN (C := E) hx hb a5 a7' (fun q => by cases q) (arr_in _ _ g1) rfl rfl d fun H' e1 e2 e3 => hP.2 H' _ ls cells slots (key none H' e1 e2 e3) (va_S_put hS e2 e3 a1) hl h1 h2
    | ref y =>
      cases ho
      obtain ⟨ci, hc, hm⟩ := cin_spec (show cin (gcs A y) l9 = true from hg2)
      obtain ⟨r, cell, e0, e1, e2, e3, e4⟩ := rep_cl hR hG hS hag hc
      obtain ⟨r', e0', hw⟩ := hl9 ci hm
      have e : r' = r := Option.some.inj (e0'.symm.trans e0)
      subst e
      rw [hE] at a8
      obtain ⟨kA, comp, k1, k2, k3, -⟩ := a8
      obtain ⟨kE, hkE, -⟩ := Vm.findClass_spec k3
      have e5 := e4
      obtain ⟨-, kC, hkC, -⟩ := e4
      refine W.aast hx hb a5 (fun q h => by cases h) (fun h => by cases h) k1 k2 rfl hkE ⟨fun q => g1 (Or.inl q), by show _ < (arrV _ _ _).slots.size; rw [arrV_size]; exact g2⟩ e1 (fun q h => by rw [h] at e2; cases e2) hkC (cast_asg hG e5 hw k3) rfl rfl d fun H' b1 b2 b3 => ?_
      exact hP.2 H' _ ls cells slots (key (some y) H' b1 b2 b3) (va_S_put hS b2 b3 a1) hl h1 h2
    | _ => cases ho
  · cases hr
theorem okn_spec {n : Int32} (h : okn n = true) : ¬ n < 0 ∧ n.toNatClampNeg ≤ 60000000 := by
  obtain ⟨a, b⟩ := Bool.and_eq_true_iff.mp h
  exact ⟨Int32.not_lt.mpr (of_decide_eq_true a), of_decide_eq_true b⟩
theorem zar_p (t n : Nat) : (zar t n).1 = t ∧ (zar t n).2.1 = n := by
  match t with
  | 0 => exact ⟨rfl, rfl⟩
  | 1 => exact ⟨rfl, rfl⟩
  | 2 => exact ⟨rfl, rfl⟩
  | 3 => exact ⟨rfl, rfl⟩
  | 4 => exact ⟨rfl, rfl⟩
  | t + 5 => exact ⟨rfl, rfl⟩
theorem ok_newa {N : Nt} {mi : Mi} {pc t : Nat} {at9 : ArrayType} (ht : t < 5) (hat : newarray.typeOf at9 = aty t) (w : Cond.arrayClass (aty t) ∈ lw_all) (d : decode mi.2.1 pc = .ok (.newarray at9, 2)) : OpOK N mi pc (o_newa t 2) := by
  intro G p l e R s m args below meth c b0 c0 d0 Q hC L st A r hr hP
  obtain ⟨hx, hb, hml, hown, htab, hret, hini, hts, hlk, htr, hd1, hd2, hG, hBs, hag⟩ := hC
  unfold o_newa at hr
  split at hr
  · next n rest =>
    obtain ⟨hg, hr⟩ := gd_some hr
    cases hr
    obtain ⟨g1, g2⟩ := okn_spec hg
    intro H locs ls cells slots hR hS hl h3 h4
    have hrm := hP.1
    have hz := zar_p t n.toNatClampNeg
    have hr1 : nx A + 1 ≤ R.cells + b0 := hrm.1
    have hr2 : su A + (zar t n.toNatClampNeg).2.1 ≤ R.slots + c0 := hrm.2
    rw [hz.2] at hr2
    have h3 : cells + b0 = nx A := h3
    have h4 : slots + c0 = su A := h4
    have hsz : H.size = nx A := hR.2.1
    have hcb : ∀ ty : FieldType, componentBytes ty ≤ 8 := fun ty => by cases ty <;> exact Nat.le_of_ble_eq_true rfl
    refine va_newaK hx hb (by rw [hat]; exact hts _ w) rfl d rfl g1 rfl (Nat.le_trans (Nat.mul_le_mul g2 (hcb _)) (by decide)) (by omega) (by omega) hsz fun H' cA e1 z1 o1 hAr hNm => ?_
    rw [← hsz] at e1 z1 o1
    rw [hat] at hNm e1
    have hA9 := (hG.1.2 t _ (tys_at G (Nat.lt_trans ht (by decide)))).2
    have hcA : cA = geT G t := by
      have q : s.vm.findClass ("[" ++ (aty t).toString) = some (geT G t) := by
        have h5 : t = 0 ∨ t = 1 ∨ t = 2 ∨ t = 3 ∨ t = 4 := by omega
        rcases h5 with rfl | rfl | rfl | rfl | rfl <;> exact hA9
      exact Option.some.inj (hNm.symm.trans q)
    subst hcA
    have hR' := rep_newa (c := zar t n.toNatClampNeg) hR (by rw [hz.1]; omega) (by
        have h5 : t = 0 ∨ t = 1 ∨ t = 2 ∨ t = 3 ∨ t = 4 := by omega
        rcases h5 with rfl | rfl | rfl | rfl | rfl <;> first | exact fun _ => rfl | trivial) (by
        rw [e1]
        have h5 : t = 0 ∨ t = 1 ∨ t = 2 ∨ t = 3 ∨ t = 4 := by omega
        rcases h5 with rfl | rfl | rfl | rfl | rfl <;> rfl) z1 o1
    exact hP.2 H' locs ls (cells + 1) (slots + n.toNatClampNeg) hR' (va_S_new hS z1 o1) hl (by show cells + 1 + b0 = nx A + 1; omega) (by show slots + n.toNatClampNeg + c0 = su A + (zar t n.toNatClampNeg).2.1; rw [hz.2]; omega)
  · cases hr
theorem ok_anew {N : Nt} {mi : Mi} {pc index t : Nat} {C : String} (ht : 5 ≤ t) (ht2 : t < 10) (hat : aty t = .object C) (w : Cond.classLink mi.1 index C ∈ lw_all) (w2 : Cond.arrayOver (.object C) ∈ lw_tbl) (d : decode mi.2.1 pc = .ok (.anewarray index, 3)) : OpOK N mi pc (o_newa t 3) := by
  intro G p l e R s m args below meth c b0 c0 d0 Q hC L st A r hr hP
  obtain ⟨hx, hb, hml, hown, htab, hret, hini, hts, hlk, htr, hd1, hd2, hG, hBs, hag⟩ := hC
  unfold o_newa at hr
  split at hr
  · next n rest =>
    obtain ⟨hg, hr⟩ := gd_some hr
    cases hr
    obtain ⟨g1, g2⟩ := okn_spec hg
    intro H locs ls cells slots hR hS hl h3 h4
    have hrm := hP.1
    have hz := zar_p t n.toNatClampNeg
    have hr1 : nx A + 1 ≤ R.cells + b0 := hrm.1
    have hr2 : su A + (zar t n.toNatClampNeg).2.1 ≤ R.slots + c0 := hrm.2
    rw [hz.2] at hr2
    have h3 : cells + b0 = nx A := h3
    have h4 : slots + c0 = su A := h4
    have hsz : H.size = nx A := hR.2.1
    refine W.anew hx hb hown (hts _ w) (va_AO.use (hG.2.2.2.2.1 _ w2)) rfl d rfl g1 (by omega) (by omega) (by omega) fun cA kA comp f1 f2 f3 f4 => ?_
    generalize hH1 : H.push ({ cls := cA, slots := Array.replicate n.toNatClampNeg .null, vm := .none } : Cell) = H1
    have z1 : H1.size = H.size + 1 := by rw [← hH1, Array.size_push]
    have e1 : H1[H.size]? = some (arrV cA n.toNatClampNeg (fun _ => .null)) := by rw [← hH1, Array.getElem?_push_size, ← arrV_new]
    have o1 : ∀ q : Nat, q < H.size → H1[q]? = H[q]? := fun q hq => by rw [← hH1, Array.getElem?_push, if_neg (Nat.ne_of_lt hq)]
    have hA9 := (hG.1.2 t _ (tys_at G ht2)).2
    have hcA : cA = geT G t := by
      have hA8 : va_RA s (geT G t) (aty t) := hA9
      rw [hat] at hA8
      obtain ⟨_, _, -, -, -, q⟩ := hA8
      exact Option.some.inj (f1.symm.trans q)
    subst hcA
    obtain ⟨t0, rfl⟩ : ∃ t0, t = t0 + 5 := ⟨t - 5, by omega⟩
    have hR' := rep_newa (c := zar (t0 + 5) n.toNatClampNeg) hR ht2 trivial e1 z1 o1
    have k := hP.2 H1 locs ls (cells + 1) (slots + n.toNatClampNeg) hR' (va_S_new hS z1 o1) hl (by show cells + 1 + b0 = nx A + 1; omega) (by show slots + n.toNatClampNeg + c0 = su A + n.toNatClampNeg; omega)
    rw [hsz]
    exact k
  · cases hr
