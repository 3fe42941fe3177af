/-! soundness: natives, casts of arrays, lookupswitch -/
theorem nnI (z : Int32) (hz : ¬ z < 0) : z.toInt = (z.toNatClampNeg : Int) := by
  have hz0 : (0 : Int) ≤ z.toInt := by
    have := Int32.not_lt.mp hz
    simpa using Int32.le_iff_toInt_le.mp this
  show z.toInt = ((z.toInt.toNat : Nat) : Int)
  omega
theorem cp_g {t t0 t1 n0 n1 : Nat} {sp dp n : Int32} (h : ((Nat.beq t0 t && Nat.beq t1 t) && ((decide (0 ≤ sp) && decide (0 ≤ dp) && decide (0 ≤ n)) && (Nat.ble (sp.toNatClampNeg + n.toNatClampNeg) n0 && Nat.ble (dp.toNatClampNeg + n.toNatClampNeg) n1))) = true) :
    t0 = t ∧ t1 = t ∧ ¬ sp < 0 ∧ ¬ dp < 0 ∧ ¬ n < 0 ∧ sp.toNatClampNeg + n.toNatClampNeg ≤ n0 ∧ dp.toNatClampNeg + n.toNatClampNeg ≤ n1 := by
  simp only [Bool.and_eq_true, decide_eq_true_eq] at h
  obtain ⟨⟨h1, h2⟩, ⟨⟨h3, h4⟩, h5⟩, h6, h7⟩ := h
  exact ⟨Nat.eq_of_beq_eq_true h1, Nat.eq_of_beq_eq_true h2, Int32.not_lt.mpr h3, Int32.not_lt.mpr h4, Int32.not_lt.mpr h5, Nat.le_of_ble_eq_true h6, Nat.le_of_ble_eq_true h7⟩
theorem cpI_spec {t : Nat} {c0 c1 : Option ArC} {sp dp n : Int32} {c : ArC} (h : cpI t c0 c1 sp dp n = some c) : ∃ (n0 n1 : Nat) (f g : Nat → Int32), c0 = some (t, (n0, .inl f)) ∧ c1 = some (t, (n1, .inl g)) ∧ ¬ sp < 0 ∧ ¬ dp < 0 ∧ ¬ n < 0 ∧ sp.toNatClampNeg + n.toNatClampNeg ≤ n0 ∧ dp.toNatClampNeg + n.toNatClampNeg ≤ n1 ∧ c = (t, (n1, .inl (va_cpy f g sp.toNatClampNeg dp.toNatClampNeg n.toNatClampNeg))) := by
  unfold cpI at h
  split at h
  · next t0 n0 f t1 n1 g =>
    cases hb : ((Nat.beq t0 t && Nat.beq t1 t) && ((decide (0 ≤ sp) && decide (0 ≤ dp) && decide (0 ≤ n)) && (Nat.ble (sp.toNatClampNeg + n.toNatClampNeg) n0 && Nat.ble (dp.toNatClampNeg + n.toNatClampNeg) n1))) with
    | false => rw [hb] at h; cases h
    | true =>
      rw [hb] at h
      cases h
      obtain ⟨rfl, rfl, h3⟩ := cp_g hb
      exact ⟨n0, n1, f, g, rfl, rfl, h3.1, h3.2.1, h3.2.2.1, h3.2.2.2.1, h3.2.2.2.2, rfl⟩
  · cases h
theorem cpQ_spec {t : Nat} {c0 c1 : Option ArC} {sp dp n : Int32} {c : ArC} (h : cpQ t c0 c1 sp dp n = some c) : ∃ (n0 n1 : Nat) (f g : Nat → Option Nat), c0 = some (t, (n0, .inr (.inr (.inr (.inr f))))) ∧ c1 = some (t, (n1, .inr (.inr (.inr (.inr g))))) ∧ ¬ sp < 0 ∧ ¬ dp < 0 ∧ ¬ n < 0 ∧ sp.toNatClampNeg + n.toNatClampNeg ≤ n0 ∧ dp.toNatClampNeg + n.toNatClampNeg ≤ n1 ∧ c = (t, (n1, .inr (.inr (.inr (.inr (va_cpy f g sp.toNatClampNeg dp.toNatClampNeg n.toNatClampNeg)))))) := by
  unfold cpQ at h
  split at h
  · next t0 n0 f t1 n1 g =>
    cases hb : ((Nat.beq t0 t && Nat.beq t1 t) && ((decide (0 ≤ sp) && decide (0 ≤ dp) && decide (0 ≤ n)) && (Nat.ble (sp.toNatClampNeg + n.toNatClampNeg) n0 && Nat.ble (dp.toNatClampNeg + n.toNatClampNeg) n1))) with
    | false => rw [hb] at h; cases h
    | true =>
      rw [hb] at h
      cases h
      obtain ⟨rfl, rfl, h3⟩ := cp_g hb
      exact ⟨n0, n1, f, g, rfl, rfl, h3.1, h3.2.1, h3.2.2.1, h3.2.2.2.1, h3.2.2.2.2, rfl⟩
  · cases h
theorem va_S_puts {G : Ge} {H0 H H1 : Heap} {locs L : List Loc} {a : Nat} (h : va_S (geA G) H0 H locs) (z : H1.size = H.size) (oq : ∀ q : Nat, q ≠ a → H1[q]? = H[q]?) (ha : geB G ≤ a) (hL : ∀ x ∈ L, x.base = a) : va_S (geA G) H0 H1 (locs ++ L) := by
  refine ⟨by rw [z]; exact h.1, fun q g1 g2 => ?_, fun x hx => ?_⟩
  · rw [oq q (fun e => g2 (by rw [e]; exact ha))]
    exact h.2.1 q g1 g2
  · rcases List.mem_append.mp hx with k | k
    · exact h.2.2 x k
    · rw [hL x k]; exact ha
theorem nfw_cp : nativeFrameWords "java/lang/System" "arraycopy" 5 + 11 ≤ 100 := by decide +kernel
theorem ok_cpI {N : Nt} {mi : Mi} {pc index t : Nat} (ht : t < 2) (w1 : Cond.methodLink mi.1 index arraycopyName ∈ lw_all) (w2 : Cond.native arraycopyName ∈ lw_all) (w3 : Cond.static arraycopyName ∈ lw_all) (w4 : Cond.initialized "java/lang/System" ∈ lw_all) (d : decode mi.2.1 pc = .ok (.invokestatic index, 3)) : OpOK N mi pc (o_cpI t) := by
  intro G p l e R s m args below meth c b0 c0 d0 Q hC L st A r hr hP
  obtain ⟨hx, hb, hml, hown, htab, hret, hini, hts, hlk, htr, hd1, hd2, hG, hBs, hag⟩ := hC
  unfold o_cpI at hr
  split at hr
  · next n dp b sp a rest =>
    obtain ⟨hg, hr⟩ := gd_some hr
    obtain ⟨c', hv, hr⟩ := Option.bind_eq_some_iff.mp hr
    cases hr
    have hg := Nat.le_of_ble_eq_true hg
    intro H locs ls cells slots hR hS hl h1 h2
    obtain ⟨n0, n1, f, g, e0, e1, g1, g2, g3, g4, g5, rfl⟩ := cpI_spec hv
    obtain ⟨a1, a2, a3, a4, a5, a6, a7, a8⟩ := rep_arr hR hG e0
    obtain ⟨b1, b2, b3, b4, b5, b6, b7, b8⟩ := rep_arr hR hG e1
    have hprim : refKind (aty t) = false := by
      have h5 : t = 0 ∨ t = 1 := by omega
      rcases h5 with rfl | rfl <;> rfl
    have hcs := cat_sum rest
    have hlf : lfL = 10400 := rfl
    have hnf := nfw_cp
    intro T hT X
    obtain ⟨-, k0, hk0, cm0, hkk0⟩ := a7 n0 (fun j => .int (f j))
    obtain ⟨-, k1, hk1, cm1, hkk1⟩ := b7 n1 (fun j => .int (g j))
    obtain ⟨vm', X', step⟩ := X.arraycopy hx hown (hts _ w1) (hts _ w2) (hts _ w3) (hts _ w4) (src := a) (dst := b) (cs := vp_cell (geT G t) (n0, .inl f)) (cd := vp_cell (geT G t) (n1, .inl g)) (srcPos := sp) (destPos := dp) (n := n) (by rw [hT]; exact a5) (by rw [hT]; exact b5)
      (fun _ h => by cases h) (fun _ h => by cases h) (fun h => by cases h) (fun h => by cases h) hk0 hk1 hkk0 hkk1 (by simp [hprim]) g1 g2 g3
      (by rw [nnI sp g1, nnI n g3]; show ¬ _ > ((arrV (geT G t) n0 (fun j => .int (f j))).slots.size : Int); rw [arrV_size]; omega)
      (by rw [nnI dp g2, nnI n g3]; show ¬ _ > ((arrV (geT G t) n1 (fun j => .int (g j))).slots.size : Int); rw [arrV_size]; omega)
      (fun vm₁ _ i hi => by
        have e : (vp_cell (geT G t) (n0, .inl f)).slots.getD (sp.toNatClampNeg + i) .null = .int (f (sp.toNatClampNeg + i)) := by
          show (arrV (geT G t) n0 (fun j => .int (f j))).slots.getD _ _ = _
          rw [Array.getD_eq_getD_getElem?, arrV_read _ _ (by omega)]
          rfl
        refine ⟨?_, ?_⟩
        · rw [e]
          exact a6 _
        · rw [e]
          exact trivial)
      (g := F0 m pc ls (.int n :: .int dp :: .ref b :: .int sp :: .ref a :: rest)) rfl (by show ls.size = _; rw [hl.2.1, hml]) (rest := rest) rfl (by rw [hb]; exact d) (by omega) (by show 2 * 0 + _ + _ ≤ _; omega)
    have e1 : copied (vp_cell (geT G t) (n0, .inl f)) (vp_cell (geT G t) (n1, .inl g)) sp dp n = vp_cell (geT G t) (n1, .inl (va_cpy f g sp.toNatClampNeg dp.toNatClampNeg n.toNatClampNeg)) := va_copied (fun z => .int z) _ _ f g g4
    rw [e1] at X' step
    have hl9 : b < H.size := (Array.getElem?_eq_some_iff.mp b5).1
    have hheap : ((T.setVm vm').setCell b (vp_cell (geT G t) (n1, .inl (va_cpy f g sp.toNatClampNeg dp.toNatClampNeg n.toNatClampNeg)))).heap = H.setIfInBounds b (vp_cell (geT G t) (n1, .inl (va_cpy f g sp.toNatClampNeg dp.toNatClampNeg n.toNatClampNeg))) := by rw [← hT]; rfl
    have oq : ∀ q : Nat, q ≠ b → (H.setIfInBounds b (vp_cell (geT G t) (n1, .inl (va_cpy f g sp.toNatClampNeg dp.toNatClampNeg n.toNatClampNeg))))[q]? = H[q]? := fun q hq => by simp [Array.getElem?_setIfInBounds, Ne.symm hq]
    have hz : (H.setIfInBounds b (vp_cell (geT G t) (n1, .inl (va_cpy f g sp.toNatClampNeg dp.toNatClampNeg n.toNatClampNeg)))).size = H.size := by simp
    have hR' := rep_seta (c' := (t, (n1, .inl (va_cpy f g sp.toNatClampNeg dp.toNatClampNeg n.toNatClampNeg)))) hR b2 b3 rfl (fun j => by unfold va_cpy; split; exact a6 _; exact b6 _) (show (H.setIfInBounds b _)[b]? = some _ by simp [Array.getElem?_setIfInBounds, hl9]) hz oq
    obtain ⟨t9, c1, c2⟩ := hP.2 _ _ ls cells slots hR' (va_S_puts hS hz oq b1 (fun x hx => by
      obtain ⟨z, -, hz9⟩ := List.mem_map.mp hx
      rw [← hz9])) hl h1 h2 _ hheap X'
    exact ⟨t9, step t9 c1, c2⟩
  · cases hr
theorem ok_cpQ {N : Nt} {mi : Mi} {pc index t : Nat} {l9 : List Nat} {E : String} (hE : aty t = .object E) (hl9 : CastL l9 E) (w1 : Cond.methodLink mi.1 index arraycopyName ∈ lw_all) (w2 : Cond.native arraycopyName ∈ lw_all) (w3 : Cond.static arraycopyName ∈ lw_all) (w4 : Cond.initialized "java/lang/System" ∈ lw_all) (d : decode mi.2.1 pc = .ok (.invokestatic index, 3)) : OpOK N mi pc (o_cpQ t l9) := by
  intro G p l e R s m args below meth c b0 c0 d0 Q hC L st A r hr hP
  obtain ⟨hx, hb, hml, hown, htab, hret, hini, hts, hlk, htr, hd1, hd2, hG, hBs, hag⟩ := hC
  unfold o_cpQ at hr
  split at hr
  · next n dp b sp a rest =>
    obtain ⟨hg, hr⟩ := gd_some hr
    obtain ⟨hg, hokc⟩ := Bool.and_eq_true_iff.mp hg
    obtain ⟨c', hv, hr⟩ := Option.bind_eq_some_iff.mp hr
    cases hr
    have hg := Nat.le_of_ble_eq_true hg
    intro H locs ls cells slots hR hS hl h1 h2
    obtain ⟨n0, n1, f, g, e0, e1, g1, g2, g3, g4, g5, rfl⟩ := cpQ_spec hv
    rw [e0] at hokc
    obtain ⟨a1, a2, a3, a4, a5, a6, a7, a8⟩ := rep_arr hR hG e0
    obtain ⟨b1, b2, b3, b4, b5, b6, b7, b8⟩ := rep_arr hR hG e1
    have hcs := cat_sum rest
    have hlf : lfL = 10400 := rfl
    have hnf := nfw_cp
    intro T hT X
    rw [hE] at a7 b7 b8
    obtain ⟨-, k0, hk0, cm0, hkk0⟩ := a7 n0 (fun j => va_rf (f j))
    obtain ⟨-, k1, hk1, cm1, hkk1⟩ := b7 n1 (fun j => va_rf (g j))
    obtain ⟨vm', X', step⟩ := X.arraycopy hx hown (hts _ w1) (hts _ w2) (hts _ w3) (hts _ w4) (src := a) (dst := b) (cs := vp_cell (geT G t) (n0, .inr (.inr (.inr (.inr f))))) (cd := vp_cell (geT G t) (n1, .inr (.inr (.inr (.inr g))))) (srcPos := sp) (destPos := dp) (n := n) (by rw [hT]; exact a5) (by rw [hT]; exact b5)
      (fun _ h => by cases h) (fun _ h => by cases h) (fun h => by cases h) (fun h => by cases h) hk0 hk1 hkk0 hkk1 rfl g1 g2 g3
      (by rw [nnI sp g1, nnI n g3]; show ¬ _ > ((arrV (geT G t) n0 (fun j => va_rf (f j))).slots.size : Int); rw [arrV_size]; omega)
      (by rw [nnI dp g2, nnI n g3]; show ¬ _ > ((arrV (geT G t) n1 (fun j => va_rf (g j))).slots.size : Int); rw [arrV_size]; omega)
      (fun vm₁ hal i hi => by
        have e : (vp_cell (geT G t) (n0, .inr (.inr (.inr (.inr f))))).slots.getD (sp.toNatClampNeg + i) .null = va_rf (f (sp.toNatClampNeg + i)) := by
          show (arrV (geT G t) n0 (fun j => va_rf (f j))).slots.getD _ _ = _
          rw [Array.getD_eq_getD_getElem?, arrV_read _ _ (by omega)]
          rfl
        rw [e]
        cases hy : f (sp.toNatClampNeg + i) with
        | none => exact ⟨rfl, trivial⟩
        | some y =>
          have hc9 := List.all_eq_true.mp (show ((List.range n.toNatClampNeg).all fun i => match f (sp.toNatClampNeg + i) with
            | some q => cin (gcs A q) l9
            | none => true) = true from hokc) i (List.mem_range.mpr hi)
          rw [hy] at hc9
          obtain ⟨ci, hc, hm⟩ := cin_spec (show cin (gcs A y) l9 = true from hc9)
          obtain ⟨r, cellV, f0, f1, f2, f3, f4⟩ := rep_cl hR hG hS hag hc
          obtain ⟨r', f0', hw⟩ := hl9 ci hm
          have e : r' = r := Option.some.inj (f0'.symm.trans f0)
          subst e
          obtain ⟨kA, comp, r1, r2, r3, -⟩ := b8
          cases hk1.symm.trans r1
          cases hkk1.symm.trans r2
          obtain ⟨kE, hkE, -⟩ := Vm.findClass_spec r3
          obtain ⟨kC, hkC, -⟩ := Vm.findClass_spec f3
          obtain ⟨kC', hkC', -⟩ := hal.2.2 _ _ hkC
          obtain ⟨kE', hkE', -⟩ := hal.2.2 _ _ hkE
          refine ⟨rfl, cellV, (show T.heap[y]? = some cellV by rw [hT]; exact f1), (fun q h => by rw [h] at f2; cases f2), ⟨kC', hkC'⟩, ?_, ?_⟩
          · exact ⟨kE', hkE'⟩
          · show vm₁.assignable _ _ = true
            rw [hal.assignable]
            exact cast_asg hG f4 hw r3)
      (g := F0 m pc ls (.int n :: .int dp :: .ref b :: .int sp :: .ref a :: rest)) rfl (by show ls.size = _; rw [hl.2.1, hml]) (rest := rest) rfl (by rw [hb]; exact d) (by omega) (by show 2 * 0 + _ + _ ≤ _; omega)
    have e1 : copied (vp_cell (geT G t) (n0, .inr (.inr (.inr (.inr f))))) (vp_cell (geT G t) (n1, .inr (.inr (.inr (.inr g))))) sp dp n = vp_cell (geT G t) (n1, .inr (.inr (.inr (.inr (va_cpy f g sp.toNatClampNeg dp.toNatClampNeg n.toNatClampNeg))))) := by
      rw [vp_cell_q, vp_cell_q, vp_cell_q]
      exact va_copied (fun z => va_rf z) _ _ f g g4
    rw [e1] at X' step
    have hl9' : b < H.size := (Array.getElem?_eq_some_iff.mp b5).1
    have hheap : ((T.setVm vm').setCell b (vp_cell (geT G t) (n1, .inr (.inr (.inr (.inr (va_cpy f g sp.toNatClampNeg dp.toNatClampNeg n.toNatClampNeg))))))).heap = H.setIfInBounds b (vp_cell (geT G t) (n1, .inr (.inr (.inr (.inr (va_cpy f g sp.toNatClampNeg dp.toNatClampNeg n.toNatClampNeg)))))) := by rw [← hT]; rfl
    have oq : ∀ q : Nat, q ≠ b → (H.setIfInBounds b (vp_cell (geT G t) (n1, .inr (.inr (.inr (.inr (va_cpy f g sp.toNatClampNeg dp.toNatClampNeg n.toNatClampNeg)))))))[q]? = H[q]? := fun q hq => by simp [Array.getElem?_setIfInBounds, Ne.symm hq]
    have hz : (H.setIfInBounds b (vp_cell (geT G t) (n1, .inr (.inr (.inr (.inr (va_cpy f g sp.toNatClampNeg dp.toNatClampNeg n.toNatClampNeg))))))).size = H.size := by simp
    have hR' := rep_seta (c' := (t, (n1, .inr (.inr (.inr (.inr (va_cpy f g sp.toNatClampNeg dp.toNatClampNeg n.toNatClampNeg))))))) hR b2 b3 rfl trivial (show (H.setIfInBounds b _)[b]? = some _ by simp [Array.getElem?_setIfInBounds, hl9']) hz oq
    obtain ⟨t9, c1, c2⟩ := hP.2 _ _ ls cells slots hR' (va_S_puts hS hz oq b1 (fun x hx => by
      obtain ⟨z, -, hz9⟩ := List.mem_map.mp hx
      rw [← hz9])) hl h1 h2 _ hheap X'
    exact ⟨t9, step t9 c1, c2⟩
  · cases hr
theorem ok_casta {N : Nt} {mi : Mi} {pc index t : Nat} {nm : String} (hn : "[" ++ (aty t).toString = nm) (w : Cond.classLink mi.1 index nm ∈ lw_all) (d : decode mi.2.1 pc = .ok (.checkcast index, 3)) : OpOK N mi pc (o_casta t) := by
  intro G p l e R s m args below meth c b0 c0 d0 Q hC L st A r hr hP
  obtain ⟨hx, hb, hml, hown, htab, hret, hini, hts, hlk, htr, hd1, hd2, hG, hBs, hag⟩ := hC
  unfold o_casta at hr
  split at hr
  · next q rest =>
    obtain ⟨hg, hr⟩ := gd_some hr
    cases hr
    intro H locs ls cells slots hR hS hl h1 h2
    obtain ⟨x, hx9⟩ := atag_spec hg
    obtain ⟨a1, a2, a3, a4, a5, a6, a7, a8⟩ := rep_arr hR hG hx9
    have hnm : s.vm.findClass nm = some (geT G t) := by
      rw [← hn]
      unfold va_RA at a8
      split at a8
      · next C hC9 =>
        obtain ⟨_, _, -, -, -, q⟩ := a8
        dsimp only at hC9
        rw [hC9]; exact q
      · exact a8
    intro T hT X
    obtain ⟨vm', X', st9⟩ := X.checkcastYes hx hown (hts _ w) (by rw [hT]; exact a5) (by rw [vp_none]; rfl) hnm (by rw [vp_cls]; exact va_asg _ _) (g := F0 m pc ls (.ref q :: rest)) rfl rfl (by rw [hb]; exact d)
    obtain ⟨t9, c1, c2⟩ := hP.2 H locs ls cells slots hR hS hl h1 h2 (T.setVm vm') hT X'
    exact ⟨t9, st9 t9 c1, c2⟩
  · cases hr
theorem ok_gcl {N : Nt} {mi : Mi} {pc index : Nat} (w1 : Cond.methodLink mi.1 index ⟨"java/lang/Object", "getClass", "()Ljava/lang/Class;"⟩ ∈ lw_all) (w2 : Cond.declares ⟨"java/lang/Object", "getClass", "()Ljava/lang/Class;"⟩ ∈ lw_tbl)
    (w3 : Cond.selects "[Ljava/lang/Object;" ⟨"java/lang/Object", "getClass", "()Ljava/lang/Class;"⟩ ⟨"java/lang/Object", "getClass", "()Ljava/lang/Class;"⟩ ∈ lw_all) (w4 : Cond.instanceMethod ⟨"java/lang/Object", "getClass", "()Ljava/lang/Class;"⟩ ∈ lw_all) (w5 : Cond.native ⟨"java/lang/Object", "getClass", "()Ljava/lang/Class;"⟩ ∈ lw_all) (d : decode mi.2.1 pc = .ok (.invokevirtual index, 3)) : OpOK N mi pc (o_gcl 5 0) := by
  intro G p l e R s m args below meth c b0 c0 d0 Q hC L st A r hr hP
  obtain ⟨hx, hb, hml, hown, htab, hret, hini, hts, hlk, htr, hd1, hd2, hG, hBs, hag⟩ := hC
  unfold o_gcl at hr
  split at hr
  · next q rest =>
    obtain ⟨hg, hr⟩ := gd_some hr
    obtain ⟨hg, hg2⟩ := Bool.and_eq_true_iff.mp hg
    have hg2 := Nat.le_of_ble_eq_true hg2
    cases hr
    intro H locs ls cells slots hR hS hl h1 h2
    obtain ⟨x, hx9⟩ := atag_spec hg
    obtain ⟨a1, a2, a3, a4, a5, a6, a7, a8⟩ := rep_arr hR hG hx9
    have hnm : s.vm.findClass "[Ljava/lang/Object;" = some (geT G 5) := by
      obtain ⟨_, _, -, -, -, q⟩ := (show va_RA s (geT G 5) (.object "java/lang/Object") from a8)
      exact q
    have hcs := cat_sum rest
    have hlf : lfL = 10400 := rfl
    have k := hP.2 H locs ls cells slots hR hS hl h1 h2
    rw [show sg (pc + 3, L, .ref (sAd (sg A) 0) :: rest, A).2.2.2 = geS G from hR.1] at *
    exact va_getC hx hb (hml.trans hl.2.1.symm) hown (hts _ w1) (va_Nw.use rfl (hG.2.2.2.2.2.1 _ w2)) (hts _ w3) (hts _ w4) (hts _ w5) (g_mi hG) ⟨_, a5, by rw [vp_none]; rfl, by rw [vp_cls]; exact hnm⟩ (by omega) (by omega) d k
  · cases hr
theorem clone_go {G : Ge} {p : Program} {l : Launch} {e : Env} {R : Room} {s : State} {m : MethodId} {args : Array Value} {below : List Frame} {meth : Method} {c : Code} {mi : Mi} {d0 : Nat} {H : Heap} {locs : List Loc} {ls : Array Slot} {cells slots pc index a t : Nat} {Q : State → Prop} {A : Hp} {x : vp_A} {ad : String} {rest : List Value}
    (hC : Cx G p l R s m args meth c mi d0) (hn : "[" ++ (aty t).toString = ad) (w1 : Cond.methodLink mi.1 index ⟨ad, "clone", "()Ljava/lang/Object;"⟩ ∈ lw_all) (w2 : Cond.sameMethod ad "java/lang/Object" "clone" "()Ljava/lang/Object;" ∈ lw_all) (w3 : Cond.native ⟨"java/lang/Object", "clone", "()Ljava/lang/Object;"⟩ ∈ lw_all) (w4 : Cond.instanceMethod ⟨"java/lang/Object", "clone", "()Ljava/lang/Object;"⟩ ∈ lw_all)
    (w5 : Cond.selects ad ⟨ad, "clone", "()Ljava/lang/Object;"⟩ ⟨"java/lang/Object", "clone", "()Ljava/lang/Object;"⟩ ∈ lw_all) (w6 : Cond.castable ad "java/lang/Cloneable" ∈ lw_tbl) (d : decode mi.2.1 pc = .ok (.invokevirtual index, 3)) (hg : rest.length ≤ 4) (hc : ga A a = some (t, x)) (hR : RepH G A H) (hS : va_S (geA G) s.heap H locs) (hl : ls.size = mi.2.2.1) (hce : cells + 1 ≤ R.cells) (hsl : slots + x.1 ≤ R.slots)
    (hfit : ∀ (i : Nat) (v : Value), (vp_cell (geT G t) x).slots[i]? = some v → fits (aty t) v = true)
    (k : ∀ H1 : Heap, RepH G (newa A (t, x)) H1 → va_S (geA G) s.heap H1 locs → W p l e R s m args below meth c H1 locs (cells + 1) (slots + x.1) Q (F0 m (pc + 3) ls (.ref (nx A) :: rest))) : W p l e R s m args below meth c H locs cells slots Q (F0 m pc ls (.ref a :: rest)) := by
  obtain ⟨hx, hb, hml, hown, htab, hret, hini, hts, hlk, htr, hd1, hd2, hG, hBs, hag⟩ := hC
  obtain ⟨a1, a2, a3, a4, a5, a6, a7, a8⟩ := rep_arr hR hG hc
  have hnm : s.vm.findClass ad = some (geT G t) := by
    rw [← hn]
    unfold va_RA at a8
    split at a8
    · next C hC9 =>
      obtain ⟨_, _, -, -, -, q⟩ := a8
      dsimp only at hC9
      rw [hC9]; exact q
    · exact a8
  have hcs := cat_sum rest
  have hlf : lfL = 10400 := rfl
  obtain ⟨z0, t0', f1, f2, f3⟩ := Cond.castable_spec (va_Nw.use (A := args) rfl (hG.2.2.2.1 _ _ w6))
  cases hnm.symm.trans f1
  intro T hT X
  have hcellT : T.heap[a]? = some (vp_cell (geT G t) x) := by rw [hT]; exact a5
  obtain ⟨-, kA, hkA, comp, hkind⟩ := State.isArrayOf_alike X.warmed.alike (a7 0 (fun _ => .null))
  obtain ⟨-, kS, hkS, compS, hkindS⟩ := a7 0 (fun _ => .null)
  have hcellE : ({ cls := (vp_cell (geT G t) x).cls, slots := (vp_cell (geT G t) x).slots } : Cell) = vp_cell (geT G t) x := by
    obtain ⟨n, f | f | f | f | f⟩ := x <;> rfl
  obtain ⟨vm', X', st⟩ := X.cloneArray hx hown (hts _ w1) (hts _ w2) (hts _ w3) (hts _ w4) (hts _ w5) (a := a) (cell := vp_cell (geT G t) x) hcellT (fun k h => by rw [vp_none] at h; cases h) (by rw [vp_none]; exact fun h => by cases h) (by rw [vp_cls]; exact hnm) f2 (by rw [vp_cls]; exact f3)
    (fun i v hv => by
      rw [vp_cls]
      have hk' : T.vm.classes[geT G t]? = some kA := hkA
      simpa [State.fitsSlot, State.slotType?, hk', hkind] using hfit i v hv)
    (g := F0 m pc ls (.ref a :: rest)) rfl (by show ls.size = _; rw [hl, hml]) rfl (by rw [hb]; exact d) (by omega) (by show 2 * 0 + _ + 14 ≤ _; omega) hce (by rw [vp_size]; exact hsl) (hloader := by rw [vp_cls]; exact Vm.clonesLoader_of_array hkS hkindS)
  rw [hcellE, vp_size] at X'
  have hsz : H.size = nx A := hR.2.1
  generalize hH1 : H.push (vp_cell (geT G t) x) = H1
  have z1 : H1.size = H.size + 1 := by rw [← hH1, Array.size_push]
  have e1 : H1[H.size]? = some (vp_cell (geT G t) x) := by rw [← hH1, Array.getElem?_push_size]
  have o1 : ∀ q : Nat, q < H.size → H1[q]? = H[q]? := fun q hq => by rw [← hH1, Array.getElem?_push, if_neg (Nat.ne_of_lt hq)]
  obtain ⟨t9, b1, b2⟩ := k H1 (rep_newa (c := (t, x)) hR a4 a6 e1 z1 o1) (va_S_new hS z1 o1) ((T.setVm vm').pushCell (vp_cell (geT G t) x)) (by rw [← hH1, ← hT]; rfl) X'
  refine ⟨t9, st t9 ?_, b2⟩
  rw [hcellE, hT, hsz]
  exact b1
theorem fit_i {G : Ge} {t : Nat} {x : vp_A} (h : fitC (t, x)) (hx : ∃ n f, x = (n, .inl f)) : ∀ (i : Nat) (v : Value), (vp_cell (geT G t) x).slots[i]? = some v → fits (aty t) v = true := by
  obtain ⟨n, f, rfl⟩ := hx
  exact va_fit (n := n) (F := fun j => .int (f j)) (fun i _ => h i)
theorem ok_clnt {N : Nt} {mi : Mi} {pc index t : Nat} {op : Op} {ad : String} (hop : ∀ (L : Lc) (st : List Value) (A : Hp) (r : Cf ⊕ ((Out × Hp) ⊕ Cl)), op pc L st A = some r → ∃ (q n : Nat) (f : Nat → Int32) (rest : List Value), st = .ref q :: rest ∧ ga A q = some (t, (n, .inl f)) ∧ rest.length ≤ 4 ∧ r = .inl (pc + 3, (L, (.ref (nx A) :: rest, newa A (t, (n, .inl f))))))
    (hn : "[" ++ (aty t).toString = ad) (w1 : Cond.methodLink mi.1 index ⟨ad, "clone", "()Ljava/lang/Object;"⟩ ∈ lw_all) (w2 : Cond.sameMethod ad "java/lang/Object" "clone" "()Ljava/lang/Object;" ∈ lw_all) (w3 : Cond.native ⟨"java/lang/Object", "clone", "()Ljava/lang/Object;"⟩ ∈ lw_all) (w4 : Cond.instanceMethod ⟨"java/lang/Object", "clone", "()Ljava/lang/Object;"⟩ ∈ lw_all)
    (w5 : Cond.selects ad ⟨ad, "clone", "()Ljava/lang/Object;"⟩ ⟨"java/lang/Object", "clone", "()Ljava/lang/Object;"⟩ ∈ lw_all) (w6 : Cond.castable ad "java/lang/Cloneable" ∈ lw_tbl) (d : decode mi.2.1 pc = .ok (.invokevirtual index, 3)) : OpOK N mi pc op := by
  intro G p l e R s m args below meth c b0 c0 d0 Q hC L st A r hr hP
  obtain ⟨q, n, f, rest, rfl, h1, h2, rfl⟩ := hop L st A r hr
  intro H locs ls cells slots hR hS hl h3 h4
  have h3 : cells + b0 = nx A := h3
  have h4 : slots + c0 = su A := h4
  have hrm := hP.1
  have hr1 : nx A + 1 ≤ R.cells + b0 := hrm.1
  have hr2 : su A + n ≤ R.slots + c0 := hrm.2
  have hG := hC.2.2.2.2.2.2.2.2.2.2.2.2.1
  have a6 := (rep_arr hR hG h1).2.2.2.2.2.1
  exact clone_go hC hn w1 w2 w3 w4 w5 w6 d h2 h1 hR hS hl.2.1 (by omega) (by show slots + n ≤ _; omega) (fit_i a6 ⟨n, f, rfl⟩) (fun H1 hR1 hS1 => hP.2 H1 locs ls (cells + 1) (slots + n) hR1 hS1 hl (by show cells + 1 + b0 = nx A + 1; omega) (by show slots + n + c0 = su A + n; omega))
theorem ok_cln {N : Nt} {mi : Mi} {pc index : Nat} {ad : String} (hn : "[" ++ (aty 0).toString = ad) (w1 : Cond.methodLink mi.1 index ⟨ad, "clone", "()Ljava/lang/Object;"⟩ ∈ lw_all) (w2 : Cond.sameMethod ad "java/lang/Object" "clone" "()Ljava/lang/Object;" ∈ lw_all) (w3 : Cond.native ⟨"java/lang/Object", "clone", "()Ljava/lang/Object;"⟩ ∈ lw_all) (w4 : Cond.instanceMethod ⟨"java/lang/Object", "clone", "()Ljava/lang/Object;"⟩ ∈ lw_all)
    (w5 : Cond.selects ad ⟨ad, "clone", "()Ljava/lang/Object;"⟩ ⟨"java/lang/Object", "clone", "()Ljava/lang/Object;"⟩ ∈ lw_all) (w6 : Cond.castable ad "java/lang/Cloneable" ∈ lw_tbl) (d : decode mi.2.1 pc = .ok (.invokevirtual index, 3)) : OpOK N mi pc o_cln := by
  refine ok_clnt (t := 0) (fun L st A r hr => ?_) hn w1 w2 w3 w4 w5 w6 d
  unfold o_cln at hr
  split at hr
  · next q rest =>
    split at hr
    · next _ n f hc =>
      obtain ⟨hg, hr⟩ := gd_some hr
      cases hr
      exact ⟨q, n, f, rest, rfl, hc, Nat.le_of_ble_eq_true hg, rfl⟩
    · cases hr
  · cases hr
theorem ok_clnb {N : Nt} {mi : Mi} {pc index : Nat} {ad : String} (hn : "[" ++ (aty 1).toString = ad) (w1 : Cond.methodLink mi.1 index ⟨ad, "clone", "()Ljava/lang/Object;"⟩ ∈ lw_all) (w2 : Cond.sameMethod ad "java/lang/Object" "clone" "()Ljava/lang/Object;" ∈ lw_all) (w3 : Cond.native ⟨"java/lang/Object", "clone", "()Ljava/lang/Object;"⟩ ∈ lw_all) (w4 : Cond.instanceMethod ⟨"java/lang/Object", "clone", "()Ljava/lang/Object;"⟩ ∈ lw_all)
    (w5 : Cond.selects ad ⟨ad, "clone", "()Ljava/lang/Object;"⟩ ⟨"java/lang/Object", "clone", "()Ljava/lang/Object;"⟩ ∈ lw_all) (w6 : Cond.castable ad "java/lang/Cloneable" ∈ lw_tbl) (d : decode mi.2.1 pc = .ok (.invokevirtual index, 3)) : OpOK N mi pc o_clnb := by
  refine ok_clnt (t := 1) (fun L st A r hr => ?_) hn w1 w2 w3 w4 w5 w6 d
  unfold o_clnb at hr
  split at hr
  · next q rest =>
    split at hr
    · next _ n f hc =>
      obtain ⟨hg, hr⟩ := gd_some hr
      cases hr
      exact ⟨q, n, f, rest, rfl, hc, Nat.le_of_ble_eq_true hg, rfl⟩
    · cases hr
  · cases hr
theorem ok_lsw {mi : Mi} {pc len : Nat} {dflt : Int} {ps : Array (Int × Int)} {tb : List (Int32 × Nat)} {df : Nat} (h : ∀ x : Int32, (pc : Int) + Op.lookupswitch.offset ps.toList dflt x.toInt = (lsw tb df x : Int)) (hp : (ps.toList.zip (ps.toList.drop 1)).all (fun (a, next) => a.1 < next.1) = true) (d : decode mi.2.1 pc = .ok (.lookupswitch dflt ps, len)) : PuOK mi pc (o_sw (lsw tb df)) := by
  intro p l e R s m args below meth c Q hx hb hown hts L st A r hr
  unfold o_sw at hr
  split at hr
  · next x rest =>
    cases hr
    refine ⟨_, _, _, rfl, fun H locs cells slots ls hl k => ?_⟩
    exact lv_lookup hx hb d hp rfl (h x) (k ls hl)
  · cases hr
theorem ls_nil (pc : Nat) (dflt : Int) (df : Nat) (h : (pc : Int) + dflt = (df : Int)) (x : Int32) : (pc : Int) + Op.lookupswitch.offset [] dflt x.toInt = (lsw [] df x : Int) := h
