/-! SOUNDNESS of the abstract machine over the kit's rows: what a heap of it stands for -/
/-- classes' and fields' places, arrays' classes, where the run's own cells begin, the heap at the run's start, what stands still -/
abbrev Ge : Type := va_G × ((Nat → ClassId) × (Nat × (Heap × Sg)))
def geD (G : Ge) : va_G := G.1
def geT (G : Ge) : Nat → ClassId := G.2.1
def geB (G : Ge) : Nat := G.2.2.1
def geH (G : Ge) : Heap := G.2.2.2.1
def geS (G : Ge) : Sg := G.2.2.2.2
def geA (G : Ge) : Nat → Prop := fun q => geB G ≤ q
def tysG (G : Ge) : List (ClassId × FieldType) := (List.range 10).map fun t => (geT G t, aty t)
def fitC (c : ArC) : Prop := match c with
  | (t, (_, .inl f)) => ∀ j, fits (aty t) (.int (f j)) = true
  | _ => True
def RepO (G : Ge) (A : Hp) (H : Heap) : Prop := ∀ (p ci : Nat), p < nx A → A.2.1 p = some ci → geB G ≤ p ∧ A.2.2.1 p = none ∧ ∃ r : vw_C, CL[ci]? = some r ∧ t_OB p ((geD G).1 ci) r.2.2 ((geD G).2 ci) H (fun k => (A.1 (fidG ci k) p).getD .null)
def RepF (A : Hp) : Prop := ∀ (p f : Nat) (v : Value), p < nx A → A.1 f p = some v → ∃ (ci : Nat) (r : vw_C) (k : Nat), A.2.1 p = some ci ∧ CL[ci]? = some r ∧ k < r.2.2 ∧ f = fidG ci k
def RepA (G : Ge) (A : Hp) (H : Heap) : Prop := ∀ (p : Nat) (c : ArC), p < nx A → A.2.2.1 p = some c → geB G ≤ p ∧ c.1 < 10 ∧ H[p]? = some (vp_cell (geT G c.1) c.2) ∧ fitC c
def RepH (G : Ge) (A : Hp) (H : Heap) : Prop :=
  sg A = geS G ∧ H.size = nx A ∧ geB G ≤ nx A ∧ (∀ q : Nat, q < geB G → H[q]? = (geH G)[q]?) ∧ RepO G A H ∧ RepF A ∧ RepA G A H
/-- the locals: what stands in the list is there -/
def lvh (ls : Array Slot) (nL : Nat) (L : Lc) : Prop := L.length = nL ∧ ls.size = nL ∧ lv_wf ls ∧ ∀ (i : Nat) (v : Value), L[i]? = some (some v) → (v.category = 2 → L[i + 1]? = some none) → ls[i]? = some (.val v)
def lvl (L : Lc) : List (Nat × Value) := (List.range L.length).filterMap fun j => match L[j]? with
  | some (some v) => if v.category = 2 ∧ ¬ L[j + 1]? = some none then none else some (j, v)
  | _ => none
theorem lvl_mem {L : Lc} {j : Nat} {v : Value} : (j, v) ∈ lvl L ↔ L[j]? = some (some v) ∧ (v.category = 2 → L[j + 1]? = some none) := by
  unfold lvl
  rw [List.mem_filterMap]
  constructor
  · rintro ⟨i, hi, h⟩
    split at h
    · next w hw =>
      split at h
      · cases h
      · next hc =>
        cases h
        refine ⟨hw, fun h2 => ?_⟩
        by_cases hq : L[j + 1]? = some none
        · exact hq
        · exact absurd ⟨h2, hq⟩ hc
    · cases h
  · rintro ⟨h1, h2⟩
    refine ⟨j, List.mem_range.mpr (List.getElem?_eq_some_iff.mp h1).1, ?_⟩
    rw [h1]
    show (if v.category = 2 ∧ ¬ L[j + 1]? = some none then none else some (j, v)) = _
    rw [if_neg]
    rintro ⟨a, b⟩
    exact b (h2 a)
theorem lvh.has {ls : Array Slot} {nL : Nat} {L : Lc} (h : lvh ls nL L) : lv_has ls nL (lvl L) := by
  obtain ⟨h0, h1, h2, h3⟩ := h
  refine ⟨h1, h2, fun q hq => ?_⟩
  obtain ⟨i, v⟩ := q
  obtain ⟨a, b⟩ := lvl_mem.mp hq
  exact h3 i v a b
theorem lvh.set1 {ls ls' : Array Slot} {nL i : Nat} {L : Lc} {v : Value} (h : lvh ls nL L) (hi : i < nL) (hc : v.category = 1) (h' : lv_has ls' nL ((i, v) :: (lvl L).filter (fun q => !(q.1 == i) && !(q.1 + 1 == i && q.2.category == 2)))) : lvh ls' nL (L.set i (some v)) := by
  obtain ⟨h0, h1, h2, h3⟩ := h
  obtain ⟨g1, g2, g3⟩ := h'
  refine ⟨by rw [List.length_set]; exact h0, g1, g2, fun j w hj hw => ?_⟩
  by_cases hji : j = i
  · subst hji
    rw [List.getElem?_set_self (by omega)] at hj
    cases hj
    exact g3 _ List.mem_cons_self
  · rw [List.getElem?_set_ne (Ne.symm hji)] at hj
    have hw' : w.category = 2 → j + 1 ≠ i ∧ L[j + 1]? = some none := fun h2 => by
      have h5 := hw h2
      by_cases hq : j + 1 = i
      · rw [← hq, List.getElem?_set_self (by omega)] at h5
        cases h5
      · exact ⟨hq, by rw [List.getElem?_set_ne (Ne.symm hq)] at h5; exact h5⟩
    refine g3 (j, w) (List.mem_cons_of_mem _ (List.mem_filter.mpr ⟨lvl_mem.mpr ⟨hj, fun q => (hw' q).2⟩, ?_⟩))
    simp only [Bool.and_eq_true, Bool.not_eq_true', beq_eq_false_iff_ne, ne_eq, Bool.and_eq_false_iff]
    refine ⟨hji, ?_⟩
    by_cases q : w.category = 2
    · exact Or.inl (hw' q).1
    · exact Or.inr q
theorem lvh.set2 {ls ls' : Array Slot} {nL i : Nat} {L : Lc} {v : Value} (h : lvh ls nL L) (hi : i + 1 < nL) (hc : v.category = 2) (h' : lv_has ls' nL ((i, v) :: (lvl L).filter (fun q => !(q.1 == i) && (!(q.1 == i + 1) && !(q.1 + 1 == i && q.2.category == 2))))) : lvh ls' nL ((L.set i (some v)).set (i + 1) none) := by
  obtain ⟨h0, h1, h2, h3⟩ := h
  obtain ⟨g1, g2, g3⟩ := h'
  refine ⟨by rw [List.length_set, List.length_set]; exact h0, g1, g2, fun j w hj hw => ?_⟩
  have hl : (L.set i (some v)).length = nL := by rw [List.length_set]; exact h0
  by_cases hji : j = i
  · subst hji
    rw [List.getElem?_set_ne (by omega), List.getElem?_set_self (by omega)] at hj
    cases hj
    exact g3 _ List.mem_cons_self
  · by_cases hj1 : j = i + 1
    · subst hj1
      rw [List.getElem?_set_self (by omega)] at hj
      cases hj
    · rw [List.getElem?_set_ne (Ne.symm hj1), List.getElem?_set_ne (Ne.symm hji)] at hj
      have hw' : w.category = 2 → j + 1 ≠ i ∧ L[j + 1]? = some none := fun h2 => by
        have h5 := hw h2
        by_cases hq : j + 1 = i
        · rw [List.getElem?_set_ne (by omega), ← hq, List.getElem?_set_self (by omega)] at h5
          cases h5
        · by_cases hq2 : j + 1 = i + 1
          · omega
          · exact ⟨hq, by rw [List.getElem?_set_ne (Ne.symm hq2), List.getElem?_set_ne (Ne.symm hq)] at h5; exact h5⟩
      refine g3 (j, w) (List.mem_cons_of_mem _ (List.mem_filter.mpr ⟨lvl_mem.mpr ⟨hj, fun q => (hw' q).2⟩, ?_⟩))
      simp only [Bool.and_eq_true, Bool.not_eq_true', beq_eq_false_iff_ne, ne_eq, Bool.and_eq_false_iff]
      refine ⟨hji, hj1, ?_⟩
      by_cases q : w.category = 2
      · exact Or.inl (hw' q).1
      · exact Or.inr q
/-- what an array's contents are, place by place -/
def valC (c : vp_A) (j : Nat) : Value := match c.2 with
  | .inl f => .int (f j)
  | .inr (.inl f) => .long (f j)
  | .inr (.inr (.inl f)) => .float (f j)
  | .inr (.inr (.inr (.inl f))) => .double (f j)
  | .inr (.inr (.inr (.inr f))) => va_rf (f j)
/-- ints that stand in statics; references by name that do; references of which nothing is known; the law's words; texts; classes that aren't castable -/
def ZI : List (String × String × String × Int32) := [("java/lang/Integer$IntegerCache", "high", "I", 127), ("java/lang/String", "COMPACT_STRINGS", "Z", 1)]
def ZR : List (String × String × String × Nat) := [("java/lang/Integer$IntegerCache", "cache", "[Ljava/lang/Integer;", 1)]
def ZU : List (String × String × String × Nat) := [("java/lang/Throwable", "UNASSIGNED_STACK", "[Ljava/lang/StackTraceElement;", 0), ("java/lang/Throwable", "SUPPRESSED_SENTINEL", "Ljava/util/List;", 1), ("jdk/internal/util/Preconditions", "SIOOBE_FORMATTER", "Ljava/util/function/BiFunction;", 2)]
def STR : List (String × Nat × String × Nat) := [("TollRoad", 436, "gantry", 2), ("TollRoad", 440, "road", 3), ("TollRoad", 441, "account", 4), ("TollRoad", 442, "vehicle", 5), ("TollRoad", 443, "set", 6), ("TollRoadModel", 193, "gantry", 2), ("TollRoadModel", 198, "road", 3), ("TollRoadModel", 183, "account", 4), ("TollRoadModel", 206, "vehicle", 5), ("TollRoadModel", 191, "set", 6)]
def NCL : List (String × String) := [("java/util/HashMap$Node", "java/util/HashMap$TreeNode"), ("java/lang/IllegalArgumentException", "java/lang/IndexOutOfBoundsException"), ("java/lang/IllegalStateException", "java/lang/IndexOutOfBoundsException"), ("java/lang/IllegalStateException", "java/lang/IllegalArgumentException")]
/-- what holds all through the run: of the tables; of what stands still -/
def DFL : List (String × MethodName) := [("TollRoad$Bounds$1", ⟨"TollRoad$Bounds", "has", "(I)Z"⟩), ("TollRoad$Trip", ⟨"TollRoad$Priced", "discount", "(I)I"⟩)]
theorem lid_mv {s U : State} {a0 args : Array Value} {C : String} {x y : MethodName} (hv : s.vm.Alike U.vm) (h : (Cond.landsInDefault C x y).before a0 s = true) : (Cond.landsInDefault C x y).before args U = true := by
  have h1 : (Cond.landsInDefault C x y).before args (s.setVm U.vm) = true := (Cond.landsInDefault_setVm hv (State.methodFound?_setVm hv _ _ _)).trans h
  exact h1
theorem priv_mv {s U : State} {y : MethodName} (hv : s.vm.Alike U.vm) (h : va_Nw (.privateMethod y) s) : va_Nw (.privateMethod y) U := va_tabs rfl (rfl : (s.setVm U.vm).vm = U.vm) ((Cond.privateMethod_setVm (args := #[]) hv y).trans h)
def GS (G : Ge) (U : State) : Prop :=
  va_K (geD G) CL (tysG G) U ∧
  (∀ a i b n d h, Cond.fieldLinkNest a i b n d h ∈ lw_tbl → va_Nw (.fieldLinkNest a i b n d h) U) ∧
  (∀ a i x h, Cond.methodLinkNest a i x h ∈ lw_tbl → va_Nw (.methodLinkNest a i x h) U) ∧
  (∀ C n, Cond.castable C n ∈ lw_tbl → va_Nw (.castable C n) U) ∧
  (∀ C, Cond.arrayOver (.object C) ∈ lw_tbl → va_AO C U) ∧
  (∀ x, Cond.declares x ∈ lw_tbl → va_Nw (.declares x) U) ∧
  (∀ (C : String) (x y : MethodName), (x.cls ≠ "java/lang/invoke/MethodHandle" ∧ x.cls ≠ "java/lang/invoke/VarHandle") → Cond.declares x ∈ lw_tbl → Cond.interfaceMethod x.cls x.cls x.name x.desc ∈ lw_tbl → Cond.publicMethod y ∈ lw_tbl → Cond.unhidden C x.name x.desc ∈ lw_tbl → Cond.castable C x.cls ∈ lw_tbl → va_Fw C x y U) ∧
  (∀ q ∈ NCL, va_Nc q.1 q.2 U) ∧ va_Mi "[Ljava/lang/Object;" (sAd (geS G) 0) U ∧
  (∀ q ∈ STR, vk_R q.1 q.2.1 q.2.2.1 (sAd (geS G) q.2.2.2) U) ∧
  (∀ q ∈ ZI, va_Z q.1 q.2.1 q.2.2.1 (.int q.2.2.2) (geA G) U (geH G)) ∧
  (∀ q ∈ ZR, va_Z q.1 q.2.1 q.2.2.1 (.ref (sAd (geS G) q.2.2.2)) (geA G) U (geH G)) ∧
  (∀ q ∈ ZU, va_Z q.1 q.2.1 q.2.2.1 (va_rf (sRf (geS G) q.2.2.2)) (geA G) U (geH G)) ∧
  (vx_Zq Bundle.tN "UNASSIGNED_STACK" Bundle.steD (geA G) U (geH G) ∧ vx_Zq Bundle.tN "SUPPRESSED_SENTINEL" Bundle.listD (geA G) U (geH G)) ∧
  (∀ p f v, sF (geS G) p f = some v → p < geB G ∧ va_OF (fdn f).1 (fdn f).2.1 (fdn f).2.2.1 v p (geA G) U (geH G)) ∧
  (∀ p ci, sC (geS G) p = some ci → p < geB G ∧ ∃ r : vw_C, CL[ci]? = some r ∧ va_O r.1 p (geA G) U (geH G)) ∧
  (∀ p c, sA (geS G) p = some c → p < geB G ∧ c.1 < 11 ∧ va_T (aty c.1) p c.2.1 (valC c.2) (geA G) U (geH G)) ∧
  (∀ q ∈ DFL, (Cond.landsInDefault q.1 q.2 q.2).before #[] U = true) ∧
  (∀ y, Cond.privateMethod y ∈ lw_tbl → va_Nw (.privateMethod y) U)
theorem GS.moved {G : Ge} {s U : State} (hW : s.WarmedH U.vm) (h : GS G s) : GS G U := by
  obtain ⟨h1, h2, h3, h4, h5, h6, h7, h8, h9, h10, h11, h12, h13, h14, h15, h16, h17, h18, h19⟩ := h
  refine ⟨va_K.moved hW.alike h1, fun a i b n d q w => va_Nw.warmF hW (h2 a i b n d q w), fun a i x q w => va_Nw.warmM hW (h3 a i x q w), fun C n w => va_Nw.warmC hW (h4 C n w), fun C w => va_AO.moved hW.alike (h5 C w), fun x w => va_Nw.warmD hW (h6 x w), fun C x y hx a1 a2 a3 a4 a5 => va_Fw.moved hx hW.alike (h7 C x y hx a1 a2 a3 a4 a5),
    fun q w => va_Nc.moved hW.alike (h8 q w), va_Mi.moved hW.alike h9, fun q w => vk_R.warm hW (h10 q w), fun q w => va_Z.moved hW.alike (h11 q w), fun q w => va_Z.moved hW.alike (h12 q w), fun q w => va_Z.moved hW.alike (h13 q w), ⟨vx_Zq.moved hW.alike h14.1, vx_Zq.moved hW.alike h14.2⟩,
    fun p f v w => ⟨(h15 p f v w).1, va_OF.moved hW.alike (h15 p f v w).2⟩, fun p ci w => ⟨(h16 p ci w).1, ?_⟩, fun p c w => ⟨(h17 p c w).1, (h17 p c w).2.1, va_T.moved hW.alike (h17 p c w).2.2⟩, fun q w => lid_mv hW.alike (h18 q w), fun y w => priv_mv hW.alike (h19 y w)⟩
  obtain ⟨r, e, o⟩ := (h16 p ci w).2
  exact ⟨r, e, va_O.moved hW.alike o⟩
/-- words of locals that a leaf may want -/
def lfL : Nat := 10400
/-- of a method: its class, code, number of locals, table of handlers, what it gives back, whether it is a constructor -/
abbrev Mi : Type := String × (ByteArray × (Nat × (List (Nat × Nat × Nat × Nat) × (Option FieldType × Bool))))
/-- a method's frame, d calls deep below it -/
def Cx (G : Ge) (p : Program) (l : Launch) (R : Room) (s : State) (m : MethodId) (args : Array Value) (meth : Method) (c : Code) (mi : Mi) (d : Nat) : Prop :=
  p.tables.exec = Jvm.exec ∧ c.code = mi.2.1 ∧ c.maxLocals = mi.2.2.1 ∧ s.vm.findClass mi.1 = some m.cls ∧ c.exceptionTable.toList = tableOf mi.2.2.2.1 ∧ meth.sig.returnType = mi.2.2.2.2.1 ∧ (mi.2.2.2.2.2 = true → meth.name = "<init>") ∧ (∀ w ∈ lw_all, w.before args s = true) ∧ meth.locks = false ∧ l.stackTraces = false ∧ d + 8 ≤ R.frames ∧ 64 * d + lfL ≤ R.locals ∧ GS G s ∧ geB G ≤ s.heap.size ∧ (∀ q : Nat, q < geB G → s.heap[q]? = (geH G)[q]?)
/-- the machine at this point of the abstract machine comes to a state with Q -/
def Wk (G : Ge) (p : Program) (l : Launch) (e : Env) (R : Room) (s : State) (m : MethodId) (args : Array Value) (below : List Frame) (meth : Method) (c : Code) (nL b0 c0 : Nat) (Q : State → Prop) (cf : Cf) : Prop :=
  ∀ (H : Heap) (locs : List Loc) (ls : Array Slot) (cells slots : Nat), RepH G cf.2.2.2 H → va_S (geA G) s.heap H locs → lvh ls nL cf.2.1 → cells + b0 = nx cf.2.2.2 → slots + c0 = su cf.2.2.2 → W p l e R s m args below meth c H locs cells slots Q (F0 m cf.1 ls cf.2.2.1)
def Rm (R : Room) (b0 c0 : Nat) (A : Hp) : Prop := nx A ≤ R.cells + b0 ∧ su A ≤ R.slots + c0
def Qr (G : Ge) (x : Out × Hp) : Array Value → State → Outcome → State → Prop := fun _ _ oc t => ∃ v, x.1 = .inl v ∧ oc = .returned v ∧ RepH G x.2 t.heap
def Xr (G : Ge) (x : Out × Hp) : String → Nat → State → State → Prop := fun E q _ t => ∃ (ci : Nat) (r : vw_C), x.1 = .inr (ci, q) ∧ CL[ci]? = some r ∧ E = r.1 ∧ RepH G x.2 t.heap
/-- the room of a callee d calls deep -/
def rmD (d mc ms : Nat) : Room := { frames := d + 8, cells := mc, slots := ms, locals := 64 * d + lfL }
theorem rmD_room {d mc ms nl F Lo : Nat} (h1 : d + 1 + 8 ≤ F) (h2 : 64 * (d + 1) + lfL ≤ Lo) (hn : nl ≤ 44) : (rmD d mc ms).frames + 1 ≤ F ∧ 8 + (nl + 11) + (rmD d mc ms).locals ≤ Lo := by
  unfold rmD
  dsimp only
  omega
/-- a callee's contract: from the heap A with these arguments it comes to x -/
def CtM (l : Launch) (G : Ge) (d : Nat) (y : MethodName) (ws : List Cond) (as : List Value) (A : Hp) (x : Out × Hp) : Prop :=
  vx_Met l y ws (rmD d (nx x.2 - nx A) (su x.2 - su A)) (va_Pc as (fun U => GS G U ∧ geB G ≤ U.heap.size ∧ RepH G A U.heap)) (Qr G x) (Xr G x) (nx x.2 - nx A) (su x.2 - su A) (geA G)
/-- names and words of the methods, by number -/
abbrev Nt : Type := Nat → MethodName × List Cond
def EndQ (G : Ge) (below : List Frame) (s : State) (args : Array Value) (b0 c0 : Nat) (Q : State → Prop) (x : Out × Hp) : Prop := ∀ t, vx_MQ below (Qr G x) (Xr G x) args s (nx x.2 - b0) (su x.2 - c0) (geA G) t → Q t
def ThrK (G : Ge) (p : Program) (l : Launch) (e : Env) (R : Room) (s : State) (m : MethodId) (args : Array Value) (below : List Frame) (meth : Method) (c : Code) (nL b0 c0 : Nat) (Q : State → Prop) (hd : Option (List (Nat × Nat))) (L : Lc) (ci q : Nat) (A : Hp) : Prop := match hd with
  | none => EndQ G below s args b0 c0 Q (.inr (ci, q), A)
  | some l9 => match lkn l9 ci with
    | some h => Wk G p l e R s m args below meth c nL b0 c0 Q (h, (L, ([.ref q], A)))
    | none => False
def AftOK (G : Ge) (p : Program) (l : Launch) (e : Env) (R : Room) (s : State) (m : MethodId) (args : Array Value) (below : List Frame) (meth : Method) (c : Code) (nL b0 c0 : Nat) (Q : State → Prop) (k : Cl) (x : Out × Hp) : Prop := match x.1 with
  | .inl none => k.2.2.1 = true ∧ Wk G p l e R s m args below meth c nL b0 c0 Q (k.2.2.2.1, (k.2.2.2.2.1, (k.2.2.2.2.2.1, x.2)))
  | .inl (some v) => k.2.2.1 = false ∧ Wk G p l e R s m args below meth c nL b0 c0 Q (k.2.2.2.1, (k.2.2.2.2.1, (v :: k.2.2.2.2.2.1, x.2)))
  | .inr t => ThrK G p l e R s m args below meth c nL b0 c0 Q k.2.2.2.2.2.2.1 k.2.2.2.2.1 t.1 t.2 x.2
def PostOK (G : Ge) (N : Nt) (p : Program) (l : Launch) (e : Env) (R : Room) (s : State) (m : MethodId) (args : Array Value) (below : List Frame) (meth : Method) (c : Code) (nL b0 c0 d : Nat) (Q : State → Prop) (r : Cf ⊕ ((Out × Hp) ⊕ Cl)) : Prop := match r with
  | .inl c' => Rm R b0 c0 c'.2.2.2 ∧ Wk G p l e R s m args below meth c nL b0 c0 Q c'
  | .inr (.inl x) => Rm R b0 c0 x.2 ∧ EndQ G below s args b0 c0 Q x
  | .inr (.inr k) => ∃ (x : Out × Hp) (d' : Nat), d = d' + 1 ∧ CtM l G d' (N k.1).1 (N k.1).2 k.2.1 k.2.2.2.2.2.2.2 x ∧ Rm R b0 c0 x.2 ∧ nx k.2.2.2.2.2.2.2 ≤ nx x.2 ∧ su k.2.2.2.2.2.2.2 ≤ su x.2 ∧ AftOK G p l e R s m args below meth c nL b0 c0 Q k x
/-- an op is what the instruction at pc does -/
def OpOK (N : Nt) (mi : Mi) (pc : Nat) (op : Op) : Prop := ∀ (G : Ge) (p : Program) (l : Launch) (e : Env) (R : Room) (s : State) (m : MethodId) (args : Array Value) (below : List Frame) (meth : Method) (c : Code) (b0 c0 d : Nat) (Q : State → Prop), Cx G p l R s m args meth c mi d →
  ∀ (L : Lc) (st : List Value) (A : Hp) (r : Cf ⊕ ((Out × Hp) ⊕ Cl)), op pc L st A = some r → PostOK G N p l e R s m args below meth c mi.2.2.1 b0 c0 d Q r → Wk G p l e R s m args below meth c mi.2.2.1 b0 c0 Q (pc, (L, (st, A)))
/-- an op that leaves the heap alone -/
def PuOK (mi : Mi) (pc : Nat) (op : Op) : Prop := ∀ (p : Program) (l : Launch) (e : Env) (R : Room) (s : State) (m : MethodId) (args : Array Value) (below : List Frame) (meth : Method) (c : Code) (Q : State → Prop), p.tables.exec = Jvm.exec → c.code = mi.2.1 → s.vm.findClass mi.1 = some m.cls → (∀ w ∈ lw_all, w.before args s = true) →
  ∀ (L : Lc) (st : List Value) (A : Hp) (r : Cf ⊕ ((Out × Hp) ⊕ Cl)), op pc L st A = some r → ∃ (pc' : Nat) (L' : Lc) (st' : List Value), r = .inl (pc', (L', (st', A))) ∧
    ∀ (H : Heap) (locs : List Loc) (cells slots : Nat) (ls : Array Slot), lvh ls mi.2.2.1 L → (∀ ls', lvh ls' mi.2.2.1 L' → W p l e R s m args below meth c H locs cells slots Q (F0 m pc' ls' st')) → W p l e R s m args below meth c H locs cells slots Q (F0 m pc ls st)
theorem PuOK.ok {N : Nt} {mi : Mi} {pc : Nat} {op : Op} (h : PuOK mi pc op) : OpOK N mi pc op := by
  intro G p l e R s m args below meth c b0 c0 d Q hC L st A r hr hP
  obtain ⟨hx, hb, hml, hown, htab, hret, hini, hts, hC⟩ := hC
  obtain ⟨pc', L', st', rfl, k⟩ := h p l e R s m args below meth c Q hx hb hown hts L st A r hr
  intro H locs ls cells slots hR hS hl h1 h2
  exact k H locs cells slots ls hl (fun ls' hl' => hP.2 H locs ls' cells slots hR hS hl' h1 h2)
