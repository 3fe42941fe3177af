/-! soundness, op by op: those that leave the heap alone -/
theorem b_n64_spec {r : UInt64} (h : b_n64 r = true) : vf_n64 r := of_decide_eq_true (p := r &&& 0x7fffffffffffffff ≤ 0x7ff0000000000000) h
theorem b_n32_spec {r : UInt32} (h : b_n32 r = true) : vf_n32 r := of_decide_eq_true (p := r &&& 0x7fffffff ≤ 0x7f800000) h
theorem pu_push {mi : Mi} {pc len : Nat} {v : Value} (K : ∀ (p : Program) (l : Launch) (e : Env) (R : Room) (s : State) (m : MethodId) (args : Array Value) (below : List Frame) (meth : Method) (c : Code) (Q : State → Prop) (H : Heap) (locs : List Loc) (cells slots : Nat) (ls : Array Slot) (rest : List Value), p.tables.exec = Jvm.exec → c.code = mi.2.1 → s.vm.findClass mi.1 = some m.cls → (∀ w ∈ lw_all, w.before args s = true) → W p l e R s m args below meth c H locs cells slots Q (F0 m (pc + len) ls (v :: rest)) → W p l e R s m args below meth c H locs cells slots Q (F0 m pc ls rest)) : PuOK mi pc (o_push len v) := by
  intro p l e R s m args below meth c Q hx hb hown hts L st A r h
  cases h
  exact ⟨_, _, _, rfl, fun H locs cells slots ls hl k => K _ _ _ _ _ _ _ _ _ _ _ _ _ _ _ _ _ hx hb hown hts (k ls hl)⟩
theorem ok_iconst {mi : Mi} {pc : Nat} {n : Int} {v : Int32} (d : decode mi.2.1 pc = .ok (.iconst n, 1)) (hv : Int32.ofInt n = v) : PuOK mi pc (o_push 1 (.int v)) := pu_push (fun _ _ _ _ _ _ _ _ _ _ _ _ _ _ _ _ _ hx hb _ _ k => lv_iconst hx hb d hv k)
theorem ok_bipush {mi : Mi} {pc : Nat} {n : Int} {v : Int32} (d : decode mi.2.1 pc = .ok (.bipush n, 2)) (hv : (Int8.ofInt n).toInt32 = v) : PuOK mi pc (o_push 2 (.int v)) := pu_push (fun _ _ _ _ _ _ _ _ _ _ _ _ _ _ _ _ _ hx hb _ _ k => lv_bipush hx hb d hv k)
theorem ok_sipush {mi : Mi} {pc : Nat} {n : Int} {v : Int32} (d : decode mi.2.1 pc = .ok (.sipush n, 3)) (hv : (Int16.ofInt n).toInt32 = v) : PuOK mi pc (o_push 3 (.int v)) := pu_push (fun _ _ _ _ _ _ _ _ _ _ _ _ _ _ _ _ _ hx hb _ _ k => lv_sipush hx hb d hv k)
theorem ok_lconst {mi : Mi} {pc : Nat} {n : Fin 2} {v : Int64} (d : decode mi.2.1 pc = .ok (.lconst n, 1)) (hv : Int64.ofNat (n : Nat) = v) : PuOK mi pc (o_push 1 (.long v)) := pu_push (fun _ _ _ _ _ _ _ _ _ _ _ _ _ _ _ _ _ hx hb _ _ k => lv_lconst hx hb d hv k)
theorem ok_null {mi : Mi} {pc : Nat} (d : decode mi.2.1 pc = .ok (.aconst_null, 1)) : PuOK mi pc (o_push 1 .null) := pu_push (fun _ _ _ _ _ _ _ _ _ _ _ _ _ _ _ _ _ hx hb _ _ k => lv_null hx hb d k)
theorem ok_fconst0 {mi : Mi} {pc : Nat} (d : decode mi.2.1 pc = .ok (.fconst 0, 1)) : PuOK mi pc (o_push 1 (.float FP.fconst0)) := pu_push (fun _ _ _ _ _ _ _ _ _ _ _ _ _ _ _ _ _ hx hb _ _ k => lv_fconst0 hx hb d k)
theorem ok_ldc {mi : Mi} {pc index : Nat} {v : Int32} (w : Cond.constant mi.1 index v ∈ lw_all) (d : decode mi.2.1 pc = .ok (.ldc index, 2)) : PuOK mi pc (o_push 2 (.int v)) := pu_push (fun _ _ _ _ _ _ _ _ _ _ _ _ _ _ _ _ _ hx hb hown hts k => lv_ldc hx hb hown (hts _ w) d k)
theorem ok_ldcf {mi : Mi} {pc index : Nat} {v : UInt32} (w : Cond.constantFloat mi.1 index v ∈ lw_all) (d : decode mi.2.1 pc = .ok (.ldc index, 2)) : PuOK mi pc (o_push 2 (.float v)) := pu_push (fun _ _ _ _ _ _ _ _ _ _ _ _ _ _ _ _ _ hx hb hown hts k => lv_ldcf hx hb hown (hts _ w) d k)
theorem ok_ldc2 {mi : Mi} {pc index : Nat} {v : Int64} (w : Cond.constantLong mi.1 index v ∈ lw_all) (d : decode mi.2.1 pc = .ok (.ldc2_w index, 3)) : PuOK mi pc (o_push 3 (.long v)) := pu_push (fun _ _ _ _ _ _ _ _ _ _ _ _ _ _ _ _ _ hx hb hown hts k => lv_ldc2 hx hb hown (hts _ w) d k)
theorem ok_ldc2d {mi : Mi} {pc index : Nat} {v : UInt64} (w : Cond.constantDouble mi.1 index v ∈ lw_all) (d : decode mi.2.1 pc = .ok (.ldc2_w index, 3)) : PuOK mi pc (o_push 3 (.double v)) := pu_push (fun _ _ _ _ _ _ _ _ _ _ _ _ _ _ _ _ _ hx hb hown hts k => lv_ldc2d hx hb hown (hts _ w) d k)
theorem pu_iload {mi : Mi} {pc i len : Nat} (K : ∀ (p : Program) (l : Launch) (e : Env) (R : Room) (s : State) (m : MethodId) (args : Array Value) (below : List Frame) (meth : Method) (c : Code) (Q : State → Prop) (H : Heap) (locs : List Loc) (cells slots : Nat) (ls : Array Slot) (rest : List Value) (x : Int32), p.tables.exec = Jvm.exec → c.code = mi.2.1 → ls[i]? = some (.val (.int x)) → W p l e R s m args below meth c H locs cells slots Q (F0 m (pc + len) ls (.int x :: rest)) → W p l e R s m args below meth c H locs cells slots Q (F0 m pc ls rest)) : PuOK mi pc (o_iload i len) := by
  intro p l e R s m args below meth c Q hx hb hown hts L st A r h
  unfold o_iload at h
  split at h
  · next x hL =>
    cases h
    exact ⟨_, _, _, rfl, fun H locs cells slots ls hl k => K _ _ _ _ _ _ _ _ _ _ _ _ _ _ _ _ _ x hx hb (hl.2.2.2 i _ hL (fun q => by cases q)) (k ls hl)⟩
  · cases h
theorem ok_iload_n {mi : Mi} {pc i : Nat} {k : Fin 4} (d : decode mi.2.1 pc = .ok (.iload_n k, 1)) (hi : (k : Nat) = i) : PuOK mi pc (o_iload i 1) := pu_iload (fun _ _ _ _ _ _ _ _ _ _ _ _ _ _ _ _ _ _ hx hb hL k => lv_iload_n hx hb d hi hL k)
theorem ok_iload {mi : Mi} {pc i : Nat} (d : decode mi.2.1 pc = .ok (.iload i, 2)) : PuOK mi pc (o_iload i 2) := pu_iload (fun _ _ _ _ _ _ _ _ _ _ _ _ _ _ _ _ _ _ hx hb hL k => lv_iload hx hb d hL k)
theorem pu_fload {mi : Mi} {pc i len : Nat} (K : ∀ (p : Program) (l : Launch) (e : Env) (R : Room) (s : State) (m : MethodId) (args : Array Value) (below : List Frame) (meth : Method) (c : Code) (Q : State → Prop) (H : Heap) (locs : List Loc) (cells slots : Nat) (ls : Array Slot) (rest : List Value) (x : UInt32), p.tables.exec = Jvm.exec → c.code = mi.2.1 → ls[i]? = some (.val (.float x)) → W p l e R s m args below meth c H locs cells slots Q (F0 m (pc + len) ls (.float x :: rest)) → W p l e R s m args below meth c H locs cells slots Q (F0 m pc ls rest)) : PuOK mi pc (o_fload i len) := by
  intro p l e R s m args below meth c Q hx hb hown hts L st A r h
  unfold o_fload at h
  split at h
  · next x hL =>
    cases h
    exact ⟨_, _, _, rfl, fun H locs cells slots ls hl k => K _ _ _ _ _ _ _ _ _ _ _ _ _ _ _ _ _ x hx hb (hl.2.2.2 i _ hL (fun q => by cases q)) (k ls hl)⟩
  · cases h
theorem ok_fload_n {mi : Mi} {pc i : Nat} {k : Fin 4} (d : decode mi.2.1 pc = .ok (.fload_n k, 1)) (hi : (k : Nat) = i) : PuOK mi pc (o_fload i 1) := pu_fload (fun _ _ _ _ _ _ _ _ _ _ _ _ _ _ _ _ _ _ hx hb hL k => lv_fload_n hx hb d hi hL k)
theorem ok_fload {mi : Mi} {pc i : Nat} (d : decode mi.2.1 pc = .ok (.fload i, 2)) : PuOK mi pc (o_fload i 2) := pu_fload (fun _ _ _ _ _ _ _ _ _ _ _ _ _ _ _ _ _ _ hx hb hL k => lv_fload hx hb d hL k)
theorem pu_lload {mi : Mi} {pc i len : Nat} (K : ∀ (p : Program) (l : Launch) (e : Env) (R : Room) (s : State) (m : MethodId) (args : Array Value) (below : List Frame) (meth : Method) (c : Code) (Q : State → Prop) (H : Heap) (locs : List Loc) (cells slots : Nat) (ls : Array Slot) (rest : List Value) (x : Int64), p.tables.exec = Jvm.exec → c.code = mi.2.1 → ls[i]? = some (.val (.long x)) → W p l e R s m args below meth c H locs cells slots Q (F0 m (pc + len) ls (.long x :: rest)) → W p l e R s m args below meth c H locs cells slots Q (F0 m pc ls rest)) : PuOK mi pc (o_lload i len) := by
  intro p l e R s m args below meth c Q hx hb hown hts L st A r h
  unfold o_lload at h
  split at h
  · next x hL hL2 =>
    cases h
    exact ⟨_, _, _, rfl, fun H locs cells slots ls hl k => K _ _ _ _ _ _ _ _ _ _ _ _ _ _ _ _ _ x hx hb (hl.2.2.2 i _ hL (fun _ => hL2)) (k ls hl)⟩
  · cases h
theorem ok_lload_n {mi : Mi} {pc i : Nat} {k : Fin 4} (d : decode mi.2.1 pc = .ok (.lload_n k, 1)) (hi : (k : Nat) = i) : PuOK mi pc (o_lload i 1) := pu_lload (fun _ _ _ _ _ _ _ _ _ _ _ _ _ _ _ _ _ _ hx hb hL k => lv_lload_n hx hb d hi hL k)
theorem ok_lload {mi : Mi} {pc i : Nat} (d : decode mi.2.1 pc = .ok (.lload i, 2)) : PuOK mi pc (o_lload i 2) := pu_lload (fun _ _ _ _ _ _ _ _ _ _ _ _ _ _ _ _ _ _ hx hb hL k => lv_lload hx hb d hL k)
theorem pu_dload {mi : Mi} {pc i len : Nat} (K : ∀ (p : Program) (l : Launch) (e : Env) (R : Room) (s : State) (m : MethodId) (args : Array Value) (below : List Frame) (meth : Method) (c : Code) (Q : State → Prop) (H : Heap) (locs : List Loc) (cells slots : Nat) (ls : Array Slot) (rest : List Value) (x : UInt64), p.tables.exec = Jvm.exec → c.code = mi.2.1 → ls[i]? = some (.val (.double x)) → W p l e R s m args below meth c H locs cells slots Q (F0 m (pc + len) ls (.double x :: rest)) → W p l e R s m args below meth c H locs cells slots Q (F0 m pc ls rest)) : PuOK mi pc (o_dload i len) := by
  intro p l e R s m args below meth c Q hx hb hown hts L st A r h
  unfold o_dload at h
  split at h
  · next x hL hL2 =>
    cases h
    exact ⟨_, _, _, rfl, fun H locs cells slots ls hl k => K _ _ _ _ _ _ _ _ _ _ _ _ _ _ _ _ _ x hx hb (hl.2.2.2 i _ hL (fun _ => hL2)) (k ls hl)⟩
  · cases h
theorem ok_dload_n {mi : Mi} {pc i : Nat} {k : Fin 4} (d : decode mi.2.1 pc = .ok (.dload_n k, 1)) (hi : (k : Nat) = i) : PuOK mi pc (o_dload i 1) := pu_dload (fun _ _ _ _ _ _ _ _ _ _ _ _ _ _ _ _ _ _ hx hb hL k => lv_dload_n hx hb d hi hL k)
theorem ok_dload {mi : Mi} {pc i : Nat} (d : decode mi.2.1 pc = .ok (.dload i, 2)) : PuOK mi pc (o_dload i 2) := pu_dload (fun _ _ _ _ _ _ _ _ _ _ _ _ _ _ _ _ _ _ hx hb hL k => lv_dload hx hb d hL k)
theorem gd_some {b : Bool} {r : Rs} {x : Cf ⊕ ((Out × Hp) ⊕ Cl)} (h : gd b r = some x) : b = true ∧ r = some x := by
  cases b
  · cases h
  · exact ⟨rfl, h⟩
theorem isR_cases {v : Value} (h : isR v = true) : v = .null ∨ ∃ p, v = .ref p := by
  cases v <;> first | exact Or.inl rfl | exact Or.inr ⟨_, rfl⟩ | cases h
theorem isR_cat {v : Value} (h : isR v = true) : v.category = 1 := by
  rcases isR_cases h with rfl | ⟨p, rfl⟩ <;> rfl
theorem pu_aload {mi : Mi} {pc i len : Nat} (K : ∀ (p : Program) (l : Launch) (e : Env) (R : Room) (s : State) (m : MethodId) (args : Array Value) (below : List Frame) (meth : Method) (c : Code) (Q : State → Prop) (H : Heap) (locs : List Loc) (cells slots : Nat) (ls : Array Slot) (rest : List Value) (v : Value), p.tables.exec = Jvm.exec → c.code = mi.2.1 → isR v = true → ls[i]? = some (.val v) → W p l e R s m args below meth c H locs cells slots Q (F0 m (pc + len) ls (v :: rest)) → W p l e R s m args below meth c H locs cells slots Q (F0 m pc ls rest)) : PuOK mi pc (o_aload i len) := by
  intro p l e R s m args below meth c Q hx hb hown hts L st A r h
  unfold o_aload at h
  split at h
  · next v hL =>
    obtain ⟨hv, h⟩ := gd_some h
    cases h
    exact ⟨_, _, _, rfl, fun H locs cells slots ls hl k => K _ _ _ _ _ _ _ _ _ _ _ _ _ _ _ _ _ v hx hb hv (hl.2.2.2 i _ hL (fun q => by rw [isR_cat hv] at q; cases q)) (k ls hl)⟩
  · cases h
theorem ok_aload_n {mi : Mi} {pc i : Nat} {k : Fin 4} (d : decode mi.2.1 pc = .ok (.aload_n k, 1)) (hi : (k : Nat) = i) : PuOK mi pc (o_aload i 1) := pu_aload (fun _ _ _ _ _ _ _ _ _ _ _ _ _ _ _ _ _ _ hx hb hv hL k => by
  rcases isR_cases hv with rfl | ⟨p, rfl⟩
  · exact lv_aload_nN hx hb d hi hL k
  · exact lv_aload_n hx hb d hi hL k)
theorem ok_aload {mi : Mi} {pc i : Nat} (d : decode mi.2.1 pc = .ok (.aload i, 2)) : PuOK mi pc (o_aload i 2) := pu_aload (fun _ _ _ _ _ _ _ _ _ _ _ _ _ _ _ _ _ _ hx hb hv hL k => by
  rcases isR_cases hv with rfl | ⟨p, rfl⟩
  · exact lv_aloadN hx hb d hL k
  · exact lv_aload hx hb d hL k)
theorem pu_istore {mi : Mi} {pc i len : Nat} (K : ∀ (p : Program) (l : Launch) (e : Env) (R : Room) (s : State) (m : MethodId) (args : Array Value) (below : List Frame) (meth : Method) (c : Code) (Q : State → Prop) (H : Heap) (locs : List Loc) (cells slots : Nat) (ls : Array Slot) (rest : List Value) (x : Int32) (lv : List (Nat × Value)), p.tables.exec = Jvm.exec → c.code = mi.2.1 → lv_has ls mi.2.2.1 lv → i < mi.2.2.1 → (∀ ls', lv_has ls' mi.2.2.1 ((i, Value.int x) :: lv.filter (fun q => !(q.1 == i) && !(q.1 + 1 == i && q.2.category == 2))) → W p l e R s m args below meth c H locs cells slots Q (F0 m (pc + len) ls' rest)) → W p l e R s m args below meth c H locs cells slots Q (F0 m pc ls (.int x :: rest))) : PuOK mi pc (o_istore i len) := by
  intro p l e R s m args below meth c Q hx hb hown hts L st A r h
  unfold o_istore at h
  split at h
  · next x rest =>
    obtain ⟨hv, h⟩ := gd_some h
    cases h
    refine ⟨_, _, _, rfl, fun H locs cells slots ls hl k => ?_⟩
    have hi : i < mi.2.2.1 := by rw [← hl.1]; exact Nat.le_of_ble_eq_true hv
    exact K _ _ _ _ _ _ _ _ _ _ _ _ _ _ _ _ _ x (lvl L) hx hb hl.has hi (fun ls' h' => k ls' (hl.set1 hi rfl h'))
  · cases h
theorem ok_istore_n {mi : Mi} {pc i : Nat} {k : Fin 4} (d : decode mi.2.1 pc = .ok (.istore_n k, 1)) (hi : (k : Nat) = i) : PuOK mi pc (o_istore i 1) := pu_istore (fun _ _ _ _ _ _ _ _ _ _ _ _ _ _ _ _ _ _ _ hx hb hL hn k => lv_istore_n hx hb d hi hL hn rfl k)
theorem ok_istore {mi : Mi} {pc i : Nat} (d : decode mi.2.1 pc = .ok (.istore i, 2)) : PuOK mi pc (o_istore i 2) := pu_istore (fun _ _ _ _ _ _ _ _ _ _ _ _ _ _ _ _ _ _ _ hx hb hL hn k => lv_istore hx hb d hL hn rfl k)
theorem pu_fstore {mi : Mi} {pc i len : Nat} (K : ∀ (p : Program) (l : Launch) (e : Env) (R : Room) (s : State) (m : MethodId) (args : Array Value) (below : List Frame) (meth : Method) (c : Code) (Q : State → Prop) (H : Heap) (locs : List Loc) (cells slots : Nat) (ls : Array Slot) (rest : List Value) (x : UInt32) (lv : List (Nat × Value)), p.tables.exec = Jvm.exec → c.code = mi.2.1 → lv_has ls mi.2.2.1 lv → i < mi.2.2.1 → (∀ ls', lv_has ls' mi.2.2.1 ((i, Value.float x) :: lv.filter (fun q => !(q.1 == i) && !(q.1 + 1 == i && q.2.category == 2))) → W p l e R s m args below meth c H locs cells slots Q (F0 m (pc + len) ls' rest)) → W p l e R s m args below meth c H locs cells slots Q (F0 m pc ls (.float x :: rest))) : PuOK mi pc (o_fstore i len) := by
  intro p l e R s m args below meth c Q hx hb hown hts L st A r h
  unfold o_fstore at h
  split at h
  · next x rest =>
    obtain ⟨hv, h⟩ := gd_some h
    cases h
    refine ⟨_, _, _, rfl, fun H locs cells slots ls hl k => ?_⟩
    have hi : i < mi.2.2.1 := by rw [← hl.1]; exact Nat.le_of_ble_eq_true hv
    exact K _ _ _ _ _ _ _ _ _ _ _ _ _ _ _ _ _ x (lvl L) hx hb hl.has hi (fun ls' h' => k ls' (hl.set1 hi rfl h'))
  · cases h
theorem ok_fstore_n {mi : Mi} {pc i : Nat} {k : Fin 4} (d : decode mi.2.1 pc = .ok (.fstore_n k, 1)) (hi : (k : Nat) = i) : PuOK mi pc (o_fstore i 1) := pu_fstore (fun _ _ _ _ _ _ _ _ _ _ _ _ _ _ _ _ _ _ _ hx hb hL hn k => lv_fstore_n hx hb d hi hL hn rfl k)
theorem ok_fstore {mi : Mi} {pc i : Nat} (d : decode mi.2.1 pc = .ok (.fstore i, 2)) : PuOK mi pc (o_fstore i 2) := pu_fstore (fun _ _ _ _ _ _ _ _ _ _ _ _ _ _ _ _ _ _ _ hx hb hL hn k => lv_fstore hx hb d hL hn rfl k)
theorem pu_lstore {mi : Mi} {pc i len : Nat} (K : ∀ (p : Program) (l : Launch) (e : Env) (R : Room) (s : State) (m : MethodId) (args : Array Value) (below : List Frame) (meth : Method) (c : Code) (Q : State → Prop) (H : Heap) (locs : List Loc) (cells slots : Nat) (ls : Array Slot) (rest : List Value) (x : Int64) (lv : List (Nat × Value)), p.tables.exec = Jvm.exec → c.code = mi.2.1 → lv_has ls mi.2.2.1 lv → i + 1 < mi.2.2.1 → (∀ ls', lv_has ls' mi.2.2.1 ((i, Value.long x) :: lv.filter (fun q => !(q.1 == i) && (!(q.1 == i + 1) && !(q.1 + 1 == i && q.2.category == 2)))) → W p l e R s m args below meth c H locs cells slots Q (F0 m (pc + len) ls' rest)) → W p l e R s m args below meth c H locs cells slots Q (F0 m pc ls (.long x :: rest))) : PuOK mi pc (o_lstore i len) := by
  intro p l e R s m args below meth c Q hx hb hown hts L st A r h
  unfold o_lstore at h
  split at h
  · next x rest =>
    obtain ⟨hv, h⟩ := gd_some h
    cases h
    refine ⟨_, _, _, rfl, fun H locs cells slots ls hl k => ?_⟩
    have hi : i + 1 < mi.2.2.1 := by rw [← hl.1]; exact Nat.le_of_ble_eq_true hv
    exact K _ _ _ _ _ _ _ _ _ _ _ _ _ _ _ _ _ x (lvl L) hx hb hl.has hi (fun ls' h' => k ls' (hl.set2 hi rfl h'))
  · cases h
theorem ok_lstore_n {mi : Mi} {pc i : Nat} {k : Fin 4} (d : decode mi.2.1 pc = .ok (.lstore_n k, 1)) (hi : (k : Nat) = i) : PuOK mi pc (o_lstore i 1) := pu_lstore (fun _ _ _ _ _ _ _ _ _ _ _ _ _ _ _ _ _ _ _ hx hb hL hn k => lv_lstore_n hx hb d hi hL hn rfl k)
theorem ok_lstore {mi : Mi} {pc i : Nat} (d : decode mi.2.1 pc = .ok (.lstore i, 2)) : PuOK mi pc (o_lstore i 2) := pu_lstore (fun _ _ _ _ _ _ _ _ _ _ _ _ _ _ _ _ _ _ _ hx hb hL hn k => lv_lstore hx hb d hL hn rfl k)
theorem pu_dstore {mi : Mi} {pc i len : Nat} (K : ∀ (p : Program) (l : Launch) (e : Env) (R : Room) (s : State) (m : MethodId) (args : Array Value) (below : List Frame) (meth : Method) (c : Code) (Q : State → Prop) (H : Heap) (locs : List Loc) (cells slots : Nat) (ls : Array Slot) (rest : List Value) (x : UInt64) (lv : List (Nat × Value)), p.tables.exec = Jvm.exec → c.code = mi.2.1 → lv_has ls mi.2.2.1 lv → i + 1 < mi.2.2.1 → (∀ ls', lv_has ls' mi.2.2.1 ((i, Value.double x) :: lv.filter (fun q => !(q.1 == i) && (!(q.1 == i + 1) && !(q.1 + 1 == i && q.2.category == 2)))) → W p l e R s m args below meth c H locs cells slots Q (F0 m (pc + len) ls' rest)) → W p l e R s m args below meth c H locs cells slots Q (F0 m pc ls (.double x :: rest))) : PuOK mi pc (o_dstore i len) := by
  intro p l e R s m args below meth c Q hx hb hown hts L st A r h
  unfold o_dstore at h
  split at h
  · next x rest =>
    obtain ⟨hv, h⟩ := gd_some h
    cases h
    refine ⟨_, _, _, rfl, fun H locs cells slots ls hl k => ?_⟩
    have hi : i + 1 < mi.2.2.1 := by rw [← hl.1]; exact Nat.le_of_ble_eq_true hv
    exact K _ _ _ _ _ _ _ _ _ _ _ _ _ _ _ _ _ x (lvl L) hx hb hl.has hi (fun ls' h' => k ls' (hl.set2 hi rfl h'))
  · cases h
theorem ok_dstore_n {mi : Mi} {pc i : Nat} {k : Fin 4} (d : decode mi.2.1 pc = .ok (.dstore_n k, 1)) (hi : (k : Nat) = i) : PuOK mi pc (o_dstore i 1) := pu_dstore (fun _ _ _ _ _ _ _ _ _ _ _ _ _ _ _ _ _ _ _ hx hb hL hn k => lv_dstore_n hx hb d hi hL hn rfl k)
theorem ok_dstore {mi : Mi} {pc i : Nat} (d : decode mi.2.1 pc = .ok (.dstore i, 2)) : PuOK mi pc (o_dstore i 2) := pu_dstore (fun _ _ _ _ _ _ _ _ _ _ _ _ _ _ _ _ _ _ _ hx hb hL hn k => lv_dstore hx hb d hL hn rfl k)
theorem pu_astore {mi : Mi} {pc i len : Nat} (K : ∀ (p : Program) (l : Launch) (e : Env) (R : Room) (s : State) (m : MethodId) (args : Array Value) (below : List Frame) (meth : Method) (c : Code) (Q : State → Prop) (H : Heap) (locs : List Loc) (cells slots : Nat) (ls : Array Slot) (rest : List Value) (v : Value) (lv : List (Nat × Value)), p.tables.exec = Jvm.exec → c.code = mi.2.1 → isR v = true → lv_has ls mi.2.2.1 lv → i < mi.2.2.1 → (∀ ls', lv_has ls' mi.2.2.1 ((i, v) :: lv.filter (fun q => !(q.1 == i) && !(q.1 + 1 == i && q.2.category == 2))) → W p l e R s m args below meth c H locs cells slots Q (F0 m (pc + len) ls' rest)) → W p l e R s m args below meth c H locs cells slots Q (F0 m pc ls (v :: rest))) : PuOK mi pc (o_astore i len) := by
  intro p l e R s m args below meth c Q hx hb hown hts L st A r h
  unfold o_astore at h
  split at h
  · next v rest =>
    obtain ⟨hv, h⟩ := gd_some h
    obtain ⟨hv, hj⟩ := (Bool.and_eq_true_iff).mp hv
    cases h
    refine ⟨_, _, _, rfl, fun H locs cells slots ls hl k => ?_⟩
    have hi : i < mi.2.2.1 := by rw [← hl.1]; exact Nat.le_of_ble_eq_true hj
    exact K _ _ _ _ _ _ _ _ _ _ _ _ _ _ _ _ _ v (lvl L) hx hb hv hl.has hi (fun ls' h' => k ls' (hl.set1 hi (isR_cat hv) h'))
  · cases h
theorem ok_astore_n {mi : Mi} {pc i : Nat} {k : Fin 4} (d : decode mi.2.1 pc = .ok (.astore_n k, 1)) (hi : (k : Nat) = i) : PuOK mi pc (o_astore i 1) := pu_astore (fun _ _ _ _ _ _ _ _ _ _ _ _ _ _ _ _ _ _ _ hx hb hv hL hn k => by
  rcases isR_cases hv with rfl | ⟨p, rfl⟩
  · exact lv_astore_nN hx hb d hi hL hn rfl k
  · exact lv_astore_n hx hb d hi hL hn rfl k)
theorem ok_astore {mi : Mi} {pc i : Nat} (d : decode mi.2.1 pc = .ok (.astore i, 2)) : PuOK mi pc (o_astore i 2) := pu_astore (fun _ _ _ _ _ _ _ _ _ _ _ _ _ _ _ _ _ _ _ hx hb hv hL hn k => by
  rcases isR_cases hv with rfl | ⟨p, rfl⟩
  · exact lv_astoreN hx hb d hL hn rfl k
  · exact lv_astore hx hb d hL hn rfl k)
theorem ok_iinc {mi : Mi} {pc i : Nat} {n : Int} {k9 : Int32} (d : decode mi.2.1 pc = .ok (.iinc i n, 3)) (hk : Int32.ofInt n = k9) : PuOK mi pc (o_iinc i k9) := by
  intro p l e R s m args below meth c Q hx hb hown hts L st A r h
  unfold o_iinc at h
  split at h
  · next x hL =>
    cases h
    refine ⟨_, _, _, rfl, fun H locs cells slots ls hl k => ?_⟩
    have hi : i < mi.2.2.1 := by rw [← hl.1]; exact (List.getElem?_eq_some_iff.mp hL).1
    obtain ⟨j, hj⟩ := List.getElem?_of_mem (lvl_mem.mpr ⟨hL, fun q => by cases q⟩)
    exact lv_iinc hx hb d hl.has hj (by rw [hk]) hi rfl (fun ls' h' => k ls' (hl.set1 hi rfl h'))
  · cases h
theorem pu_iop {mi : Mi} {pc : Nat} {f : Int32 → Int32 → Int32} (K : ∀ (p : Program) (l : Launch) (e : Env) (R : Room) (s : State) (m : MethodId) (args : Array Value) (below : List Frame) (meth : Method) (c : Code) (Q : State → Prop) (H : Heap) (locs : List Loc) (cells slots : Nat) (ls : Array Slot) (rest : List Value) (y : Int32) (x : Int32), p.tables.exec = Jvm.exec → c.code = mi.2.1 → W p l e R s m args below meth c H locs cells slots Q (F0 m (pc + 1) ls (.int (f x y) :: rest)) → W p l e R s m args below meth c H locs cells slots Q (F0 m pc ls (.int y :: .int x :: rest))) : PuOK mi pc (o_iop f) := by
  intro p l e R s m args below meth c Q hx hb hown hts L st A r h
  unfold o_iop at h
  split at h
  · next y x rest =>
    cases h
    exact ⟨_, _, _, rfl, fun H locs cells slots ls hl k => K _ _ _ _ _ _ _ _ _ _ _ _ _ _ _ _ _ y x hx hb (k ls hl)⟩
  · cases h
theorem ok_iadd {mi : Mi} {pc : Nat} (d : decode mi.2.1 pc = .ok (.iadd, 1)) : PuOK mi pc (o_iop (fun x y => x + y)) := pu_iop (fun _ _ _ _ _ _ _ _ _ _ _ _ _ _ _ _ _ _ _ hx hb k => lv_iadd hx hb d k)
theorem ok_isub {mi : Mi} {pc : Nat} (d : decode mi.2.1 pc = .ok (.isub, 1)) : PuOK mi pc (o_iop (fun x y => x - y)) := pu_iop (fun _ _ _ _ _ _ _ _ _ _ _ _ _ _ _ _ _ _ _ hx hb k => lv_isub hx hb d k)
theorem ok_imul {mi : Mi} {pc : Nat} (d : decode mi.2.1 pc = .ok (.imul, 1)) : PuOK mi pc (o_iop (fun x y => x * y)) := pu_iop (fun _ _ _ _ _ _ _ _ _ _ _ _ _ _ _ _ _ _ _ hx hb k => lv_imul hx hb d k)
theorem ok_iand {mi : Mi} {pc : Nat} (d : decode mi.2.1 pc = .ok (.iand, 1)) : PuOK mi pc (o_iop (fun x y => x &&& y)) := pu_iop (fun _ _ _ _ _ _ _ _ _ _ _ _ _ _ _ _ _ _ _ hx hb k => lv_iand hx hb d k)
theorem ok_ior {mi : Mi} {pc : Nat} (d : decode mi.2.1 pc = .ok (.ior, 1)) : PuOK mi pc (o_iop (fun x y => x ||| y)) := pu_iop (fun _ _ _ _ _ _ _ _ _ _ _ _ _ _ _ _ _ _ _ hx hb k => lv_ior hx hb d k)
theorem ok_ixor {mi : Mi} {pc : Nat} (d : decode mi.2.1 pc = .ok (.ixor, 1)) : PuOK mi pc (o_iop (fun x y => x ^^^ y)) := pu_iop (fun _ _ _ _ _ _ _ _ _ _ _ _ _ _ _ _ _ _ _ hx hb k => lv_ixor hx hb d k)
theorem ok_ishl {mi : Mi} {pc : Nat} (d : decode mi.2.1 pc = .ok (.ishl, 1)) : PuOK mi pc (o_iop (fun x y => x <<< (y &&& 31))) := pu_iop (fun _ _ _ _ _ _ _ _ _ _ _ _ _ _ _ _ _ _ _ hx hb k => lv_ishl hx hb d k)
theorem ok_ishr {mi : Mi} {pc : Nat} (d : decode mi.2.1 pc = .ok (.ishr, 1)) : PuOK mi pc (o_iop (fun x y => x >>> (y &&& 31))) := pu_iop (fun _ _ _ _ _ _ _ _ _ _ _ _ _ _ _ _ _ _ _ hx hb k => lv_ishr hx hb d k)
theorem ok_iushr {mi : Mi} {pc : Nat} (d : decode mi.2.1 pc = .ok (.iushr, 1)) : PuOK mi pc (o_iop (fun x y => (x.toUInt32 >>> (y.toUInt32 &&& Int32.toUInt32 31)).toInt32)) := pu_iop (fun _ _ _ _ _ _ _ _ _ _ _ _ _ _ _ _ _ _ _ hx hb k => lv_iushr hx hb d rfl k)
theorem pu_iopz {mi : Mi} {pc : Nat} {f : Int32 → Int32 → Int32} (K : ∀ (p : Program) (l : Launch) (e : Env) (R : Room) (s : State) (m : MethodId) (args : Array Value) (below : List Frame) (meth : Method) (c : Code) (Q : State → Prop) (H : Heap) (locs : List Loc) (cells slots : Nat) (ls : Array Slot) (rest : List Value) (y : Int32) (x : Int32), p.tables.exec = Jvm.exec → c.code = mi.2.1 → ¬ y = 0 → W p l e R s m args below meth c H locs cells slots Q (F0 m (pc + 1) ls (.int (f x y) :: rest)) → W p l e R s m args below meth c H locs cells slots Q (F0 m pc ls (.int y :: .int x :: rest))) : PuOK mi pc (o_iopz f) := by
  intro p l e R s m args below meth c Q hx hb hown hts L st A r h
  unfold o_iopz at h
  split at h
  · next y x rest =>
    obtain ⟨hg, h⟩ := gd_some h
    cases h
    exact ⟨_, _, _, rfl, fun H locs cells slots ls hl k => K _ _ _ _ _ _ _ _ _ _ _ _ _ _ _ _ _ y x hx hb (of_decide_eq_true hg) (k ls hl)⟩
  · cases h
theorem ok_idiv {mi : Mi} {pc : Nat} (d : decode mi.2.1 pc = .ok (.idiv, 1)) : PuOK mi pc (o_iopz (fun x y => x / y)) := pu_iopz (fun _ _ _ _ _ _ _ _ _ _ _ _ _ _ _ _ _ _ _ hx hb h0 k => lv_idiv hx hb d h0 k)
theorem ok_irem {mi : Mi} {pc : Nat} (d : decode mi.2.1 pc = .ok (.irem, 1)) : PuOK mi pc (o_iopz (fun x y => x - x / y * y)) := pu_iopz (fun _ _ _ _ _ _ _ _ _ _ _ _ _ _ _ _ _ _ _ hx hb h0 k => lv_irem hx hb d h0 k)
theorem pu_lop {mi : Mi} {pc : Nat} {f : Int64 → Int64 → Int64} (K : ∀ (p : Program) (l : Launch) (e : Env) (R : Room) (s : State) (m : MethodId) (args : Array Value) (below : List Frame) (meth : Method) (c : Code) (Q : State → Prop) (H : Heap) (locs : List Loc) (cells slots : Nat) (ls : Array Slot) (rest : List Value) (y : Int64) (x : Int64), p.tables.exec = Jvm.exec → c.code = mi.2.1 → W p l e R s m args below meth c H locs cells slots Q (F0 m (pc + 1) ls (.long (f x y) :: rest)) → W p l e R s m args below meth c H locs cells slots Q (F0 m pc ls (.long y :: .long x :: rest))) : PuOK mi pc (o_lop f) := by
  intro p l e R s m args below meth c Q hx hb hown hts L st A r h
  unfold o_lop at h
  split at h
  · next y x rest =>
    cases h
    exact ⟨_, _, _, rfl, fun H locs cells slots ls hl k => K _ _ _ _ _ _ _ _ _ _ _ _ _ _ _ _ _ y x hx hb (k ls hl)⟩
  · cases h
theorem ok_ladd {mi : Mi} {pc : Nat} (d : decode mi.2.1 pc = .ok (.ladd, 1)) : PuOK mi pc (o_lop (fun x y => x + y)) := pu_lop (fun _ _ _ _ _ _ _ _ _ _ _ _ _ _ _ _ _ _ _ hx hb k => lv_ladd hx hb d k)
theorem ok_lsub {mi : Mi} {pc : Nat} (d : decode mi.2.1 pc = .ok (.lsub, 1)) : PuOK mi pc (o_lop (fun x y => x - y)) := pu_lop (fun _ _ _ _ _ _ _ _ _ _ _ _ _ _ _ _ _ _ _ hx hb k => lv_lsub hx hb d k)
theorem ok_lmul {mi : Mi} {pc : Nat} (d : decode mi.2.1 pc = .ok (.lmul, 1)) : PuOK mi pc (o_lop (fun x y => x * y)) := pu_lop (fun _ _ _ _ _ _ _ _ _ _ _ _ _ _ _ _ _ _ _ hx hb k => lv_lmul hx hb d k)
theorem ok_land {mi : Mi} {pc : Nat} (d : decode mi.2.1 pc = .ok (.land, 1)) : PuOK mi pc (o_lop (fun x y => x &&& y)) := pu_lop (fun _ _ _ _ _ _ _ _ _ _ _ _ _ _ _ _ _ _ _ hx hb k => lv_land hx hb d k)
theorem ok_lor {mi : Mi} {pc : Nat} (d : decode mi.2.1 pc = .ok (.lor, 1)) : PuOK mi pc (o_lop (fun x y => x ||| y)) := pu_lop (fun _ _ _ _ _ _ _ _ _ _ _ _ _ _ _ _ _ _ _ hx hb k => lv_lor hx hb d k)
theorem pu_lcmp {mi : Mi} {pc : Nat}  (K : ∀ (p : Program) (l : Launch) (e : Env) (R : Room) (s : State) (m : MethodId) (args : Array Value) (below : List Frame) (meth : Method) (c : Code) (Q : State → Prop) (H : Heap) (locs : List Loc) (cells slots : Nat) (ls : Array Slot) (rest : List Value) (y : Int64) (x : Int64), p.tables.exec = Jvm.exec → c.code = mi.2.1 → W p l e R s m args below meth c H locs cells slots Q (F0 m (pc + 1) ls (.int (lg_cmp x y) :: rest)) → W p l e R s m args below meth c H locs cells slots Q (F0 m pc ls (.long y :: .long x :: rest))) : PuOK mi pc (o_lcmp) := by
  intro p l e R s m args below meth c Q hx hb hown hts L st A r h
  unfold o_lcmp at h
  split at h
  · next y x rest =>
    cases h
    exact ⟨_, _, _, rfl, fun H locs cells slots ls hl k => K _ _ _ _ _ _ _ _ _ _ _ _ _ _ _ _ _ y x hx hb (k ls hl)⟩
  · cases h
theorem ok_lcmp {mi : Mi} {pc : Nat} (d : decode mi.2.1 pc = .ok (.lcmp, 1)) : PuOK mi pc o_lcmp := pu_lcmp (fun _ _ _ _ _ _ _ _ _ _ _ _ _ _ _ _ _ _ _ hx hb k => W.lcmp hx hb d k)
theorem pu_fcmp {mi : Mi} {pc : Nat} {op : CmpOp} (K : ∀ (p : Program) (l : Launch) (e : Env) (R : Room) (s : State) (m : MethodId) (args : Array Value) (below : List Frame) (meth : Method) (c : Code) (Q : State → Prop) (H : Heap) (locs : List Loc) (cells slots : Nat) (ls : Array Slot) (rest : List Value) (y : UInt32) (x : UInt32), p.tables.exec = Jvm.exec → c.code = mi.2.1 → W p l e R s m args below meth c H locs cells slots Q (F0 m (pc + 1) ls (.int (Op.cmpValue (FP.fcmp x y) op) :: rest)) → W p l e R s m args below meth c H locs cells slots Q (F0 m pc ls (.float y :: .float x :: rest))) : PuOK mi pc (o_fcmp op) := by
  intro p l e R s m args below meth c Q hx hb hown hts L st A r h
  unfold o_fcmp at h
  split at h
  · next y x rest =>
    cases h
    exact ⟨_, _, _, rfl, fun H locs cells slots ls hl k => K _ _ _ _ _ _ _ _ _ _ _ _ _ _ _ _ _ y x hx hb (k ls hl)⟩
  · cases h
theorem ok_fcmp {mi : Mi} {pc : Nat} {op : CmpOp} (d : decode mi.2.1 pc = .ok (.fcmp op, 1)) : PuOK mi pc (o_fcmp op) := pu_fcmp (fun _ _ _ _ _ _ _ _ _ _ _ _ _ _ _ _ _ _ _ hx hb k => lv_fcmp hx hb d k)
theorem pu_dcmp {mi : Mi} {pc : Nat} {op : CmpOp} (K : ∀ (p : Program) (l : Launch) (e : Env) (R : Room) (s : State) (m : MethodId) (args : Array Value) (below : List Frame) (meth : Method) (c : Code) (Q : State → Prop) (H : Heap) (locs : List Loc) (cells slots : Nat) (ls : Array Slot) (rest : List Value) (y : UInt64) (x : UInt64), p.tables.exec = Jvm.exec → c.code = mi.2.1 → W p l e R s m args below meth c H locs cells slots Q (F0 m (pc + 1) ls (.int (Op.cmpValue (FP.dcmp x y) op) :: rest)) → W p l e R s m args below meth c H locs cells slots Q (F0 m pc ls (.double y :: .double x :: rest))) : PuOK mi pc (o_dcmp op) := by
  intro p l e R s m args below meth c Q hx hb hown hts L st A r h
  unfold o_dcmp at h
  split at h
  · next y x rest =>
    cases h
    exact ⟨_, _, _, rfl, fun H locs cells slots ls hl k => K _ _ _ _ _ _ _ _ _ _ _ _ _ _ _ _ _ y x hx hb (k ls hl)⟩
  · cases h
theorem ok_dcmp {mi : Mi} {pc : Nat} {op : CmpOp} (d : decode mi.2.1 pc = .ok (.dcmp op, 1)) : PuOK mi pc (o_dcmp op) := pu_dcmp (fun _ _ _ _ _ _ _ _ _ _ _ _ _ _ _ _ _ _ _ hx hb k => lv_dcmp hx hb d k)
theorem pu_ii {mi : Mi} {pc : Nat} {f : Int32 → Int32} (K : ∀ (p : Program) (l : Launch) (e : Env) (R : Room) (s : State) (m : MethodId) (args : Array Value) (below : List Frame) (meth : Method) (c : Code) (Q : State → Prop) (H : Heap) (locs : List Loc) (cells slots : Nat) (ls : Array Slot) (rest : List Value) (x : Int32), p.tables.exec = Jvm.exec → c.code = mi.2.1 → W p l e R s m args below meth c H locs cells slots Q (F0 m (pc + 1) ls (.int (f x) :: rest)) → W p l e R s m args below meth c H locs cells slots Q (F0 m pc ls (.int x :: rest))) : PuOK mi pc (o_ii f) := by
  intro p l e R s m args below meth c Q hx hb hown hts L st A r h
  unfold o_ii at h
  split at h
  · next x rest =>
    cases h
    exact ⟨_, _, _, rfl, fun H locs cells slots ls hl k => K _ _ _ _ _ _ _ _ _ _ _ _ _ _ _ _ _ x hx hb (k ls hl)⟩
  · cases h
theorem ok_ineg {mi : Mi} {pc : Nat} (d : decode mi.2.1 pc = .ok (.ineg, 1)) : PuOK mi pc (o_ii (fun x => -x)) := pu_ii (fun _ _ _ _ _ _ _ _ _ _ _ _ _ _ _ _ _ _ hx hb k => lv_ineg hx hb d k)
theorem ok_i2b {mi : Mi} {pc : Nat} (d : decode mi.2.1 pc = .ok (.i2b, 1)) : PuOK mi pc (o_ii (fun x => x.toInt8.toInt32)) := pu_ii (fun _ _ _ _ _ _ _ _ _ _ _ _ _ _ _ _ _ _ hx hb k => lv_i2b hx hb d rfl k)
theorem ok_i2c {mi : Mi} {pc : Nat} (d : decode mi.2.1 pc = .ok (.i2c, 1)) : PuOK mi pc (o_ii (fun x => (x.toUInt32 % 65536).toInt32)) := pu_ii (fun _ _ _ _ _ _ _ _ _ _ _ _ _ _ _ _ _ _ hx hb k => lv_i2c hx hb d rfl k)
theorem pu_i2l {mi : Mi} {pc : Nat}  (K : ∀ (p : Program) (l : Launch) (e : Env) (R : Room) (s : State) (m : MethodId) (args : Array Value) (below : List Frame) (meth : Method) (c : Code) (Q : State → Prop) (H : Heap) (locs : List Loc) (cells slots : Nat) (ls : Array Slot) (rest : List Value) (x : Int32), p.tables.exec = Jvm.exec → c.code = mi.2.1 → W p l e R s m args below meth c H locs cells slots Q (F0 m (pc + 1) ls (.long x.toInt64 :: rest)) → W p l e R s m args below meth c H locs cells slots Q (F0 m pc ls (.int x :: rest))) : PuOK mi pc (o_i2l) := by
  intro p l e R s m args below meth c Q hx hb hown hts L st A r h
  unfold o_i2l at h
  split at h
  · next x rest =>
    cases h
    exact ⟨_, _, _, rfl, fun H locs cells slots ls hl k => K _ _ _ _ _ _ _ _ _ _ _ _ _ _ _ _ _ x hx hb (k ls hl)⟩
  · cases h
theorem ok_i2l {mi : Mi} {pc : Nat} (d : decode mi.2.1 pc = .ok (.i2l, 1)) : PuOK mi pc o_i2l := pu_i2l (fun _ _ _ _ _ _ _ _ _ _ _ _ _ _ _ _ _ _ hx hb k => lv_i2l hx hb d rfl k)
theorem pu_i2f {mi : Mi} {pc : Nat}  (K : ∀ (p : Program) (l : Launch) (e : Env) (R : Room) (s : State) (m : MethodId) (args : Array Value) (below : List Frame) (meth : Method) (c : Code) (Q : State → Prop) (H : Heap) (locs : List Loc) (cells slots : Nat) (ls : Array Slot) (rest : List Value) (x : Int32), p.tables.exec = Jvm.exec → c.code = mi.2.1 → W p l e R s m args below meth c H locs cells slots Q (F0 m (pc + 1) ls (.float (FP.i2f x) :: rest)) → W p l e R s m args below meth c H locs cells slots Q (F0 m pc ls (.int x :: rest))) : PuOK mi pc (o_i2f) := by
  intro p l e R s m args below meth c Q hx hb hown hts L st A r h
  unfold o_i2f at h
  split at h
  · next x rest =>
    cases h
    exact ⟨_, _, _, rfl, fun H locs cells slots ls hl k => K _ _ _ _ _ _ _ _ _ _ _ _ _ _ _ _ _ x hx hb (k ls hl)⟩
  · cases h
theorem ok_i2f {mi : Mi} {pc : Nat} (d : decode mi.2.1 pc = .ok (.i2f, 1)) : PuOK mi pc o_i2f := pu_i2f (fun _ _ _ _ _ _ _ _ _ _ _ _ _ _ _ _ _ _ hx hb k => lv_i2f hx hb d k)
theorem pu_i2d {mi : Mi} {pc : Nat}  (K : ∀ (p : Program) (l : Launch) (e : Env) (R : Room) (s : State) (m : MethodId) (args : Array Value) (below : List Frame) (meth : Method) (c : Code) (Q : State → Prop) (H : Heap) (locs : List Loc) (cells slots : Nat) (ls : Array Slot) (rest : List Value) (x : Int32), p.tables.exec = Jvm.exec → c.code = mi.2.1 → W p l e R s m args below meth c H locs cells slots Q (F0 m (pc + 1) ls (.double (FP.i2d x) :: rest)) → W p l e R s m args below meth c H locs cells slots Q (F0 m pc ls (.int x :: rest))) : PuOK mi pc (o_i2d) := by
  intro p l e R s m args below meth c Q hx hb hown hts L st A r h
  unfold o_i2d at h
  split at h
  · next x rest =>
    cases h
    exact ⟨_, _, _, rfl, fun H locs cells slots ls hl k => K _ _ _ _ _ _ _ _ _ _ _ _ _ _ _ _ _ x hx hb (k ls hl)⟩
  · cases h
theorem ok_i2d {mi : Mi} {pc : Nat} (d : decode mi.2.1 pc = .ok (.i2d, 1)) : PuOK mi pc o_i2d := pu_i2d (fun _ _ _ _ _ _ _ _ _ _ _ _ _ _ _ _ _ _ hx hb k => lv_i2d hx hb d k)
theorem pu_l2d {mi : Mi} {pc : Nat}  (K : ∀ (p : Program) (l : Launch) (e : Env) (R : Room) (s : State) (m : MethodId) (args : Array Value) (below : List Frame) (meth : Method) (c : Code) (Q : State → Prop) (H : Heap) (locs : List Loc) (cells slots : Nat) (ls : Array Slot) (rest : List Value) (x : Int64), p.tables.exec = Jvm.exec → c.code = mi.2.1 → W p l e R s m args below meth c H locs cells slots Q (F0 m (pc + 1) ls (.double (FP.l2d x) :: rest)) → W p l e R s m args below meth c H locs cells slots Q (F0 m pc ls (.long x :: rest))) : PuOK mi pc (o_l2d) := by
  intro p l e R s m args below meth c Q hx hb hown hts L st A r h
  unfold o_l2d at h
  split at h
  · next x rest =>
    cases h
    exact ⟨_, _, _, rfl, fun H locs cells slots ls hl k => K _ _ _ _ _ _ _ _ _ _ _ _ _ _ _ _ _ x hx hb (k ls hl)⟩
  · cases h
theorem ok_l2d {mi : Mi} {pc : Nat} (d : decode mi.2.1 pc = .ok (.l2d, 1)) : PuOK mi pc o_l2d := pu_l2d (fun _ _ _ _ _ _ _ _ _ _ _ _ _ _ _ _ _ _ hx hb k => lv_l2d hx hb d k)
theorem pu_f2d {mi : Mi} {pc : Nat}  (K : ∀ (p : Program) (l : Launch) (e : Env) (R : Room) (s : State) (m : MethodId) (args : Array Value) (below : List Frame) (meth : Method) (c : Code) (Q : State → Prop) (H : Heap) (locs : List Loc) (cells slots : Nat) (ls : Array Slot) (rest : List Value) (x : UInt32), p.tables.exec = Jvm.exec → c.code = mi.2.1 → vf_n64 (FP.f2d x) → W p l e R s m args below meth c H locs cells slots Q (F0 m (pc + 1) ls (.double (FP.f2d x) :: rest)) → W p l e R s m args below meth c H locs cells slots Q (F0 m pc ls (.float x :: rest))) : PuOK mi pc (o_f2d) := by
  intro p l e R s m args below meth c Q hx hb hown hts L st A r h
  unfold o_f2d at h
  split at h
  · next x rest =>
    obtain ⟨hg, h⟩ := gd_some h
    cases h
    exact ⟨_, _, _, rfl, fun H locs cells slots ls hl k => K _ _ _ _ _ _ _ _ _ _ _ _ _ _ _ _ _ x hx hb (b_n64_spec hg) (k ls hl)⟩
  · cases h
theorem ok_f2d {mi : Mi} {pc : Nat} (d : decode mi.2.1 pc = .ok (.f2d, 1)) : PuOK mi pc o_f2d := pu_f2d (fun _ _ _ _ _ _ _ _ _ _ _ _ _ _ _ _ _ _ hx hb h0 k => lv_f2d hx hb d h0 k)
theorem pu_fdiv {mi : Mi} {pc : Nat}  (K : ∀ (p : Program) (l : Launch) (e : Env) (R : Room) (s : State) (m : MethodId) (args : Array Value) (below : List Frame) (meth : Method) (c : Code) (Q : State → Prop) (H : Heap) (locs : List Loc) (cells slots : Nat) (ls : Array Slot) (rest : List Value) (y : UInt32) (x : UInt32), p.tables.exec = Jvm.exec → c.code = mi.2.1 → vf_n32 (FP.fdiv x y) → W p l e R s m args below meth c H locs cells slots Q (F0 m (pc + 1) ls (.float (FP.fdiv x y) :: rest)) → W p l e R s m args below meth c H locs cells slots Q (F0 m pc ls (.float y :: .float x :: rest))) : PuOK mi pc (o_fdiv) := by
  intro p l e R s m args below meth c Q hx hb hown hts L st A r h
  unfold o_fdiv at h
  split at h
  · next y x rest =>
    obtain ⟨hg, h⟩ := gd_some h
    cases h
    exact ⟨_, _, _, rfl, fun H locs cells slots ls hl k => K _ _ _ _ _ _ _ _ _ _ _ _ _ _ _ _ _ y x hx hb (b_n32_spec hg) (k ls hl)⟩
  · cases h
theorem ok_fdiv {mi : Mi} {pc : Nat} (d : decode mi.2.1 pc = .ok (.fdiv, 1)) : PuOK mi pc o_fdiv := pu_fdiv (fun _ _ _ _ _ _ _ _ _ _ _ _ _ _ _ _ _ _ _ hx hb h0 k => lv_fdiv hx hb d h0 k)
theorem pu_ddiv {mi : Mi} {pc : Nat}  (K : ∀ (p : Program) (l : Launch) (e : Env) (R : Room) (s : State) (m : MethodId) (args : Array Value) (below : List Frame) (meth : Method) (c : Code) (Q : State → Prop) (H : Heap) (locs : List Loc) (cells slots : Nat) (ls : Array Slot) (rest : List Value) (y : UInt64) (x : UInt64), p.tables.exec = Jvm.exec → c.code = mi.2.1 → vf_n64 (FP.ddiv x y) → W p l e R s m args below meth c H locs cells slots Q (F0 m (pc + 1) ls (.double (FP.ddiv x y) :: rest)) → W p l e R s m args below meth c H locs cells slots Q (F0 m pc ls (.double y :: .double x :: rest))) : PuOK mi pc (o_ddiv) := by
  intro p l e R s m args below meth c Q hx hb hown hts L st A r h
  unfold o_ddiv at h
  split at h
  · next y x rest =>
    obtain ⟨hg, h⟩ := gd_some h
    cases h
    exact ⟨_, _, _, rfl, fun H locs cells slots ls hl k => K _ _ _ _ _ _ _ _ _ _ _ _ _ _ _ _ _ y x hx hb (b_n64_spec hg) (k ls hl)⟩
  · cases h
theorem ok_ddiv {mi : Mi} {pc : Nat} (d : decode mi.2.1 pc = .ok (.ddiv, 1)) : PuOK mi pc o_ddiv := pu_ddiv (fun _ _ _ _ _ _ _ _ _ _ _ _ _ _ _ _ _ _ _ hx hb h0 k => lv_ddiv hx hb d h0 k)
theorem pu_if {mi : Mi} {pc tgt : Nat} {t : Int32 → Bool} (K : ∀ (p : Program) (l : Launch) (e : Env) (R : Room) (s : State) (m : MethodId) (args : Array Value) (below : List Frame) (meth : Method) (c : Code) (Q : State → Prop) (H : Heap) (locs : List Loc) (cells slots : Nat) (ls : Array Slot) (rest : List Value) (x : Int32), p.tables.exec = Jvm.exec → c.code = mi.2.1 → (t x = true → W p l e R s m args below meth c H locs cells slots Q (F0 m tgt ls rest)) → (t x = false → W p l e R s m args below meth c H locs cells slots Q (F0 m (pc + 3) ls rest)) → W p l e R s m args below meth c H locs cells slots Q (F0 m pc ls (.int x :: rest))) : PuOK mi pc (o_if t tgt) := by
  intro p l e R s m args below meth c Q hx hb hown hts L st A r h
  unfold o_if at h
  split at h
  · next x rest =>
    cases h
    exact ⟨_, _, _, rfl, fun H locs cells slots ls hl k => K _ _ _ _ _ _ _ _ _ _ _ _ _ _ _ _ _ x hx hb (fun q => by have := k ls hl; rw [q] at this; exact this) (fun q => by have := k ls hl; rw [q] at this; exact this)⟩
  · cases h
theorem pu_icmp {mi : Mi} {pc tgt : Nat} {t : Int32 → Int32 → Bool} (K : ∀ (p : Program) (l : Launch) (e : Env) (R : Room) (s : State) (m : MethodId) (args : Array Value) (below : List Frame) (meth : Method) (c : Code) (Q : State → Prop) (H : Heap) (locs : List Loc) (cells slots : Nat) (ls : Array Slot) (rest : List Value) (y : Int32) (x : Int32), p.tables.exec = Jvm.exec → c.code = mi.2.1 → (t x y = true → W p l e R s m args below meth c H locs cells slots Q (F0 m tgt ls rest)) → (t x y = false → W p l e R s m args below meth c H locs cells slots Q (F0 m (pc + 3) ls rest)) → W p l e R s m args below meth c H locs cells slots Q (F0 m pc ls (.int y :: .int x :: rest))) : PuOK mi pc (o_icmp t tgt) := by
  intro p l e R s m args below meth c Q hx hb hown hts L st A r h
  unfold o_icmp at h
  split at h
  · next y x rest =>
    cases h
    exact ⟨_, _, _, rfl, fun H locs cells slots ls hl k => K _ _ _ _ _ _ _ _ _ _ _ _ _ _ _ _ _ y x hx hb (fun q => by have := k ls hl; rw [q] at this; exact this) (fun q => by have := k ls hl; rw [q] at this; exact this)⟩
  · cases h
theorem ok_if_eq {mi : Mi} {pc tgt : Nat} {off : Int} (d : decode mi.2.1 pc = .ok (.ifCond .eq off, 3)) (ht : (pc : Int) + off = (tgt : Int)) : PuOK mi pc (o_if (fun x => decide (x = 0)) tgt) := pu_if (fun _ _ _ _ _ _ _ _ _ _ _ _ _ _ _ _ _ _ hx hb k1 k2 => lv_if_eq hx hb d ht (fun q => k1 (decide_eq_true q)) (fun q => k2 (decide_eq_false q)))
theorem ok_icmp_eq {mi : Mi} {pc tgt : Nat} {off : Int} (d : decode mi.2.1 pc = .ok (.if_icmp .eq off, 3)) (ht : (pc : Int) + off = (tgt : Int)) : PuOK mi pc (o_icmp (fun x y => decide (x = y)) tgt) := pu_icmp (fun _ _ _ _ _ _ _ _ _ _ _ _ _ _ _ _ _ _ _ hx hb k1 k2 => lv_icmp_eq hx hb d ht (fun q => k1 (decide_eq_true q)) (fun q => k2 (decide_eq_false q)))
theorem ok_if_ne {mi : Mi} {pc tgt : Nat} {off : Int} (d : decode mi.2.1 pc = .ok (.ifCond .ne off, 3)) (ht : (pc : Int) + off = (tgt : Int)) : PuOK mi pc (o_if (fun x => decide (¬ x = 0)) tgt) := pu_if (fun _ _ _ _ _ _ _ _ _ _ _ _ _ _ _ _ _ _ hx hb k1 k2 => lv_if_ne hx hb d ht (fun q => k1 (decide_eq_true q)) (fun q => k2 (decide_eq_false (fun z => z q))))
theorem ok_icmp_ne {mi : Mi} {pc tgt : Nat} {off : Int} (d : decode mi.2.1 pc = .ok (.if_icmp .ne off, 3)) (ht : (pc : Int) + off = (tgt : Int)) : PuOK mi pc (o_icmp (fun x y => decide (¬ x = y)) tgt) := pu_icmp (fun _ _ _ _ _ _ _ _ _ _ _ _ _ _ _ _ _ _ _ hx hb k1 k2 => lv_icmp_ne hx hb d ht (fun q => k1 (decide_eq_true q)) (fun q => k2 (decide_eq_false (fun z => z q))))
theorem ok_if_lt {mi : Mi} {pc tgt : Nat} {off : Int} (d : decode mi.2.1 pc = .ok (.ifCond .lt off, 3)) (ht : (pc : Int) + off = (tgt : Int)) : PuOK mi pc (o_if (fun x => decide (x < 0)) tgt) := pu_if (fun _ _ _ _ _ _ _ _ _ _ _ _ _ _ _ _ _ _ hx hb k1 k2 => lv_if_lt hx hb d ht (fun q => k1 (decide_eq_true q)) (fun q => k2 (decide_eq_false q)))
theorem ok_icmp_lt {mi : Mi} {pc tgt : Nat} {off : Int} (d : decode mi.2.1 pc = .ok (.if_icmp .lt off, 3)) (ht : (pc : Int) + off = (tgt : Int)) : PuOK mi pc (o_icmp (fun x y => decide (x < y)) tgt) := pu_icmp (fun _ _ _ _ _ _ _ _ _ _ _ _ _ _ _ _ _ _ _ hx hb k1 k2 => lv_icmp_lt hx hb d ht (fun q => k1 (decide_eq_true q)) (fun q => k2 (decide_eq_false q)))
theorem ok_if_ge {mi : Mi} {pc tgt : Nat} {off : Int} (d : decode mi.2.1 pc = .ok (.ifCond .ge off, 3)) (ht : (pc : Int) + off = (tgt : Int)) : PuOK mi pc (o_if (fun x => decide (0 ≤ x)) tgt) := pu_if (fun _ _ _ _ _ _ _ _ _ _ _ _ _ _ _ _ _ _ hx hb k1 k2 => lv_if_ge hx hb d ht (fun q => k1 (decide_eq_true q)) (fun q => k2 (decide_eq_false q)))
theorem ok_icmp_ge {mi : Mi} {pc tgt : Nat} {off : Int} (d : decode mi.2.1 pc = .ok (.if_icmp .ge off, 3)) (ht : (pc : Int) + off = (tgt : Int)) : PuOK mi pc (o_icmp (fun x y => decide (y ≤ x)) tgt) := pu_icmp (fun _ _ _ _ _ _ _ _ _ _ _ _ _ _ _ _ _ _ _ hx hb k1 k2 => lv_icmp_ge hx hb d ht (fun q => k1 (decide_eq_true q)) (fun q => k2 (decide_eq_false q)))
theorem ok_if_gt {mi : Mi} {pc tgt : Nat} {off : Int} (d : decode mi.2.1 pc = .ok (.ifCond .gt off, 3)) (ht : (pc : Int) + off = (tgt : Int)) : PuOK mi pc (o_if (fun x => decide (0 < x)) tgt) := pu_if (fun _ _ _ _ _ _ _ _ _ _ _ _ _ _ _ _ _ _ hx hb k1 k2 => lv_if_gt hx hb d ht (fun q => k1 (decide_eq_true q)) (fun q => k2 (decide_eq_false q)))
theorem ok_icmp_gt {mi : Mi} {pc tgt : Nat} {off : Int} (d : decode mi.2.1 pc = .ok (.if_icmp .gt off, 3)) (ht : (pc : Int) + off = (tgt : Int)) : PuOK mi pc (o_icmp (fun x y => decide (y < x)) tgt) := pu_icmp (fun _ _ _ _ _ _ _ _ _ _ _ _ _ _ _ _ _ _ _ hx hb k1 k2 => lv_icmp_gt hx hb d ht (fun q => k1 (decide_eq_true q)) (fun q => k2 (decide_eq_false q)))
theorem ok_if_le {mi : Mi} {pc tgt : Nat} {off : Int} (d : decode mi.2.1 pc = .ok (.ifCond .le off, 3)) (ht : (pc : Int) + off = (tgt : Int)) : PuOK mi pc (o_if (fun x => decide (x ≤ 0)) tgt) := pu_if (fun _ _ _ _ _ _ _ _ _ _ _ _ _ _ _ _ _ _ hx hb k1 k2 => lv_if_le hx hb d ht (fun q => k1 (decide_eq_true q)) (fun q => k2 (decide_eq_false q)))
theorem ok_icmp_le {mi : Mi} {pc tgt : Nat} {off : Int} (d : decode mi.2.1 pc = .ok (.if_icmp .le off, 3)) (ht : (pc : Int) + off = (tgt : Int)) : PuOK mi pc (o_icmp (fun x y => decide (x ≤ y)) tgt) := pu_icmp (fun _ _ _ _ _ _ _ _ _ _ _ _ _ _ _ _ _ _ _ hx hb k1 k2 => lv_icmp_le hx hb d ht (fun q => k1 (decide_eq_true q)) (fun q => k2 (decide_eq_false q)))
theorem ok_ifnull {mi : Mi} {pc tgt : Nat} {off : Int} (d : decode mi.2.1 pc = .ok (.ifnull off, 3)) (ht : (pc : Int) + off = (tgt : Int)) : PuOK mi pc (o_ifnull tgt) := by
  intro p l e R s m args below meth c Q hx hb hown hts L st A r h
  unfold o_ifnull at h
  split at h
  · cases h
    exact ⟨_, _, _, rfl, fun H locs cells slots ls hl k => lv_ifnullN hx hb d ht (k ls hl)⟩
  · cases h
    exact ⟨_, _, _, rfl, fun H locs cells slots ls hl k => lv_ifnull hx hb d (k ls hl)⟩
  · cases h
theorem ok_ifnonnull {mi : Mi} {pc tgt : Nat} {off : Int} (d : decode mi.2.1 pc = .ok (.ifnonnull off, 3)) (ht : (pc : Int) + off = (tgt : Int)) : PuOK mi pc (o_ifnonnull tgt) := by
  intro p l e R s m args below meth c Q hx hb hown hts L st A r h
  unfold o_ifnonnull at h
  split at h
  · cases h
    exact ⟨_, _, _, rfl, fun H locs cells slots ls hl k => lv_ifnonnullN hx hb d (k ls hl)⟩
  · cases h
    exact ⟨_, _, _, rfl, fun H locs cells slots ls hl k => lv_ifnonnull hx hb d ht (k ls hl)⟩
  · cases h
theorem rfo_some {v : Value} {a : Option Nat} (h : rfo v = some a) : v = va_rf a := by
  cases v <;> first | (cases h; rfl) | cases h
theorem pu_acmp {mi : Mi} {pc tgt : Nat} {eq : Bool} (K : ∀ (p : Program) (l : Launch) (e : Env) (R : Room) (s : State) (m : MethodId) (args : Array Value) (below : List Frame) (meth : Method) (c : Code) (Q : State → Prop) (H : Heap) (locs : List Loc) (cells slots : Nat) (ls : Array Slot) (rest : List Value) (b a : Option Nat), p.tables.exec = Jvm.exec → c.code = mi.2.1 → ((decide (a = b) == eq) = true → W p l e R s m args below meth c H locs cells slots Q (F0 m tgt ls rest)) → ((decide (a = b) == eq) = false → W p l e R s m args below meth c H locs cells slots Q (F0 m (pc + 3) ls rest)) → W p l e R s m args below meth c H locs cells slots Q (F0 m pc ls (va_rf b :: va_rf a :: rest))) : PuOK mi pc (o_acmp eq tgt) := by
  intro p l e R s m args below meth c Q hx hb hown hts L st A r h
  unfold o_acmp at h
  split at h
  · next y x rest =>
    obtain ⟨a, ha, h⟩ := Option.bind_eq_some_iff.mp h
    obtain ⟨b, hb9, h⟩ := Option.bind_eq_some_iff.mp h
    cases h
    have e1 := rfo_some ha
    have e2 := rfo_some hb9
    subst e1; subst e2
    exact ⟨_, _, _, rfl, fun H locs cells slots ls hl k => K _ _ _ _ _ _ _ _ _ _ _ _ _ _ _ _ _ b a hx hb (fun q => by have := k ls hl; rw [q] at this; exact this) (fun q => by have := k ls hl; rw [q] at this; exact this)⟩
  · cases h
theorem ok_acmp_eq {mi : Mi} {pc tgt : Nat} {off : Int} (d : decode mi.2.1 pc = .ok (.if_acmp .eq off, 3)) (ht : (pc : Int) + off = (tgt : Int)) : PuOK mi pc (o_acmp true tgt) := pu_acmp (fun _ _ _ _ _ _ _ _ _ _ _ _ _ _ _ _ _ _ _ hx hb k1 k2 => lv_acmp_eq hx hb d ht (fun q => k1 (by rw [decide_eq_true q]; rfl)) (fun q => k2 (by rw [decide_eq_false q]; rfl)))
theorem ok_acmp_ne {mi : Mi} {pc tgt : Nat} {off : Int} (d : decode mi.2.1 pc = .ok (.if_acmp .ne off, 3)) (ht : (pc : Int) + off = (tgt : Int)) : PuOK mi pc (o_acmp false tgt) := pu_acmp (fun _ _ _ _ _ _ _ _ _ _ _ _ _ _ _ _ _ _ _ hx hb k1 k2 => lv_acmp_ne hx hb d ht (fun q => k1 (by rw [decide_eq_false q]; rfl)) (fun q => k2 (by rw [decide_eq_true q]; rfl)))
theorem ok_goto {mi : Mi} {pc tgt : Nat} {off : Int} (d : decode mi.2.1 pc = .ok (.goto off, 3)) (ht : (pc : Int) + off = (tgt : Int)) : PuOK mi pc (o_goto tgt) := by
  intro p l e R s m args below meth c Q hx hb hown hts L st A r h
  cases h
  exact ⟨_, _, _, rfl, fun H locs cells slots ls hl k => lv_goto hx hb d ht (k ls hl)⟩
theorem pu_sw {mi : Mi} {pc : Nat} {f : Int32 → Nat} (K : ∀ (p : Program) (l : Launch) (e : Env) (R : Room) (s : State) (m : MethodId) (args : Array Value) (below : List Frame) (meth : Method) (c : Code) (Q : State → Prop) (H : Heap) (locs : List Loc) (cells slots : Nat) (ls : Array Slot) (rest : List Value) (x : Int32), p.tables.exec = Jvm.exec → c.code = mi.2.1 → W p l e R s m args below meth c H locs cells slots Q (F0 m (f x) ls rest) → W p l e R s m args below meth c H locs cells slots Q (F0 m pc ls (.int x :: rest))) : PuOK mi pc (o_sw f) := by
  intro p l e R s m args below meth c Q hx hb hown hts L st A r h
  unfold o_sw at h
  split at h
  · next x rest =>
    cases h
    exact ⟨_, _, _, rfl, fun H locs cells slots ls hl k => K _ _ _ _ _ _ _ _ _ _ _ _ _ _ _ _ _ x hx hb (k ls hl)⟩
  · cases h
/-- the table's offsets, seen from pc, are the targets -/
def swOK (pc : Nat) (dflt lo hi : Int) (offs : Array Int) (ts : List Nat) (df : Nat) : Bool := decide ((pc : Int) + dflt = (df : Int)) && (decide (hi - lo + 1 = (ts.length : Int)) && decide (offs.toList.map (fun o => (pc : Int) + o) = ts.map (fun t : Nat => (t : Int))))
theorem ok_tsw {mi : Mi} {pc len : Nat} {dflt lo hi : Int} {offs : Array Int} {ts : List Nat} {df : Nat} (d : decode mi.2.1 pc = .ok (.tableswitch dflt lo hi offs, len)) (h9 : swOK pc dflt lo hi offs ts df = true) : PuOK mi pc (o_sw (swt lo ts df)) := pu_sw (fun _ _ _ _ _ _ _ _ _ _ _ _ _ _ _ _ _ x hx hb k => by
  obtain ⟨h1, h2⟩ := (Bool.and_eq_true_iff).mp h9
  obtain ⟨h2, h3⟩ := (Bool.and_eq_true_iff).mp h2
  have h1 := of_decide_eq_true h1
  have h2 := of_decide_eq_true h2
  have h3 := of_decide_eq_true h3
  by_cases c1 : x.toInt < lo
  · have e : swt lo ts df x = df := if_pos c1
    rw [e] at k
    exact lv_tableOut hx hb d (Or.inl c1) h1 k
  · by_cases c2 : hi < x.toInt
    · have e : swt lo ts df x = df := by
        show (if x.toInt < lo then df else ts.getD (x.toInt - lo).toNat df) = df
        rw [if_neg c1, List.getD_eq_getElem?_getD, List.getElem?_eq_none (by omega)]
        rfl
      rw [e] at k
      exact lv_tableOut hx hb d (Or.inr c2) h1 k
    · have hlt : (x.toInt - lo).toNat < ts.length := by omega
      have e : swt lo ts df x = ts[(x.toInt - lo).toNat] := by
        show (if x.toInt < lo then df else ts.getD (x.toInt - lo).toNat df) = _
        rw [if_neg c1, List.getD_eq_getElem?_getD, List.getElem?_eq_getElem hlt]
        rfl
      have hlen : offs.toList.length = ts.length := by
        have := congrArg List.length h3
        rw [List.length_map, List.length_map] at this
        exact this
      have h5 : (offs.toList.map (fun o => (pc : Int) + o))[(x.toInt - lo).toNat]? = (ts.map (fun t : Nat => (t : Int)))[(x.toInt - lo).toNat]? := by rw [h3]
      have hlt2 : (x.toInt - lo).toNat < offs.toList.length := by omega
      rw [List.getElem?_map, List.getElem?_map, List.getElem?_eq_getElem hlt, List.getElem?_eq_getElem hlt2] at h5
      rw [e] at k
      exact lv_tableIn hx hb d c1 c2 (off := offs.toList[(x.toInt - lo).toNat]) (by rw [← Array.getElem?_toList]; exact List.getElem?_eq_getElem hlt2) (Option.some.inj h5) k)
theorem ok_dup {mi : Mi} {pc : Nat} (d : decode mi.2.1 pc = .ok (.dup, 1)) : PuOK mi pc o_dup := by
  intro p l e R s m args below meth c Q hx hb hown hts L st A r h
  unfold o_dup at h
  split at h
  · next a rest =>
    obtain ⟨hg, h⟩ := gd_some h
    cases h
    simp only [Bool.and_eq_true, c1, beq_iff_eq] at hg
    exact ⟨_, _, _, rfl, fun H locs cells slots ls hl k => lv_dup hx hb d hg (k ls hl)⟩
  · cases h
theorem ok_pop {mi : Mi} {pc : Nat} (d : decode mi.2.1 pc = .ok (.pop, 1)) : PuOK mi pc o_pop := by
  intro p l e R s m args below meth c Q hx hb hown hts L st A r h
  unfold o_pop at h
  split at h
  · next a rest =>
    obtain ⟨hg, h⟩ := gd_some h
    cases h
    simp only [Bool.and_eq_true, c1, beq_iff_eq] at hg
    exact ⟨_, _, _, rfl, fun H locs cells slots ls hl k => lv_pop hx hb d hg (k ls hl)⟩
  · cases h
theorem ok_dupx1 {mi : Mi} {pc : Nat} (d : decode mi.2.1 pc = .ok (.dup_x1, 1)) : PuOK mi pc o_dupx1 := by
  intro p l e R s m args below meth c Q hx hb hown hts L st A r h
  unfold o_dupx1 at h
  split at h
  · next a b rest =>
    obtain ⟨hg, h⟩ := gd_some h
    cases h
    simp only [Bool.and_eq_true, c1, beq_iff_eq] at hg
    exact ⟨_, _, _, rfl, fun H locs cells slots ls hl k => lv_dup_x1 hx hb d hg.1 hg.2 (k ls hl)⟩
  · cases h
theorem ok_dupx2 {mi : Mi} {pc : Nat} (d : decode mi.2.1 pc = .ok (.dup_x2, 1)) : PuOK mi pc o_dupx2 := by
  intro p l e R s m args below meth c Q hx hb hown hts L st A r h
  unfold o_dupx2 at h
  split at h
  · next a b c9 rest =>
    obtain ⟨hg, h⟩ := gd_some h
    cases h
    simp only [Bool.and_eq_true, c1, beq_iff_eq] at hg
    exact ⟨_, _, _, rfl, fun H locs cells slots ls hl k => lv_dup_x2 hx hb d hg.1 hg.2.1 hg.2.2 (k ls hl)⟩
  · cases h
theorem ok_dup2 {mi : Mi} {pc : Nat} (d : decode mi.2.1 pc = .ok (.dup2, 1)) : PuOK mi pc o_dup2 := by
  intro p l e R s m args below meth c Q hx hb hown hts L st A r h
  unfold o_dup2 at h
  split at h
  · next a b rest =>
    obtain ⟨hg, h⟩ := gd_some h
    cases h
    simp only [Bool.and_eq_true, c1, beq_iff_eq] at hg
    exact ⟨_, _, _, rfl, fun H locs cells slots ls hl k => lv_dup2_11 hx hb d hg.1 hg.2 (k ls hl)⟩
  · cases h
